set_option maxRecDepth 100000
theorem xor57 (x : Int32) : 0 ≤ x ^^^ nI 57 ↔ 0 ≤ x := by
  have key : ∀ y : Int32, 0 ≤ y ↔ y.toBitVec.msb = false := fun y => by
    rw [Int32.le_iff_toInt_le, ← Int32.toInt_toBitVec y]
    show (0 : Int) ≤ _ ↔ _
    rw [BitVec.msb_eq_toInt]
    simp
  rw [key, key, Int32.toBitVec_xor, BitVec.msb_xor, show (nI 57).toBitVec.msb = false by decide]
  simp
theorem cnOf_X (x : Int32) : nI 8 + (if 0 ≤ x ^^^ nI 57 then x - x / nI 57 * nI 57 else if x - x / nI 57 * nI 57 = 0 then x - x / nI 57 * nI 57 else x - x / nI 57 * nI 57 + nI 57) = nI (cnOf x) := by
  have h1 := rem57 x
  by_cases c : 0 ≤ x
  · rw [if_pos ((xor57 x).mpr c)]
    refine cnOf_a (Int32.le_iff_toInt_le.mpr ?_)
    have c : (0 : Int) ≤ x.toInt := Int32.le_iff_toInt_le.mp c
    rw [h1, if_pos c]
    show (0 : Int) ≤ _
    omega
  · rw [if_neg (fun q => c ((xor57 x).mp q))]
    by_cases c2 : x - x / nI 57 * nI 57 = 0
    · rw [if_pos c2]
      exact cnOf_a (by rw [c2]; decide)
    · rw [if_neg c2]
      refine cnOf_b (fun q => c2 ?_)
      have c : ¬ (0 : Int) ≤ x.toInt := fun q => c (Int32.le_iff_toInt_le.mpr q)
      have q : (0 : Int) ≤ (x - x / nI 57 * nI 57).toInt := Int32.le_iff_toInt_le.mp q
      rw [h1, if_neg c] at q
      refine Int32.toInt_inj.mp ?_
      rw [h1, if_neg c]
      show _ = (0 : Int)
      omega
set_option maxHeartbeats 4000000 in
theorem m_X1_init (l : Launch) (g : GG) (w v : GW) (ho : Nat) (x : Int32) (h0 : w ho = some (ob 0 [.null, .int (nI 0), .int (bI false), .int (bI false), .null, .null, .int (bI false), .null, .null, .null])) (hE0 : w g.2.2.2.1 = some (eO g 0 (fun _ => none))) : Met l yX1_init (ws_ yX1_init cX1_init 2 none) ({ frames := 8, cells := 10, slots := 2400, locals := 480 } : Room) (gP g [.ref ho, .int x] w v) (va_Qv (fun (w' : GW) => ∃ ad : Nat → Nat, ad 0 = ho ∧ RX g w' ad (initK x)) (gB g v) (gA g)) 10 2400 (gA g) := by
  refine gm_of (by decide) (Nat.le_of_ble_eq_true rfl) ?_
  intro p e s m below meth c ls C hnm h hl
  have C : Cx g p s m ([.ref ho, .int x] : List Value).toArray meth c cX1_init 2 RX1 none := C
  obtain ⟨hx, hb, hml, hown, hts, hr, hlk, hG⟩ := id C
  have hl : lv_has ls 2 [(0, .ref ho), (1, .int x)] := hl
  have hcn := cnOf_le x
  refine lv_aload_n hx hb dX1_init_0 rfl (lv_at hl 0 rfl) ?_
  refine W.objInit hx hb hown (hts _ q75) (hts _ q76) (hts _ q77) rfl (by rw [hml]; exact hl.1) rfl dX1_init_1 (Nat.le_of_ble_eq_true rfl) (Nat.le_of_ble_eq_true rfl) ?_
  refine W.eq (g2 := F0 m 4 ls []) rfl ?_
  refine lv_aload_n hx hb dX1_init_4 rfl (lv_at hl 0 rfl) ?_
  refine lv_iconst (v := bI true) hx hb dX1_init_5 (by decide) ?_
  refine gx_put C h h0 (Cn := RX1) (T := TX1) (N := 10) (x := .int (bI true)) rfl in_X1 tyX1 tyX1_ok nmX1 2 (by decide) q217 rfl rfl (bI_n _) (bI_f _) (Nat.le_of_ble_eq_true rfl) dX1_init_6 (fun H locs h => ?_)
  obtain ⟨w_1, ew_1⟩ : ∃ z_ : GW, z_ = gu w ho (ob 0 [.null, .int (nI 0), .int (bI true), .int (bI false), .null, .null, .int (bI false), .null, .null, .null]) := ⟨_, rfl⟩
  have h : SH g w_1 v s H locs := by rw [ew_1]; exact h
  have f_2 : w_1 ho = some (ob 0 [.null, .int (nI 0), .int (bI true), .int (bI false), .null, .null, .int (bI false), .null, .null, .null]) := by rw [ew_1]; exact gu_s
  have f_3 : w_1 g.2.2.2.1 = some (eO g 0 (fun _ => none)) := by rw [ew_1]; exact (gu_n (g_ne hE0 h0 (by simp))).trans hE0
  refine lv_aload_n hx hb dX1_init_9 rfl (lv_at hl 0 rfl) ?_
  refine lv_bipush (v := nI 30) hx hb dX1_init_10 (by decide) ?_
  refine gx_newa C h 1 (atype := .int) q103 (ty := .int) rfl rfl (N' := 30) (x := .inl (fun _ => 0)) (fun _ => rfl) (rfl) (Nat.le_of_ble_eq_true rfl) (Nat.le_of_ble_eq_true rfl) (Nat.le_of_ble_eq_true rfl) (Nat.le_of_ble_eq_true rfl) dX1_init_12 (fun aP H hn_4 hn_4v h => ?_)
  obtain ⟨w_5, ew_5⟩ : ∃ z_ : GW, z_ = gu w_1 aP (eI g 30 (fun _ => 0)) := ⟨_, rfl⟩
  have h : SH g w_5 v s H locs := by rw [ew_5]; exact h
  have f_6 : w_5 ho = some (ob 0 [.null, .int (nI 0), .int (bI true), .int (bI false), .null, .null, .int (bI false), .null, .null, .null]) := by rw [ew_5]; exact (gu_n (g_neN f_2 hn_4)).trans f_2
  have f_7 : w_5 g.2.2.2.1 = some (eO g 0 (fun _ => none)) := by rw [ew_5]; exact (gu_n (g_neN f_3 hn_4)).trans f_3
  have f_8 : w_5 aP = some (eI g 30 (fun _ => 0)) := by rw [ew_5]; exact gu_s
  refine gx_putF C h f_6 (Cn := RX1) (T := TX1) (N := 10) (x := .ref aP) rfl in_X1 tyX1 tyX1_ok nmX1 4 (by decide) q219 rfl rfl hnm rfl rfl (Nat.le_of_ble_eq_true rfl) dX1_init_14 (fun H locs h => ?_)
  obtain ⟨w_9, ew_9⟩ : ∃ z_ : GW, z_ = gu w_5 ho (ob 0 [.null, .int (nI 0), .int (bI true), .int (bI false), .ref aP, .null, .int (bI false), .null, .null, .null]) := ⟨_, rfl⟩
  have h : SH g w_9 v s H locs := by rw [ew_9]; exact h
  have f_10 : w_9 ho = some (ob 0 [.null, .int (nI 0), .int (bI true), .int (bI false), .ref aP, .null, .int (bI false), .null, .null, .null]) := by rw [ew_9]; exact gu_s
  have f_11 : w_9 g.2.2.2.1 = some (eO g 0 (fun _ => none)) := by rw [ew_9]; exact (gu_n (g_ne f_7 f_6 (by simp))).trans f_7
  have f_12 : w_9 aP = some (eI g 30 (fun _ => 0)) := by rw [ew_9]; exact (gu_n (Ne.symm (g_neN f_2 hn_4))).trans f_8
  refine lv_aload_n hx hb dX1_init_17 rfl (lv_at hl 0 rfl) ?_
  refine lv_bipush (v := nI 64) hx hb dX1_init_18 (by decide) ?_
  refine gx_newq C h 4 q78 hG.2.2.2.1.1 rfl (N' := 64) (rfl) (Nat.le_of_ble_eq_true rfl) (Nat.le_of_ble_eq_true rfl) (Nat.le_of_ble_eq_true rfl) dX1_init_20 (fun aL H hn_13 hn_13v h => ?_)
  obtain ⟨w_14, ew_14⟩ : ∃ z_ : GW, z_ = gu w_9 aL (eS g 64 (fun _ => none)) := ⟨_, rfl⟩
  have h : SH g w_14 v s H locs := by rw [ew_14]; exact h
  have f_15 : w_14 ho = some (ob 0 [.null, .int (nI 0), .int (bI true), .int (bI false), .ref aP, .null, .int (bI false), .null, .null, .null]) := by rw [ew_14]; exact (gu_n (g_neN f_10 hn_13)).trans f_10
  have f_16 : w_14 g.2.2.2.1 = some (eO g 0 (fun _ => none)) := by rw [ew_14]; exact (gu_n (g_neN f_11 hn_13)).trans f_11
  have f_17 : w_14 aP = some (eI g 30 (fun _ => 0)) := by rw [ew_14]; exact (gu_n (g_neN f_12 hn_13)).trans f_12
  have f_18 : w_14 aL = some (eS g 64 (fun _ => none)) := by rw [ew_14]; exact gu_s
  refine gx_putF C h f_15 (Cn := RX1) (T := TX1) (N := 10) (x := .ref aL) rfl in_X1 tyX1 tyX1_ok nmX1 5 (by decide) q220 rfl rfl hnm rfl rfl (Nat.le_of_ble_eq_true rfl) dX1_init_23 (fun H locs h => ?_)
  obtain ⟨w_19, ew_19⟩ : ∃ z_ : GW, z_ = gu w_14 ho (ob 0 [.null, .int (nI 0), .int (bI true), .int (bI false), .ref aP, .ref aL, .int (bI false), .null, .null, .null]) := ⟨_, rfl⟩
  have h : SH g w_19 v s H locs := by rw [ew_19]; exact h
  have f_20 : w_19 ho = some (ob 0 [.null, .int (nI 0), .int (bI true), .int (bI false), .ref aP, .ref aL, .int (bI false), .null, .null, .null]) := by rw [ew_19]; exact gu_s
  have f_21 : w_19 g.2.2.2.1 = some (eO g 0 (fun _ => none)) := by rw [ew_19]; exact (gu_n (g_ne f_16 f_15 (by simp))).trans f_16
  have f_22 : w_19 aP = some (eI g 30 (fun _ => 0)) := by rw [ew_19]; exact (gu_n (Ne.symm (g_neN f_2 hn_4))).trans f_17
  have f_23 : w_19 aL = some (eS g 64 (fun _ => none)) := by rw [ew_19]; exact (gu_n (Ne.symm (g_neN f_10 hn_13))).trans f_18
  refine lv_aload_n hx hb dX1_init_26 rfl (lv_at hl 0 rfl) ?_
  refine gx_new C h (ci := 5) (fs := [.null, .int (nI 0), .int (nI 0)]) (Cn := RJ1) (T := TJ1) (N := 3) rfl in_J1 tyJ1 tyJ1_ok q80 q81 q45 (fun j hj => by rcases (show j = 0 ∨ j = 1 ∨ j = 2 by omega) with rfl | rfl | rfl <;> rfl) (Nat.le_of_ble_eq_true rfl) (Nat.le_of_ble_eq_true rfl) dX1_init_27 (fun aW H hn_24 hn_24v h => ?_)
  obtain ⟨w_25, ew_25⟩ : ∃ z_ : GW, z_ = gu w_19 aW (ob 5 [.null, .int (nI 0), .int (nI 0)]) := ⟨_, rfl⟩
  have h : SH g w_25 v s H locs := by rw [ew_25]; exact h
  have f_26 : w_25 ho = some (ob 0 [.null, .int (nI 0), .int (bI true), .int (bI false), .ref aP, .ref aL, .int (bI false), .null, .null, .null]) := by rw [ew_25]; exact (gu_n (g_neN f_20 hn_24)).trans f_20
  have f_27 : w_25 g.2.2.2.1 = some (eO g 0 (fun _ => none)) := by rw [ew_25]; exact (gu_n (g_neN f_21 hn_24)).trans f_21
  have f_28 : w_25 aP = some (eI g 30 (fun _ => 0)) := by rw [ew_25]; exact (gu_n (g_neN f_22 hn_24)).trans f_22
  have f_29 : w_25 aL = some (eS g 64 (fun _ => none)) := by rw [ew_25]; exact (gu_n (g_neN f_23 hn_24)).trans f_23
  have f_30 : w_25 aW = some (ob 5 [.null, .int (nI 0), .int (nI 0)]) := by rw [ew_25]; exact gu_s
  refine lv_dup hx hb dX1_init_30 rfl ?_
  refine gc_v (va_runI (As := []) (rest := [.ref aW, .ref ho]) C.fix (m_J1_init l g w_25 v aW f_30) (cwI 0 hts (lw_meth q84) rfl rfl rfl (hts _ q45) (hts _ q82) (hts _ q83) rfl (by decide +kernel) ⟨Nat.le_of_ble_eq_true rfl, Nat.le_of_ble_eq_true rfl⟩) (gp_S C h _) rfl rfl hl.1 rfl (lv_room (Nat.le_of_ble_eq_true rfl)) dX1_init_31 ⟨Nat.le_of_ble_eq_true rfl, Nat.le_of_ble_eq_true rfl⟩) h (fun w_32 H locs hpaW h => ?_)
  obtain ⟨wE, wE1, wE2, hpaW⟩ := hpaW
  obtain ⟨wm_33, ewm_33⟩ : ∃ z_ : GW, z_ = gu w_25 wE (eO g 17 (fun _ => none)) := ⟨_, rfl⟩
  rw [← ewm_33] at hpaW
  have f_34 : wm_33 ho = some (ob 0 [.null, .int (nI 0), .int (bI true), .int (bI false), .ref aP, .ref aL, .int (bI false), .null, .null, .null]) := by rw [ewm_33]; exact (gu_n (g_neN f_26 wE1)).trans f_26
  have f_35 : wm_33 g.2.2.2.1 = some (eO g 0 (fun _ => none)) := by rw [ewm_33]; exact (gu_n (g_neN f_27 wE1)).trans f_27
  have f_36 : wm_33 aP = some (eI g 30 (fun _ => 0)) := by rw [ewm_33]; exact (gu_n (g_neN f_28 wE1)).trans f_28
  have f_37 : wm_33 aL = some (eS g 64 (fun _ => none)) := by rw [ewm_33]; exact (gu_n (g_neN f_29 wE1)).trans f_29
  have f_38 : wm_33 aW = some (ob 5 [.null, .int (nI 0), .int (nI 0)]) := by rw [ewm_33]; exact (gu_n (g_neN f_30 wE1)).trans f_30
  have f_39 : wm_33 wE = some (eO g 17 (fun _ => none)) := by rw [ewm_33]; exact gu_s
  have ew_40 : w_32 = gu wm_33 aW (ob 5 [.ref wE, .int (nI 0), .int (nI 0)]) := hpaW
  have f_41 : w_32 ho = some (ob 0 [.null, .int (nI 0), .int (bI true), .int (bI false), .ref aP, .ref aL, .int (bI false), .null, .null, .null]) := by rw [ew_40]; exact (gu_n (g_neN f_20 hn_24)).trans f_34
  have f_42 : w_32 g.2.2.2.1 = some (eO g 0 (fun _ => none)) := by rw [ew_40]; exact (gu_n (g_neN f_21 hn_24)).trans f_35
  have f_43 : w_32 aP = some (eI g 30 (fun _ => 0)) := by rw [ew_40]; exact (gu_n (g_neN f_22 hn_24)).trans f_36
  have f_44 : w_32 aL = some (eS g 64 (fun _ => none)) := by rw [ew_40]; exact (gu_n (g_neN f_23 hn_24)).trans f_37
  have f_45 : w_32 aW = some (ob 5 [.ref wE, .int (nI 0), .int (nI 0)]) := by rw [ew_40]; exact gu_s
  have f_46 : w_32 wE = some (eO g 17 (fun _ => none)) := by rw [ew_40]; exact (gu_n (Ne.symm (g_neN f_30 wE1))).trans f_39
  refine gx_putF C h f_41 (Cn := RX1) (T := TX1) (N := 10) (x := .ref aW) rfl in_X1 tyX1 tyX1_ok nmX1 7 (by decide) q222 rfl rfl hnm rfl rfl (Nat.le_of_ble_eq_true rfl) dX1_init_34 (fun H locs h => ?_)
  obtain ⟨w_47, ew_47⟩ : ∃ z_ : GW, z_ = gu w_32 ho (ob 0 [.null, .int (nI 0), .int (bI true), .int (bI false), .ref aP, .ref aL, .int (bI false), .ref aW, .null, .null]) := ⟨_, rfl⟩
  have h : SH g w_47 v s H locs := by rw [ew_47]; exact h
  have f_48 : w_47 ho = some (ob 0 [.null, .int (nI 0), .int (bI true), .int (bI false), .ref aP, .ref aL, .int (bI false), .ref aW, .null, .null]) := by rw [ew_47]; exact gu_s
  have f_49 : w_47 g.2.2.2.1 = some (eO g 0 (fun _ => none)) := by rw [ew_47]; exact (gu_n (g_ne f_42 f_41 (by simp))).trans f_42
  have f_50 : w_47 aP = some (eI g 30 (fun _ => 0)) := by rw [ew_47]; exact (gu_n (Ne.symm (g_neN f_2 hn_4))).trans f_43
  have f_51 : w_47 aL = some (eS g 64 (fun _ => none)) := by rw [ew_47]; exact (gu_n (Ne.symm (g_neN f_10 hn_13))).trans f_44
  have f_52 : w_47 aW = some (ob 5 [.ref wE, .int (nI 0), .int (nI 0)]) := by rw [ew_47]; exact (gu_n (Ne.symm (g_neN f_20 hn_24))).trans f_45
  have f_53 : w_47 wE = some (eO g 17 (fun _ => none)) := by rw [ew_47]; exact (gu_n (Ne.symm (g_neN f_26 wE1))).trans f_46
  refine lv_aload_n hx hb dX1_init_37 rfl (lv_at hl 0 rfl) ?_
  refine gx_new C h (ci := 5) (fs := [.null, .int (nI 0), .int (nI 0)]) (Cn := RJ1) (T := TJ1) (N := 3) rfl in_J1 tyJ1 tyJ1_ok q80 q81 q45 (fun j hj => by rcases (show j = 0 ∨ j = 1 ∨ j = 2 by omega) with rfl | rfl | rfl <;> rfl) (Nat.le_of_ble_eq_true rfl) (Nat.le_of_ble_eq_true rfl) dX1_init_38 (fun aS H hn_54 hn_54v h => ?_)
  obtain ⟨w_55, ew_55⟩ : ∃ z_ : GW, z_ = gu w_47 aS (ob 5 [.null, .int (nI 0), .int (nI 0)]) := ⟨_, rfl⟩
  have h : SH g w_55 v s H locs := by rw [ew_55]; exact h
  have f_56 : w_55 ho = some (ob 0 [.null, .int (nI 0), .int (bI true), .int (bI false), .ref aP, .ref aL, .int (bI false), .ref aW, .null, .null]) := by rw [ew_55]; exact (gu_n (g_neN f_48 hn_54)).trans f_48
  have f_57 : w_55 g.2.2.2.1 = some (eO g 0 (fun _ => none)) := by rw [ew_55]; exact (gu_n (g_neN f_49 hn_54)).trans f_49
  have f_58 : w_55 aP = some (eI g 30 (fun _ => 0)) := by rw [ew_55]; exact (gu_n (g_neN f_50 hn_54)).trans f_50
  have f_59 : w_55 aL = some (eS g 64 (fun _ => none)) := by rw [ew_55]; exact (gu_n (g_neN f_51 hn_54)).trans f_51
  have f_60 : w_55 aW = some (ob 5 [.ref wE, .int (nI 0), .int (nI 0)]) := by rw [ew_55]; exact (gu_n (g_neN f_52 hn_54)).trans f_52
  have f_61 : w_55 wE = some (eO g 17 (fun _ => none)) := by rw [ew_55]; exact (gu_n (g_neN f_53 hn_54)).trans f_53
  have f_62 : w_55 aS = some (ob 5 [.null, .int (nI 0), .int (nI 0)]) := by rw [ew_55]; exact gu_s
  refine lv_dup hx hb dX1_init_41 rfl ?_
  refine gc_v (va_runI (As := []) (rest := [.ref aS, .ref ho]) C.fix (m_J1_init l g w_55 v aS f_62) (cwI 0 hts (lw_meth q84) rfl rfl rfl (hts _ q45) (hts _ q82) (hts _ q83) rfl (by decide +kernel) ⟨Nat.le_of_ble_eq_true rfl, Nat.le_of_ble_eq_true rfl⟩) (gp_S C h _) rfl rfl hl.1 rfl (lv_room (Nat.le_of_ble_eq_true rfl)) dX1_init_42 ⟨Nat.le_of_ble_eq_true rfl, Nat.le_of_ble_eq_true rfl⟩) h (fun w_64 H locs hpaS h => ?_)
  obtain ⟨sE, sE1, sE2, hpaS⟩ := hpaS
  obtain ⟨wm_65, ewm_65⟩ : ∃ z_ : GW, z_ = gu w_55 sE (eO g 17 (fun _ => none)) := ⟨_, rfl⟩
  rw [← ewm_65] at hpaS
  have f_66 : wm_65 ho = some (ob 0 [.null, .int (nI 0), .int (bI true), .int (bI false), .ref aP, .ref aL, .int (bI false), .ref aW, .null, .null]) := by rw [ewm_65]; exact (gu_n (g_neN f_56 sE1)).trans f_56
  have f_67 : wm_65 g.2.2.2.1 = some (eO g 0 (fun _ => none)) := by rw [ewm_65]; exact (gu_n (g_neN f_57 sE1)).trans f_57
  have f_68 : wm_65 aP = some (eI g 30 (fun _ => 0)) := by rw [ewm_65]; exact (gu_n (g_neN f_58 sE1)).trans f_58
  have f_69 : wm_65 aL = some (eS g 64 (fun _ => none)) := by rw [ewm_65]; exact (gu_n (g_neN f_59 sE1)).trans f_59
  have f_70 : wm_65 aW = some (ob 5 [.ref wE, .int (nI 0), .int (nI 0)]) := by rw [ewm_65]; exact (gu_n (g_neN f_60 sE1)).trans f_60
  have f_71 : wm_65 wE = some (eO g 17 (fun _ => none)) := by rw [ewm_65]; exact (gu_n (g_neN f_61 sE1)).trans f_61
  have f_72 : wm_65 aS = some (ob 5 [.null, .int (nI 0), .int (nI 0)]) := by rw [ewm_65]; exact (gu_n (g_neN f_62 sE1)).trans f_62
  have f_73 : wm_65 sE = some (eO g 17 (fun _ => none)) := by rw [ewm_65]; exact gu_s
  have ew_74 : w_64 = gu wm_65 aS (ob 5 [.ref sE, .int (nI 0), .int (nI 0)]) := hpaS
  have f_75 : w_64 ho = some (ob 0 [.null, .int (nI 0), .int (bI true), .int (bI false), .ref aP, .ref aL, .int (bI false), .ref aW, .null, .null]) := by rw [ew_74]; exact (gu_n (g_neN f_48 hn_54)).trans f_66
  have f_76 : w_64 g.2.2.2.1 = some (eO g 0 (fun _ => none)) := by rw [ew_74]; exact (gu_n (g_neN f_49 hn_54)).trans f_67
  have f_77 : w_64 aP = some (eI g 30 (fun _ => 0)) := by rw [ew_74]; exact (gu_n (g_neN f_50 hn_54)).trans f_68
  have f_78 : w_64 aL = some (eS g 64 (fun _ => none)) := by rw [ew_74]; exact (gu_n (g_neN f_51 hn_54)).trans f_69
  have f_79 : w_64 aW = some (ob 5 [.ref wE, .int (nI 0), .int (nI 0)]) := by rw [ew_74]; exact (gu_n (g_neN f_52 hn_54)).trans f_70
  have f_80 : w_64 wE = some (eO g 17 (fun _ => none)) := by rw [ew_74]; exact (gu_n (g_neN f_53 hn_54)).trans f_71
  have f_81 : w_64 aS = some (ob 5 [.ref sE, .int (nI 0), .int (nI 0)]) := by rw [ew_74]; exact gu_s
  have f_82 : w_64 sE = some (eO g 17 (fun _ => none)) := by rw [ew_74]; exact (gu_n (Ne.symm (g_neN f_62 sE1))).trans f_73
  refine gx_putF C h f_75 (Cn := RX1) (T := TX1) (N := 10) (x := .ref aS) rfl in_X1 tyX1 tyX1_ok nmX1 8 (by decide) q223 rfl rfl hnm rfl rfl (Nat.le_of_ble_eq_true rfl) dX1_init_45 (fun H locs h => ?_)
  obtain ⟨w_83, ew_83⟩ : ∃ z_ : GW, z_ = gu w_64 ho (ob 0 [.null, .int (nI 0), .int (bI true), .int (bI false), .ref aP, .ref aL, .int (bI false), .ref aW, .ref aS, .null]) := ⟨_, rfl⟩
  have h : SH g w_83 v s H locs := by rw [ew_83]; exact h
  have f_84 : w_83 ho = some (ob 0 [.null, .int (nI 0), .int (bI true), .int (bI false), .ref aP, .ref aL, .int (bI false), .ref aW, .ref aS, .null]) := by rw [ew_83]; exact gu_s
  have f_85 : w_83 g.2.2.2.1 = some (eO g 0 (fun _ => none)) := by rw [ew_83]; exact (gu_n (g_ne f_76 f_75 (by simp))).trans f_76
  have f_86 : w_83 aP = some (eI g 30 (fun _ => 0)) := by rw [ew_83]; exact (gu_n (Ne.symm (g_neN f_2 hn_4))).trans f_77
  have f_87 : w_83 aL = some (eS g 64 (fun _ => none)) := by rw [ew_83]; exact (gu_n (Ne.symm (g_neN f_10 hn_13))).trans f_78
  have f_88 : w_83 aW = some (ob 5 [.ref wE, .int (nI 0), .int (nI 0)]) := by rw [ew_83]; exact (gu_n (Ne.symm (g_neN f_20 hn_24))).trans f_79
  have f_89 : w_83 wE = some (eO g 17 (fun _ => none)) := by rw [ew_83]; exact (gu_n (Ne.symm (g_neN f_26 wE1))).trans f_80
  have f_90 : w_83 aS = some (ob 5 [.ref sE, .int (nI 0), .int (nI 0)]) := by rw [ew_83]; exact (gu_n (Ne.symm (g_neN f_48 hn_54))).trans f_81
  have f_91 : w_83 sE = some (eO g 17 (fun _ => none)) := by rw [ew_83]; exact (gu_n (Ne.symm (g_neN f_56 sE1))).trans f_82
  refine lv_aload_n hx hb dX1_init_48 rfl (lv_at hl 0 rfl) ?_
  refine gx_new C h (ci := 6) (fs := [.int (nI 0), .null, .int (nI 0)]) (Cn := RJ3) (T := TJ3) (N := 3) rfl in_J3 tyJ3 tyJ3_ok q104 q105 q47 (fun j hj => by rcases (show j = 0 ∨ j = 1 ∨ j = 2 by omega) with rfl | rfl | rfl <;> rfl) (Nat.le_of_ble_eq_true rfl) (Nat.le_of_ble_eq_true rfl) dX1_init_49 (fun aK H hn_92 hn_92v h => ?_)
  obtain ⟨w_93, ew_93⟩ : ∃ z_ : GW, z_ = gu w_83 aK (ob 6 [.int (nI 0), .null, .int (nI 0)]) := ⟨_, rfl⟩
  have h : SH g w_93 v s H locs := by rw [ew_93]; exact h
  have f_94 : w_93 ho = some (ob 0 [.null, .int (nI 0), .int (bI true), .int (bI false), .ref aP, .ref aL, .int (bI false), .ref aW, .ref aS, .null]) := by rw [ew_93]; exact (gu_n (g_neN f_84 hn_92)).trans f_84
  have f_95 : w_93 g.2.2.2.1 = some (eO g 0 (fun _ => none)) := by rw [ew_93]; exact (gu_n (g_neN f_85 hn_92)).trans f_85
  have f_96 : w_93 aP = some (eI g 30 (fun _ => 0)) := by rw [ew_93]; exact (gu_n (g_neN f_86 hn_92)).trans f_86
  have f_97 : w_93 aL = some (eS g 64 (fun _ => none)) := by rw [ew_93]; exact (gu_n (g_neN f_87 hn_92)).trans f_87
  have f_98 : w_93 aW = some (ob 5 [.ref wE, .int (nI 0), .int (nI 0)]) := by rw [ew_93]; exact (gu_n (g_neN f_88 hn_92)).trans f_88
  have f_99 : w_93 wE = some (eO g 17 (fun _ => none)) := by rw [ew_93]; exact (gu_n (g_neN f_89 hn_92)).trans f_89
  have f_100 : w_93 aS = some (ob 5 [.ref sE, .int (nI 0), .int (nI 0)]) := by rw [ew_93]; exact (gu_n (g_neN f_90 hn_92)).trans f_90
  have f_101 : w_93 sE = some (eO g 17 (fun _ => none)) := by rw [ew_93]; exact (gu_n (g_neN f_91 hn_92)).trans f_91
  have f_102 : w_93 aK = some (ob 6 [.int (nI 0), .null, .int (nI 0)]) := by rw [ew_93]; exact gu_s
  refine lv_dup hx hb dX1_init_52 rfl ?_
  refine gc_v (va_runI (As := []) (rest := [.ref aK, .ref ho]) C.fix (m_J3_init l g w_93 v aK f_102) (cwI 0 hts (lw_meth q108) rfl rfl rfl (hts _ q47) (hts _ q106) (hts _ q107) rfl (by decide +kernel) ⟨Nat.le_of_ble_eq_true rfl, Nat.le_of_ble_eq_true rfl⟩) (gp_S C h _) rfl rfl hl.1 rfl (lv_room (Nat.le_of_ble_eq_true rfl)) dX1_init_53 ⟨Nat.le_of_ble_eq_true rfl, Nat.le_of_ble_eq_true rfl⟩) h (fun w_104 H locs hp h => ?_)
  have ew_105 : w_104 = gu w_93 aK (ob 6 [.int (nI 0), .ref g.2.2.2.1, .int (nI 0)]) := hp
  have f_106 : w_104 ho = some (ob 0 [.null, .int (nI 0), .int (bI true), .int (bI false), .ref aP, .ref aL, .int (bI false), .ref aW, .ref aS, .null]) := by rw [ew_105]; exact (gu_n (g_neN f_84 hn_92)).trans f_94
  have f_107 : w_104 g.2.2.2.1 = some (eO g 0 (fun _ => none)) := by rw [ew_105]; exact (gu_n (g_neN f_85 hn_92)).trans f_95
  have f_108 : w_104 aP = some (eI g 30 (fun _ => 0)) := by rw [ew_105]; exact (gu_n (g_neN f_86 hn_92)).trans f_96
  have f_109 : w_104 aL = some (eS g 64 (fun _ => none)) := by rw [ew_105]; exact (gu_n (g_neN f_87 hn_92)).trans f_97
  have f_110 : w_104 aW = some (ob 5 [.ref wE, .int (nI 0), .int (nI 0)]) := by rw [ew_105]; exact (gu_n (g_neN f_88 hn_92)).trans f_98
  have f_111 : w_104 wE = some (eO g 17 (fun _ => none)) := by rw [ew_105]; exact (gu_n (g_neN f_89 hn_92)).trans f_99
  have f_112 : w_104 aS = some (ob 5 [.ref sE, .int (nI 0), .int (nI 0)]) := by rw [ew_105]; exact (gu_n (g_neN f_90 hn_92)).trans f_100
  have f_113 : w_104 sE = some (eO g 17 (fun _ => none)) := by rw [ew_105]; exact (gu_n (g_neN f_91 hn_92)).trans f_101
  have f_114 : w_104 aK = some (ob 6 [.int (nI 0), .ref g.2.2.2.1, .int (nI 0)]) := by rw [ew_105]; exact gu_s
  refine gx_putF C h f_106 (Cn := RX1) (T := TX1) (N := 10) (x := .ref aK) rfl in_X1 tyX1 tyX1_ok nmX1 9 (by decide) q224 rfl rfl hnm rfl rfl (Nat.le_of_ble_eq_true rfl) dX1_init_56 (fun H locs h => ?_)
  obtain ⟨w_115, ew_115⟩ : ∃ z_ : GW, z_ = gu w_104 ho (ob 0 [.null, .int (nI 0), .int (bI true), .int (bI false), .ref aP, .ref aL, .int (bI false), .ref aW, .ref aS, .ref aK]) := ⟨_, rfl⟩
  have h : SH g w_115 v s H locs := by rw [ew_115]; exact h
  have f_116 : w_115 ho = some (ob 0 [.null, .int (nI 0), .int (bI true), .int (bI false), .ref aP, .ref aL, .int (bI false), .ref aW, .ref aS, .ref aK]) := by rw [ew_115]; exact gu_s
  have f_117 : w_115 g.2.2.2.1 = some (eO g 0 (fun _ => none)) := by rw [ew_115]; exact (gu_n (g_ne f_107 f_106 (by simp))).trans f_107
  have f_118 : w_115 aP = some (eI g 30 (fun _ => 0)) := by rw [ew_115]; exact (gu_n (Ne.symm (g_neN f_2 hn_4))).trans f_108
  have f_119 : w_115 aL = some (eS g 64 (fun _ => none)) := by rw [ew_115]; exact (gu_n (Ne.symm (g_neN f_10 hn_13))).trans f_109
  have f_120 : w_115 aW = some (ob 5 [.ref wE, .int (nI 0), .int (nI 0)]) := by rw [ew_115]; exact (gu_n (Ne.symm (g_neN f_20 hn_24))).trans f_110
  have f_121 : w_115 wE = some (eO g 17 (fun _ => none)) := by rw [ew_115]; exact (gu_n (Ne.symm (g_neN f_26 wE1))).trans f_111
  have f_122 : w_115 aS = some (ob 5 [.ref sE, .int (nI 0), .int (nI 0)]) := by rw [ew_115]; exact (gu_n (Ne.symm (g_neN f_48 hn_54))).trans f_112
  have f_123 : w_115 sE = some (eO g 17 (fun _ => none)) := by rw [ew_115]; exact (gu_n (Ne.symm (g_neN f_56 sE1))).trans f_113
  have f_124 : w_115 aK = some (ob 6 [.int (nI 0), .ref g.2.2.2.1, .int (nI 0)]) := by rw [ew_115]; exact (gu_n (Ne.symm (g_neN f_84 hn_92))).trans f_114
  refine lv_aload_n hx hb dX1_init_59 rfl (lv_at hl 0 rfl) ?_
  refine lv_bipush (v := nI 8) hx hb dX1_init_60 (by decide) ?_
  refine lv_iload_n hx hb dX1_init_62 rfl (lv_at hl 1 rfl) ?_
  refine lv_bipush (v := nI 57) hx hb dX1_init_63 (by decide) ?_
  refine gc_i (va_runS (As := [.int x, .int (nI 57)]) (rest := [.int (nI 8), .ref ho]) C.fix (m_J4_floorMod l g w_115 v x (nI 57) (by decide)) (va_cwS 2 hts (lw_S q130 q131 q48 q132) rfl rfl rfl (by decide +kernel) ⟨Nat.le_of_ble_eq_true rfl, Nat.le_of_ble_eq_true rfl⟩) (gp_S C h _) rfl rfl hl.1 rfl (lv_room (Nat.le_of_ble_eq_true rfl)) dX1_init_65 ⟨Nat.le_of_ble_eq_true rfl, Nat.le_of_ble_eq_true rfl⟩) h (fun r_125 w_126 H locs hp h => ?_)
  obtain ⟨er_r_125, ew_r_125⟩ := hp
  rw [er_r_125]
  rw [ew_r_125] at h
  refine lv_iadd hx hb dX1_init_68 ?_
  rw [cnOf_X x]
  refine gx_putF C h f_116 (Cn := RX1) (T := TX1) (N := 10) (x := .int (nI (cnOf x))) rfl in_X1 tyX1 tyX1_ok nmX1 1 (by decide) q216 rfl rfl hnm rfl rfl (Nat.le_of_ble_eq_true rfl) dX1_init_69 (fun H locs h => ?_)
  obtain ⟨w_127, ew_127⟩ : ∃ z_ : GW, z_ = gu w_115 ho (ob 0 [.null, .int (nI (cnOf x)), .int (bI true), .int (bI false), .ref aP, .ref aL, .int (bI false), .ref aW, .ref aS, .ref aK]) := ⟨_, rfl⟩
  have h : SH g w_127 v s H locs := by rw [ew_127]; exact h
  have f_128 : w_127 ho = some (ob 0 [.null, .int (nI (cnOf x)), .int (bI true), .int (bI false), .ref aP, .ref aL, .int (bI false), .ref aW, .ref aS, .ref aK]) := by rw [ew_127]; exact gu_s
  have f_129 : w_127 g.2.2.2.1 = some (eO g 0 (fun _ => none)) := by rw [ew_127]; exact (gu_n (g_ne f_117 f_116 (by simp))).trans f_117
  have f_130 : w_127 aP = some (eI g 30 (fun _ => 0)) := by rw [ew_127]; exact (gu_n (Ne.symm (g_neN f_2 hn_4))).trans f_118
  have f_131 : w_127 aL = some (eS g 64 (fun _ => none)) := by rw [ew_127]; exact (gu_n (Ne.symm (g_neN f_10 hn_13))).trans f_119
  have f_132 : w_127 aW = some (ob 5 [.ref wE, .int (nI 0), .int (nI 0)]) := by rw [ew_127]; exact (gu_n (Ne.symm (g_neN f_20 hn_24))).trans f_120
  have f_133 : w_127 wE = some (eO g 17 (fun _ => none)) := by rw [ew_127]; exact (gu_n (Ne.symm (g_neN f_26 wE1))).trans f_121
  have f_134 : w_127 aS = some (ob 5 [.ref sE, .int (nI 0), .int (nI 0)]) := by rw [ew_127]; exact (gu_n (Ne.symm (g_neN f_48 hn_54))).trans f_122
  have f_135 : w_127 sE = some (eO g 17 (fun _ => none)) := by rw [ew_127]; exact (gu_n (Ne.symm (g_neN f_56 sE1))).trans f_123
  have f_136 : w_127 aK = some (ob 6 [.int (nI 0), .ref g.2.2.2.1, .int (nI 0)]) := by rw [ew_127]; exact (gu_n (Ne.symm (g_neN f_84 hn_92))).trans f_124
  refine lv_aload_n hx hb dX1_init_72 rfl (lv_at hl 0 rfl) ?_
  refine lv_bipush (v := nI 32) hx hb dX1_init_73 (by decide) ?_
  refine lv_aload_n hx hb dX1_init_75 rfl (lv_at hl 0 rfl) ?_
  refine gx_get C h f_128 (Cn := RX1) (T := TX1) (N := 10) rfl in_X1 1 (by decide) q216 rfl rfl dX1_init_76 ?_
  refine gn_imul hx hb dX1_init_79 ?_
  refine gx_newa C h 0 (atype := .byte) q149 (ty := .byte) rfl rfl (N' := (32 * (cnOf x))) (x := .inl (fun j => ((fun _ => (0 : Int8)) j).toInt32)) (fun _ => rfl) (rfl) (by show 32 * cnOf x * 1 ≤ 536870912; omega) (by omega) (Nat.le_of_ble_eq_true rfl) (by show 137 + 32 * cnOf x ≤ 2400; omega) dX1_init_80 (fun aD H hn_137 hn_137v h => ?_)
  obtain ⟨w_138, ew_138⟩ : ∃ z_ : GW, z_ = gu w_127 aD (eB g (32 * (cnOf x)) (fun _ => 0)) := ⟨_, rfl⟩
  have h : SH g w_138 v s H locs := by rw [ew_138]; exact h
  have f_139 : w_138 ho = some (ob 0 [.null, .int (nI (cnOf x)), .int (bI true), .int (bI false), .ref aP, .ref aL, .int (bI false), .ref aW, .ref aS, .ref aK]) := by rw [ew_138]; exact (gu_n (g_neN f_128 hn_137)).trans f_128
  have f_140 : w_138 g.2.2.2.1 = some (eO g 0 (fun _ => none)) := by rw [ew_138]; exact (gu_n (g_neN f_129 hn_137)).trans f_129
  have f_141 : w_138 aP = some (eI g 30 (fun _ => 0)) := by rw [ew_138]; exact (gu_n (g_neN f_130 hn_137)).trans f_130
  have f_142 : w_138 aL = some (eS g 64 (fun _ => none)) := by rw [ew_138]; exact (gu_n (g_neN f_131 hn_137)).trans f_131
  have f_143 : w_138 aW = some (ob 5 [.ref wE, .int (nI 0), .int (nI 0)]) := by rw [ew_138]; exact (gu_n (g_neN f_132 hn_137)).trans f_132
  have f_144 : w_138 wE = some (eO g 17 (fun _ => none)) := by rw [ew_138]; exact (gu_n (g_neN f_133 hn_137)).trans f_133
  have f_145 : w_138 aS = some (ob 5 [.ref sE, .int (nI 0), .int (nI 0)]) := by rw [ew_138]; exact (gu_n (g_neN f_134 hn_137)).trans f_134
  have f_146 : w_138 sE = some (eO g 17 (fun _ => none)) := by rw [ew_138]; exact (gu_n (g_neN f_135 hn_137)).trans f_135
  have f_147 : w_138 aK = some (ob 6 [.int (nI 0), .ref g.2.2.2.1, .int (nI 0)]) := by rw [ew_138]; exact (gu_n (g_neN f_136 hn_137)).trans f_136
  have f_148 : w_138 aD = some (eB g (32 * (cnOf x)) (fun _ => 0)) := by rw [ew_138]; exact gu_s
  refine gx_putF C h f_139 (Cn := RX1) (T := TX1) (N := 10) (x := .ref aD) rfl in_X1 tyX1 tyX1_ok nmX1 0 (by decide) q215 rfl rfl hnm rfl rfl (Nat.le_of_ble_eq_true rfl) dX1_init_82 (fun H locs h => ?_)
  obtain ⟨w_149, ew_149⟩ : ∃ z_ : GW, z_ = gu w_138 ho (ob 0 [.ref aD, .int (nI (cnOf x)), .int (bI true), .int (bI false), .ref aP, .ref aL, .int (bI false), .ref aW, .ref aS, .ref aK]) := ⟨_, rfl⟩
  have h : SH g w_149 v s H locs := by rw [ew_149]; exact h
  have f_150 : w_149 ho = some (ob 0 [.ref aD, .int (nI (cnOf x)), .int (bI true), .int (bI false), .ref aP, .ref aL, .int (bI false), .ref aW, .ref aS, .ref aK]) := by rw [ew_149]; exact gu_s
  have f_151 : w_149 g.2.2.2.1 = some (eO g 0 (fun _ => none)) := by rw [ew_149]; exact (gu_n (g_ne f_140 f_139 (by simp))).trans f_140
  have f_152 : w_149 aP = some (eI g 30 (fun _ => 0)) := by rw [ew_149]; exact (gu_n (Ne.symm (g_neN f_2 hn_4))).trans f_141
  have f_153 : w_149 aL = some (eS g 64 (fun _ => none)) := by rw [ew_149]; exact (gu_n (Ne.symm (g_neN f_10 hn_13))).trans f_142
  have f_154 : w_149 aW = some (ob 5 [.ref wE, .int (nI 0), .int (nI 0)]) := by rw [ew_149]; exact (gu_n (Ne.symm (g_neN f_20 hn_24))).trans f_143
  have f_155 : w_149 wE = some (eO g 17 (fun _ => none)) := by rw [ew_149]; exact (gu_n (Ne.symm (g_neN f_26 wE1))).trans f_144
  have f_156 : w_149 aS = some (ob 5 [.ref sE, .int (nI 0), .int (nI 0)]) := by rw [ew_149]; exact (gu_n (Ne.symm (g_neN f_48 hn_54))).trans f_145
  have f_157 : w_149 sE = some (eO g 17 (fun _ => none)) := by rw [ew_149]; exact (gu_n (Ne.symm (g_neN f_56 sE1))).trans f_146
  have f_158 : w_149 aK = some (ob 6 [.int (nI 0), .ref g.2.2.2.1, .int (nI 0)]) := by rw [ew_149]; exact (gu_n (Ne.symm (g_neN f_84 hn_92))).trans f_147
  have f_159 : w_149 aD = some (eB g (32 * (cnOf x)) (fun _ => 0)) := by rw [ew_149]; exact (gu_n (Ne.symm (g_neN f_128 hn_137))).trans f_148
  refine lv_aload_n hx hb dX1_init_85 rfl (lv_at hl 0 rfl) ?_
  refine gx_new C h (ci := 2) (fs := [.int (nI 0), .long 0]) (Cn := RX2) (T := TX2) (N := 2) rfl in_X2 tyX2 tyX2_ok q133 q134 q50 (fun j hj => by rcases (show j = 0 ∨ j = 1 by omega) with rfl | rfl <;> rfl) (Nat.le_of_ble_eq_true rfl) (by show 137 + (32 * (cnOf x)) + 2 ≤ 2400; omega) dX1_init_86 (fun a H hn_160 hn_160v h => ?_)
  obtain ⟨w_161, ew_161⟩ : ∃ z_ : GW, z_ = gu w_149 a (ob 2 [.int (nI 0), .long 0]) := ⟨_, rfl⟩
  have h : SH g w_161 v s H locs := by rw [ew_161]; exact h
  have f_162 : w_161 ho = some (ob 0 [.ref aD, .int (nI (cnOf x)), .int (bI true), .int (bI false), .ref aP, .ref aL, .int (bI false), .ref aW, .ref aS, .ref aK]) := by rw [ew_161]; exact (gu_n (g_neN f_150 hn_160)).trans f_150
  have f_163 : w_161 g.2.2.2.1 = some (eO g 0 (fun _ => none)) := by rw [ew_161]; exact (gu_n (g_neN f_151 hn_160)).trans f_151
  have f_164 : w_161 aP = some (eI g 30 (fun _ => 0)) := by rw [ew_161]; exact (gu_n (g_neN f_152 hn_160)).trans f_152
  have f_165 : w_161 aL = some (eS g 64 (fun _ => none)) := by rw [ew_161]; exact (gu_n (g_neN f_153 hn_160)).trans f_153
  have f_166 : w_161 aW = some (ob 5 [.ref wE, .int (nI 0), .int (nI 0)]) := by rw [ew_161]; exact (gu_n (g_neN f_154 hn_160)).trans f_154
  have f_167 : w_161 wE = some (eO g 17 (fun _ => none)) := by rw [ew_161]; exact (gu_n (g_neN f_155 hn_160)).trans f_155
  have f_168 : w_161 aS = some (ob 5 [.ref sE, .int (nI 0), .int (nI 0)]) := by rw [ew_161]; exact (gu_n (g_neN f_156 hn_160)).trans f_156
  have f_169 : w_161 sE = some (eO g 17 (fun _ => none)) := by rw [ew_161]; exact (gu_n (g_neN f_157 hn_160)).trans f_157
  have f_170 : w_161 aK = some (ob 6 [.int (nI 0), .ref g.2.2.2.1, .int (nI 0)]) := by rw [ew_161]; exact (gu_n (g_neN f_158 hn_160)).trans f_158
  have f_171 : w_161 aD = some (eB g (32 * (cnOf x)) (fun _ => 0)) := by rw [ew_161]; exact (gu_n (g_neN f_159 hn_160)).trans f_159
  have f_172 : w_161 a = some (ob 2 [.int (nI 0), .long 0]) := by rw [ew_161]; exact gu_s
  refine lv_dup hx hb dX1_init_89 rfl ?_
  refine lv_iconst (v := (0)) hx hb dX1_init_90 (by decide) ?_
  refine lv_lconst (v := 0) hx hb dX1_init_91 (by decide) ?_
  refine gc_v (va_runIN (As := [.int 0, .long 0]) (rest := [.ref a, .ref ho]) C.fix (m_X2_init l g w_161 v a 0 0 f_172) ⟨va_cnB 2 hts (lw_meth q137) rfl rfl rfl (hG.2.2.1 _ q135 rfl) (hts _ q50) (by decide +kernel) ⟨Nat.le_of_ble_eq_true rfl, Nat.le_of_ble_eq_true rfl⟩, rfl, hts _ q136⟩ (gp_S C h _) rfl rfl hl.1 rfl (lv_room (Nat.le_of_ble_eq_true rfl)) dX1_init_92 ⟨Nat.le_of_ble_eq_true rfl, (by show 137 + (32 * (cnOf x)) + 2 + 0 ≤ 2400; omega)⟩) h (fun w_174 H locs hp h => ?_)
  have ew_175 : w_174 = gu w_161 a (ob 2 [.int 0, .long 0]) := hp
  have f_176 : w_174 ho = some (ob 0 [.ref aD, .int (nI (cnOf x)), .int (bI true), .int (bI false), .ref aP, .ref aL, .int (bI false), .ref aW, .ref aS, .ref aK]) := by rw [ew_175]; exact (gu_n (g_neN f_150 hn_160)).trans f_162
  have f_177 : w_174 g.2.2.2.1 = some (eO g 0 (fun _ => none)) := by rw [ew_175]; exact (gu_n (g_neN f_151 hn_160)).trans f_163
  have f_178 : w_174 aP = some (eI g 30 (fun _ => 0)) := by rw [ew_175]; exact (gu_n (g_neN f_152 hn_160)).trans f_164
  have f_179 : w_174 aL = some (eS g 64 (fun _ => none)) := by rw [ew_175]; exact (gu_n (g_neN f_153 hn_160)).trans f_165
  have f_180 : w_174 aW = some (ob 5 [.ref wE, .int (nI 0), .int (nI 0)]) := by rw [ew_175]; exact (gu_n (g_neN f_154 hn_160)).trans f_166
  have f_181 : w_174 wE = some (eO g 17 (fun _ => none)) := by rw [ew_175]; exact (gu_n (g_neN f_155 hn_160)).trans f_167
  have f_182 : w_174 aS = some (ob 5 [.ref sE, .int (nI 0), .int (nI 0)]) := by rw [ew_175]; exact (gu_n (g_neN f_156 hn_160)).trans f_168
  have f_183 : w_174 sE = some (eO g 17 (fun _ => none)) := by rw [ew_175]; exact (gu_n (g_neN f_157 hn_160)).trans f_169
  have f_184 : w_174 aK = some (ob 6 [.int (nI 0), .ref g.2.2.2.1, .int (nI 0)]) := by rw [ew_175]; exact (gu_n (g_neN f_158 hn_160)).trans f_170
  have f_185 : w_174 aD = some (eB g (32 * (cnOf x)) (fun _ => 0)) := by rw [ew_175]; exact (gu_n (g_neN f_159 hn_160)).trans f_171
  have f_186 : w_174 a = some (ob 2 [.int 0, .long 0]) := by rw [ew_175]; exact gu_s
  obtain ⟨ad, d0, d1, d2, d3, d4, d5, d6⟩ : ∃ ad : Nat → Nat, ad 0 = ho ∧ ad 1 = aD ∧ ad 2 = aP ∧ ad 3 = aL ∧ ad 4 = aW ∧ ad 5 = aS ∧ ad 6 = aK := ⟨fun i => [ho, aD, aP, aL, aW, aS, aK].getD i 0, rfl, rfl, rfl, rfl, rfl, rfl, rfl⟩
  have hX : XW g w_174 ad (cnOf x) true false false (fun _ => 0) ([]) (fun _ => none) (fun _ => some 0) ([]) ([]) (fun _ => 0) (fun _ => none) (fun _ => 0) wE sE g.2.2.2.1 := by
    unfold XW XC XD
    rw [d0, d1, d2, d3, d4, d5, d6]
    exact ⟨⟨f_176, f_185, f_178, f_179⟩, ⟨17, _, 0, [], DQ.empty f_180 f_181 (by omega) (by omega), WL.nil⟩, ⟨17, _, 0, [], DQ.empty f_182 f_183 (by omega) (by omega), SL.nil⟩, ⟨0, _, nI 0, [], ⟨f_184, f_177, Nat.zero_le _, (fun i x q => by cases q), Or.inl ⟨rfl, rfl⟩⟩, SL.nil⟩, (fun k _ => ⟨fun _ => rfl, fun d q => by cases q⟩), (fun j k _ _ q => by cases q), (fun p _ => rfl), ⟨(g_neN f_52 hn_54), (g_neN f_61 sE1), (Ne.symm (g_neN f_27 wE1)), (Ne.symm (g_neN f_57 sE1)), (g_neN f_29 wE1), (g_neN f_59 sE1), (Ne.symm (g_neN f_11 hn_13))⟩, hcn.1⟩
  refine gc_v (va_runV (As := [.ref a]) (rest := []) C.fix (by have q := m_X1_begin l g w_174 v ad (cnOf x) true false false (fun _ => 0) ([]) (fun _ => none) (fun _ => some 0) ([]) ([]) (fun _ => 0) (fun _ => none) (fun _ => 0) wE sE g.2.2.2.1 hX a 0 0 f_186; rw [d0] at q; exact q) (cwV 1 hts (lw_V q150 q152 qs0 q43 q153) rfl rfl rfl (by decide +kernel) ⟨Nat.le_of_ble_eq_true rfl, Nat.le_of_ble_eq_true rfl⟩) (gp_V C h [.ref a] (Cn := RX1) (T := TX1) (N := 10) rfl f_176) rfl rfl hl.1 rfl (lv_room (Nat.le_of_ble_eq_true rfl)) dX1_init_95 ⟨Nat.le_of_ble_eq_true rfl, (by show 137 + (32 * (cnOf x)) + 2 + 0 + 200 ≤ 2400; omega)⟩) h (fun w_188 H locs hp h => ?_)
  exact gr_v C h (⟨ad, d0, hp⟩) (Nat.le_of_ble_eq_true rfl) (by show 137 + (32 * (cnOf x)) + 2 + 0 + 200 ≤ 2400; omega) dX1_init_98
