set_option maxRecDepth 100000
theorem nI_prd (i : Nat) : nI (i + 1) - 1 = nI i := by
  rw [show nI (i + 1) = nI i + 1 from Int32.ofNat_add i 1]
  exact Int32.add_sub_cancel _ _
theorem nI_mm (i : Nat) : nI i + (-1) = nI i - 1 := (Int32.sub_eq_add_neg _ _).symm
set_option maxHeartbeats 4000000 in
theorem m_X1_wrong (l : Launch) (g : GG) (w v : GW) (ad : Nat → Nat) (cn : Nat) (ru fu ch : Bool) (dk : Sec) (wt : List (Nat × Sec)) (ld : Nat → Option Sec) (pl : Nat → Option Nat) (st kp : List (Int32 × Int64)) (hR : RX g w ad (cn, ru, fu, ch, dk, wt, ld, pl, st, kp)) (hI : InvK (cn, ru, fu, ch, dk, wt, ld, pl, st, kp)) (x : Int32)  : Met l yX1_wrong (ws_ yX1_wrong cX1_wrong 5 (some .int)) ({ frames := 6, cells := 90, slots := 1110, locals := 360 } : Room) (gP g [.ref (ad 0), .int x] w v) (va_Qi (fun (r : Int32) (w' : GW) => r = (opWrong (cn, ru, fu, ch, dk, wt, ld, pl, st, kp) x).1 ∧ RX g w' ad (opWrong (cn, ru, fu, ch, dk, wt, ld, pl, st, kp) x).2) (gB g v) (gA g)) 90 1110 (gA g) := by
  refine gm_of (by decide) (Nat.le_of_ble_eq_true rfl) ?_
  intro p e s m below meth c ls C hnm h hl
  have C : Cx g p s m ([.ref (ad 0), .int x] : List Value).toArray meth c cX1_wrong 5 RX1 (some .int) := C
  obtain ⟨hx, hb, hml, hown, hts, hr, hlk, hG⟩ := id C
  have hl : lv_has ls 5 [(0, .ref (ad 0)), (1, .int x)] := hl
  obtain ⟨fP, fl, lb, wE, sE, kE, hX⟩ := id hR
  obtain ⟨⟨x0, x1, x2, x3⟩, hQW, hQS, hQK, hLL, hLi, hpl, hXD, h8⟩ := id hX
  obtain ⟨i1, i2, i3, i4, i5, i6, i7, i8, i9⟩ := id hI
  have n01 : ad 0 ≠ ad 1 := g_ne x0 x1 (kn_ne (show 0 ≠ 100 + 32 * cn by omega))
  have n02 : ad 0 ≠ ad 2 := g_ne x0 x2 (kn_ne (show 0 ≠ 130 by omega))
  have n03 : ad 0 ≠ ad 3 := g_ne x0 x3 (kn_ne (show 0 ≠ 50 by omega))
  have n12 : ad 1 ≠ ad 2 := g_ne x1 x2 (kn_ne (show 100 + 32 * cn ≠ 130 by omega))
  have n13 : ad 1 ≠ ad 3 := g_ne x1 x3 (kn_ne (show 100 + 32 * cn ≠ 50 by omega))
  have n23 : ad 2 ≠ ad 3 := g_ne x2 x3 (kn_ne (show 130 ≠ 50 by omega))
  refine lv_aload_n hx hb dX1_wrong_0 rfl (lv_at hl 0 rfl) ?_
  refine gx_get C h x0 (Cn := RX1) (T := TX1) (N := 10) rfl in_X1 2 (by decide) q217 rfl rfl dX1_wrong_1 ?_
  refine lv_if_ne (tgt := 10) hx hb dX1_wrong_4 (by decide) (fun c1 => ?_) (fun c1 => ?_)
  · skip
    have c1 : ru = true := bI_ne0.mp c1
    refine lv_iload_n hx hb dX1_wrong_10 rfl (lv_at hl 1 rfl) ?_
    refine lv_if_lt (tgt := 19) hx hb dX1_wrong_11 (by decide) (fun c2 => ?_) (fun c2 => ?_)
    · skip
      refine lv_bipush (v := (-2)) hx hb dX1_wrong_19 (by decide) ?_
      have eq : opWrong (cn, ru, fu, ch, dk, wt, ld, pl, st, kp) x = (-2, (cn, ru, fu, ch, dk, wt, ld, pl, st, kp)) := by unfold opWrong; dsimp only; rw [if_neg (show ¬ ru = false by rw [c1]; decide), if_pos (Or.inl c2)]
      exact gr_i C h (ty := .int) rfl (rfl) (by rw [eq]; exact ⟨rfl, fP, fl, lb, wE, sE, kE, hX⟩) (Nat.le_of_ble_eq_true rfl) (Nat.le_of_ble_eq_true rfl) dX1_wrong_21
    · skip
      refine lv_iload_n hx hb dX1_wrong_14 rfl (lv_at hl 1 rfl) ?_
      refine lv_iconst (v := nI 2) hx hb dX1_wrong_15 (by decide) ?_
      refine lv_icmp_le (tgt := 22) hx hb dX1_wrong_16 (by decide) (fun c3 => ?_) (fun c3 => ?_)
      · skip
        have hnr : ¬ (x < 0 ∨ nI 2 < x) := fun q => q.elim c2 (fun q => Int32.not_lt.mpr c3 q)
        refine lv_iconst (v := nI 0) hx hb dX1_wrong_22 (by decide) ?_
        refine lv_istore_n (lv' := [(2, .int (nI 0)), (0, .ref (ad 0)), (1, .int x)]) hx hb dX1_wrong_23 rfl hl (by decide) rfl (fun ls hl => ?_)
        refine lv_iconst (v := (-1)) hx hb dX1_wrong_24 (by decide) ?_
        refine lv_istore_n (lv' := [(3, .int (-1)), (2, .int (nI 0)), (0, .ref (ad 0)), (1, .int x)]) hx hb dX1_wrong_25 rfl hl (by decide) rfl (fun ls hl => ?_)
        refine lv_bipush (v := nI 29) hx hb dX1_wrong_26 (by decide) ?_
        refine lv_istore (lv' := [(4, .int (nI 29)), (3, .int (-1)), (2, .int (nI 0)), (0, .ref (ad 0)), (1, .int x)]) hx hb dX1_wrong_28 hl (by decide) rfl (fun ls hl => ?_)
        have hl : lv_has ls 5 [(4, .int (nI 30 - 1)), (3, .int ((if lf (fun p => !(bad dk wt ld pl p)) (30 - 30) 30 < 30 then nI (lf (fun p => !(bad dk wt ld pl p)) (30 - 30) 30) else -1))), (2, .int (nI (cntB (bad dk wt ld pl) 30 (30 - 30)))), (0, .ref (ad 0)), (1, .int x)] := by exact hl
        have loop : ∀ (n_ : Nat) (i cc cs : Nat) (w1 : GW) (H : Heap) (locs : List Loc) (ls : Array Slot), i < n_ → (i ≤ 30) → (cc ≤ 3 * (30 - i)) → (cs ≤ 37 * (30 - i)) → (Ext w w1) → SH g w1 v s H locs → lv_has ls 5 [(0, .ref (ad 0)), (1, .int x), (2, .int (nI (cntB (bad dk wt ld pl) i (30 - i)))), (3, .int ((if lf (fun p => !(bad dk wt ld pl p)) (30 - i) i < 30 then nI (lf (fun p => !(bad dk wt ld pl p)) (30 - i) i) else -1))), (4, .int (nI i - 1))] → W p l e ({ frames := 6, cells := 90, slots := 1110, locals := 360 } : Room) s m ([.ref (ad 0), .int x] : List Value).toArray below meth c H locs cc cs (MQ below (va_Qi (fun (r : Int32) (w' : GW) => r = (opWrong (cn, ru, fu, ch, dk, wt, ld, pl, st, kp) x).1 ∧ RX g w' ad (opWrong (cn, ru, fu, ch, dk, wt, ld, pl, st, kp) x).2) (gB g v) (gA g)) ([.ref (ad 0), .int x] : List Value).toArray s 90 1110 (gA g)) (F0 m 30 ls []) := by
          intro n_
          induction n_ with
          | zero => intros; exact absurd ‹_ < 0› (Nat.not_lt_zero _)
          | succ n_ ih =>
            intro i cc cs w1 H locs ls hf hi hc1 hc2 hxa  h hl
            have hXa := hX.ext hxa
            obtain ⟨⟨y0, y1, y2, y3⟩, hQW, hQS, hQK, hLL, hLi, hpl, hXD, h8⟩ := id hXa
            have n01 : ad 0 ≠ ad 1 := g_ne y0 y1 (kn_ne (show 0 ≠ 100 + 32 * cn by omega))
            have n02 : ad 0 ≠ ad 2 := g_ne y0 y2 (kn_ne (show 0 ≠ 130 by omega))
            have n03 : ad 0 ≠ ad 3 := g_ne y0 y3 (kn_ne (show 0 ≠ 50 by omega))
            have n12 : ad 1 ≠ ad 2 := g_ne y1 y2 (kn_ne (show 100 + 32 * cn ≠ 130 by omega))
            have n13 : ad 1 ≠ ad 3 := g_ne y1 y3 (kn_ne (show 100 + 32 * cn ≠ 50 by omega))
            have n23 : ad 2 ≠ ad 3 := g_ne y2 y3 (kn_ne (show 130 ≠ 50 by omega))
            rcases i with _ | i
            · skip
              have hl : lv_has ls 5 [(0, .ref (ad 0)), (1, .int x), (2, .int (nI (cntB (bad dk wt ld pl) 0 (30 - 0)))), (3, .int ((if lf (fun p => !(bad dk wt ld pl p)) (30 - 0) 0 < 30 then nI (lf (fun p => !(bad dk wt ld pl p)) (30 - 0) 0) else -1))), (4, .int (-1))] := hl
              refine lv_iload hx hb dX1_wrong_30 (lv_at hl 4 rfl) ?_
              refine lv_if_lt (tgt := 93) hx hb dX1_wrong_32 (by decide) (fun c4 => ?_) (fun c4 => ?_)
              · skip
                refine lv_iload_n hx hb dX1_wrong_93 rfl (lv_at hl 1 rfl) ?_
                refine lv_if_ne (tgt := 101) hx hb dX1_wrong_94 (by decide) (fun c5 => ?_) (fun c5 => ?_)
                · skip
                  by_cases hb_ : lf (fun p => !(bad dk wt ld pl p)) (30 - 0) 0 < 30
                  · skip
                    rw [if_pos hb_] at hl
                    have hl : lv_has ls 5 [(0, .ref (ad 0)), (1, .int x), (2, .int (nI (cntB (bad dk wt ld pl) 0 (30 - 0)))), (3, .int (nI (lf (fun p => !(bad dk wt ld pl p)) 30 0))), (4, .int (-1))] := hl
                    refine lv_iload_n hx hb dX1_wrong_101 rfl (lv_at hl 3 rfl) ?_
                    refine lv_iconst (v := (-1)) hx hb dX1_wrong_102 (by decide) ?_
                    refine lv_icmp_ne (tgt := 110) hx hb dX1_wrong_103 (by decide) (fun c6 => ?_) (fun c6 => ?_)
                    · skip
                      refine lv_iload_n hx hb dX1_wrong_110 rfl (lv_at hl 1 rfl) ?_
                      refine lv_iconst (v := nI 1) hx hb dX1_wrong_111 (by decide) ?_
                      refine lv_icmp_ne (tgt := 119) hx hb dX1_wrong_112 (by decide) (fun c7 => ?_) (fun c7 => ?_)
                      · skip
                        refine lv_aload_n hx hb dX1_wrong_119 rfl (lv_at hl 0 rfl) ?_
                        refine gx_get C h y0 (Cn := RX1) (T := TX1) (N := 10) rfl in_X1 4 (by decide) q219 rfl rfl dX1_wrong_120 ?_
                        refine lv_iload_n hx hb dX1_wrong_123 rfl (lv_at hl 3 rfl) ?_
                        refine gx_iald C h y2 (lf (fun p => !(bad dk wt ld pl p)) 30 0) (rfl) (⟨hb_, by omega⟩) dX1_wrong_124 ?_
                        have eq : opWrong (cn, ru, fu, ch, dk, wt, ld, pl, st, kp) x = (plI (pl (lf (fun p => !(bad dk wt ld pl p)) 30 0)), (cn, ru, fu, ch, dk, wt, ld, pl, st, kp)) := by unfold opWrong; dsimp only; rw [if_neg (show ¬ ru = false by rw [c1]; decide), if_neg hnr, if_neg c5, if_pos hb_, if_neg c7]
                        exact gr_i C h (ty := .int) rfl (rfl) (by rw [eq]; exact ⟨hpl _ hb_, fP, fl, lb, wE, sE, kE, hXa⟩) (by show cc ≤ 90; omega) (by show cs ≤ 1110; omega) dX1_wrong_125
                      · skip
                        refine lv_iload_n hx hb dX1_wrong_115 rfl (lv_at hl 3 rfl) ?_
                        refine lv_goto (tgt := 125) hx hb dX1_wrong_116 (by decide) ?_
                        have eq : opWrong (cn, ru, fu, ch, dk, wt, ld, pl, st, kp) x = (nI (lf (fun p => !(bad dk wt ld pl p)) 30 0), (cn, ru, fu, ch, dk, wt, ld, pl, st, kp)) := by unfold opWrong; dsimp only; rw [if_neg (show ¬ ru = false by rw [c1]; decide), if_neg hnr, if_neg c5, if_pos hb_, if_pos c7]
                        exact gr_i C h (ty := .int) rfl (rfl) (by rw [eq]; exact ⟨rfl, fP, fl, lb, wE, sE, kE, hXa⟩) (by show cc ≤ 90; omega) (by show cs ≤ 1110; omega) dX1_wrong_125
                    · skip
                      exact absurd c6 (nm1 (by have : lf (fun p => !(bad dk wt ld pl p)) 30 0 < 30 := hb_; omega))
                  · skip
                    rw [if_neg hb_] at hl
                    have hl : lv_has ls 5 [(0, .ref (ad 0)), (1, .int x), (2, .int (nI (cntB (bad dk wt ld pl) 0 (30 - 0)))), (3, .int (-1)), (4, .int (-1))] := hl
                    refine lv_iload_n hx hb dX1_wrong_101 rfl (lv_at hl 3 rfl) ?_
                    refine lv_iconst (v := (-1)) hx hb dX1_wrong_102 (by decide) ?_
                    refine lv_icmp_ne (tgt := 110) hx hb dX1_wrong_103 (by decide) (fun c6 => ?_) (fun c6 => ?_)
                    · skip
                      exact absurd rfl c6
                    · skip
                      refine lv_iconst (v := (-1)) hx hb dX1_wrong_106 (by decide) ?_
                      refine lv_goto (tgt := 125) hx hb dX1_wrong_107 (by decide) ?_
                      have eq : opWrong (cn, ru, fu, ch, dk, wt, ld, pl, st, kp) x = (-1, (cn, ru, fu, ch, dk, wt, ld, pl, st, kp)) := by unfold opWrong; dsimp only; rw [if_neg (show ¬ ru = false by rw [c1]; decide), if_neg hnr, if_neg c5, if_neg hb_]
                      exact gr_i C h (ty := .int) rfl (rfl) (by rw [eq]; exact ⟨rfl, fP, fl, lb, wE, sE, kE, hXa⟩) (by show cc ≤ 90; omega) (by show cs ≤ 1110; omega) dX1_wrong_125
                · skip
                  refine lv_iload_n hx hb dX1_wrong_97 rfl (lv_at hl 2 rfl) ?_
                  refine lv_goto (tgt := 125) hx hb dX1_wrong_98 (by decide) ?_
                  have eq : opWrong (cn, ru, fu, ch, dk, wt, ld, pl, st, kp) x = (nI (cntB (bad dk wt ld pl) 0 30), (cn, ru, fu, ch, dk, wt, ld, pl, st, kp)) := by unfold opWrong; dsimp only; rw [if_neg (show ¬ ru = false by rw [c1]; decide), if_neg hnr, if_pos c5]
                  exact gr_i C h (ty := .int) rfl (rfl) (by rw [eq]; exact ⟨rfl, fP, fl, lb, wE, sE, kE, hXa⟩) (by show cc ≤ 90; omega) (by show cs ≤ 1110; omega) dX1_wrong_125
              · skip
                exact absurd (by decide) c4
            · skip
              rw [nI_prd] at hl
              have hl : lv_has ls 5 [(0, .ref (ad 0)), (1, .int x), (2, .int (nI (cntB (bad dk wt ld pl) (i + 1) (30 - (i + 1))))), (3, .int ((if lf (fun p => !(bad dk wt ld pl p)) (30 - (i + 1)) (i + 1) < 30 then nI (lf (fun p => !(bad dk wt ld pl p)) (30 - (i + 1)) (i + 1)) else -1))), (4, .int (nI i))] := hl
              refine lv_iload hx hb dX1_wrong_30 (lv_at hl 4 rfl) ?_
              refine lv_if_lt (tgt := 93) hx hb dX1_wrong_32 (by decide) (fun c4 => ?_) (fun c4 => ?_)
              · skip
                exact absurd c4 (nI_pos (by omega))
              · skip
                have hcnt : cntB (bad dk wt ld pl) i (30 - i) = (if bad dk wt ld pl i then 1 else 0) + cntB (bad dk wt ld pl) (i + 1) (30 - (i + 1)) := by rw [show 30 - i = 1 + (30 - (i + 1)) by omega, cntB_add, cntB_s, show cntB (bad dk wt ld pl) i 0 = 0 from rfl, Nat.zero_add, Nat.add_zero]
                have hlfn : lf (fun p => !(bad dk wt ld pl p)) (30 - i) i = (if !(bad dk wt ld pl i) then lf (fun p => !(bad dk wt ld pl p)) (30 - (i + 1)) (i + 1) else i) := by rw [show 30 - i = (30 - (i + 1)) + 1 by omega]; rfl
                refine lv_aload_n hx hb dX1_wrong_35 rfl (lv_at hl 0 rfl) ?_
                refine gx_get C h y0 (Cn := RX1) (T := TX1) (N := 10) rfl in_X1 4 (by decide) q219 rfl rfl dX1_wrong_36 ?_
                refine lv_iload hx hb dX1_wrong_39 (lv_at hl 4 rfl) ?_
                refine gx_iald C h y2 i (rfl) (by omega) dX1_wrong_41 ?_
                rw [hpl i (by omega)]
                refine lv_iconst (v := (-1)) hx hb dX1_wrong_42 (by decide) ?_
                refine lv_icmp_eq (tgt := 87) hx hb dX1_wrong_43 (by decide) (fun c5 => ?_) (fun c5 => ?_)
                · skip
                  have hpn : pl i = none := (plI_m1 (br_pl i1.2 i2 (by omega))).mp c5
                  have hbi : bad dk wt ld pl i = false := by unfold bad; rw [hpn]
                  rw [hbi] at hcnt hlfn
                  refine lv_iinc (v := (nI i + (-1))) (lv' := [(4, .int (nI i + (-1))), (0, .ref (ad 0)), (1, .int x), (2, .int (nI (cntB (bad dk wt ld pl) (i + 1) (30 - (i + 1))))), (3, .int ((if lf (fun p => !(bad dk wt ld pl p)) (30 - (i + 1)) (i + 1) < 30 then nI (lf (fun p => !(bad dk wt ld pl p)) (30 - (i + 1)) (i + 1)) else -1)))]) hx hb dX1_wrong_87 hl (k := 4) rfl (rfl) (by decide) rfl (fun ls hl => ?_)
                  refine lv_goto (tgt := 30) hx hb dX1_wrong_90 (by decide) ?_
                  have hl : lv_has ls 5 [(4, .int (nI i - 1)), (0, .ref (ad 0)), (1, .int x), (2, .int (nI (cntB (bad dk wt ld pl) i (30 - i)))), (3, .int ((if lf (fun p => !(bad dk wt ld pl p)) (30 - i) i < 30 then nI (lf (fun p => !(bad dk wt ld pl p)) (30 - i) i) else -1)))] := by rw [hcnt, hlfn, ← nI_mm i]; simp only [Bool.false_eq_true, if_false, Nat.zero_add, Bool.not_false, if_true]; exact hl
                  exact ih i (cc) (cs) _ _ _ _ (by omega) (by omega) (by omega) (by omega) hxa h (lv_sub hl [1, 2, 3, 4, 0] rfl)
                · skip
                  obtain ⟨k, hk⟩ : ∃ k, pl i = some k := by cases hq : pl i with | none => exact absurd (by rw [hq]; rfl) c5 | some k => exact ⟨k, rfl⟩
                  have hk64 := i2 i k (by omega) hk
                  refine lv_aload_n hx hb dX1_wrong_46 rfl (lv_at hl 0 rfl) ?_
                  refine gx_get C h y0 (Cn := RX1) (T := TX1) (N := 10) rfl in_X1 5 (by decide) q220 rfl rfl dX1_wrong_47 ?_
                  refine lv_aload_n hx hb dX1_wrong_50 rfl (lv_at hl 0 rfl) ?_
                  refine gx_get C h y0 (Cn := RX1) (T := TX1) (N := 10) rfl in_X1 4 (by decide) q219 rfl rfl dX1_wrong_51 ?_
                  refine lv_iload hx hb dX1_wrong_54 (lv_at hl 4 rfl) ?_
                  refine gx_iald C h y2 i (rfl) (by omega) dX1_wrong_56 ?_
                  rw [hpl i (by omega), hk]
                  refine gx_aald C h 4 rfl y3 k (rfl) (by omega) dX1_wrong_57 ?_
                  obtain ⟨o_, hld⟩ : ∃ o_, ld k = o_ := ⟨_, rfl⟩
                  cases o_ with
                  | some d =>
                    obtain ⟨s0, f0, l1, -, -, -⟩ := (hLL k (by omega)).2 d hld
                    rw [l1]
                    refine lv_ifnonnull (tgt := 87) hx hb dX1_wrong_58 (by decide) ?_
                    have hbi : bad dk wt ld pl i = false := by unfold bad; rw [hk]; dsimp only; rw [hld]; rfl
                    rw [hbi] at hcnt hlfn
                    refine lv_iinc (v := (nI i + (-1))) (lv' := [(4, .int (nI i + (-1))), (0, .ref (ad 0)), (1, .int x), (2, .int (nI (cntB (bad dk wt ld pl) (i + 1) (30 - (i + 1))))), (3, .int ((if lf (fun p => !(bad dk wt ld pl p)) (30 - (i + 1)) (i + 1) < 30 then nI (lf (fun p => !(bad dk wt ld pl p)) (30 - (i + 1)) (i + 1)) else -1)))]) hx hb dX1_wrong_87 hl (k := 4) rfl (rfl) (by decide) rfl (fun ls hl => ?_)
                    refine lv_goto (tgt := 30) hx hb dX1_wrong_90 (by decide) ?_
                    have hl : lv_has ls 5 [(4, .int (nI i - 1)), (0, .ref (ad 0)), (1, .int x), (2, .int (nI (cntB (bad dk wt ld pl) i (30 - i)))), (3, .int ((if lf (fun p => !(bad dk wt ld pl p)) (30 - i) i < 30 then nI (lf (fun p => !(bad dk wt ld pl p)) (30 - i) i) else -1)))] := by rw [hcnt, hlfn, ← nI_mm i]; simp only [Bool.false_eq_true, if_false, Nat.zero_add, Bool.not_false, if_true]; exact hl
                    exact ih i (cc) (cs) _ _ _ _ (by omega) (by omega) (by omega) (by omega) hxa h (lv_sub hl [1, 2, 3, 4, 0] rfl)
                  | none =>
                    have l1 := (hLL k (by omega)).1 hld
                    rw [l1]
                    refine lv_ifnonnullN hx hb dX1_wrong_58 ?_
                    refine lv_aload_n hx hb dX1_wrong_61 rfl (lv_at hl 0 rfl) ?_
                    refine lv_aload_n hx hb dX1_wrong_62 rfl (lv_at hl 0 rfl) ?_
                    refine gx_get C h y0 (Cn := RX1) (T := TX1) (N := 10) rfl in_X1 4 (by decide) q219 rfl rfl dX1_wrong_63 ?_
                    refine lv_iload hx hb dX1_wrong_66 (lv_at hl 4 rfl) ?_
                    refine gx_iald C h y2 i (rfl) (by omega) dX1_wrong_68 ?_
                    rw [hpl i (by omega), hk]
                    refine gc_q (va_runV (As := [.int (nI k)]) (rest := []) C.fix (m_X1_sector l g w1 v ad cn ru fu ch dk wt ld pl st kp fP fl lb wE sE kE hXa hI k hk64.2) (cwV 1 hts (lw_V q258 q260 qs5 q43 q261) rfl rfl rfl (by decide +kernel) ⟨Nat.le_of_ble_eq_true rfl, Nat.le_of_ble_eq_true rfl⟩) (gp_V C h [.int (nI k)] (Cn := RX1) (T := TX1) (N := 10) rfl y0) rfl rfl hl.1 rfl (lv_room (Nat.le_of_ble_eq_true rfl)) dX1_wrong_69 ⟨(by show cc + 3 ≤ 90; omega), (by show cs + 37 ≤ 1110; omega)⟩) h (fun r_1 w_2 H locs hp h => ?_)
                    obtain ⟨a, b, f, ra, xa, fa, fb, hf_, gf⟩ := hp
                    rw [ra]
                    have f_3 : w_2 (ad 0) = some (ob 0 [.ref (ad 1), .int (nI cn), .int (bI ru), .int (bI fu), .ref (ad 2), .ref (ad 3), .int (bI ch), .ref (ad 4), .ref (ad 5), .ref (ad 6)]) := xa.of y0
                    have f_4 : w_2 (ad 1) = some (eB g (32 * cn) dk) := xa.of y1
                    have f_5 : w_2 (ad 2) = some (eI g 30 fP) := xa.of y2
                    have f_6 : w_2 (ad 3) = some (eS g 64 fl) := xa.of y3
                    have hX_7 := hXa.ext xa
                    have hE_8 : Ext w w_2 := XK.trans hxa xa
                    refine gc_i (va_runV (As := []) (rest := []) C.fix (m_X4_isRight l g w_2 v a b f fa fb) (cwV 0 hts (lw_V q446 q447 q448 q55 q449) rfl rfl rfl (by decide +kernel) ⟨Nat.le_of_ble_eq_true rfl, Nat.le_of_ble_eq_true rfl⟩) (gp_V C h [] (Cn := RX4) (T := TX4) (N := 1) rfl fa) rfl rfl hl.1 rfl (lv_room (Nat.le_of_ble_eq_true rfl)) dX1_wrong_72 ⟨(by show cc + 3 + 0 ≤ 90; omega), (by show cs + 37 + 0 ≤ 1110; omega)⟩) h (fun r_9 w_10 H locs hp h => ?_)
                    obtain ⟨er_r_9, ew_r_9⟩ := hp
                    rw [er_r_9]
                    rw [ew_r_9] at h
                    rw [gf hld]
                    refine lv_if_eq (tgt := 81) hx hb dX1_wrong_75 (by decide) (fun c7 => ?_) (fun c7 => ?_)
                    · skip
                      have c7 : rightB (lat dk wt k) = false := bI_eq0.mp c7
                      have hbi : bad dk wt ld pl i = true := by unfold bad; rw [hk]; dsimp only; rw [hld, c7]; rfl
                      rw [hbi] at hcnt hlfn
                      refine lv_iinc (v := nI (cntB (bad dk wt ld pl) (i + 1) (30 - (i + 1)) + 1)) (lv' := [(2, .int (nI (cntB (bad dk wt ld pl) (i + 1) (30 - (i + 1)) + 1))), (0, .ref (ad 0)), (1, .int x), (3, .int ((if lf (fun p => !(bad dk wt ld pl p)) (30 - (i + 1)) (i + 1) < 30 then nI (lf (fun p => !(bad dk wt ld pl p)) (30 - (i + 1)) (i + 1)) else -1))), (4, .int (nI i))]) hx hb dX1_wrong_81 hl (k := 2) rfl (gi_inc _ 1) (by decide) rfl (fun ls hl => ?_)
                      refine lv_iload hx hb dX1_wrong_84 (lv_at hl 4 rfl) ?_
                      refine lv_istore_n (lv' := [(3, .int (nI i)), (2, .int (nI (cntB (bad dk wt ld pl) (i + 1) (30 - (i + 1)) + 1))), (0, .ref (ad 0)), (1, .int x), (4, .int (nI i))]) hx hb dX1_wrong_86 rfl hl (by decide) rfl (fun ls hl => ?_)
                      refine lv_iinc (v := (nI i + (-1))) (lv' := [(4, .int (nI i + (-1))), (3, .int (nI i)), (2, .int (nI (cntB (bad dk wt ld pl) (i + 1) (30 - (i + 1)) + 1))), (0, .ref (ad 0)), (1, .int x)]) hx hb dX1_wrong_87 hl (k := 4) rfl (rfl) (by decide) rfl (fun ls hl => ?_)
                      refine lv_goto (tgt := 30) hx hb dX1_wrong_90 (by decide) ?_
                      have hl : lv_has ls 5 [(4, .int (nI i - 1)), (3, .int ((if lf (fun p => !(bad dk wt ld pl p)) (30 - i) i < 30 then nI (lf (fun p => !(bad dk wt ld pl p)) (30 - i) i) else -1))), (2, .int (nI (cntB (bad dk wt ld pl) i (30 - i)))), (0, .ref (ad 0)), (1, .int x)] := by rw [hcnt, hlfn, ← nI_mm i]; simp only [if_true, Bool.not_true, Bool.false_eq_true, if_false]; rw [if_pos (show i < 30 by omega), Nat.add_comm 1]; exact hl
                      exact ih i (cc + 3 + 0) (cs + 37 + 0) _ _ _ _ (by omega) (by omega) (by omega) (by omega) hE_8 h (lv_sub hl [3, 4, 2, 1, 0] rfl)
                    · skip
                      have c7 : rightB (lat dk wt k) = true := bI_ne0.mp c7
                      have hbi : bad dk wt ld pl i = false := by unfold bad; rw [hk]; dsimp only; rw [c7]; simp
                      rw [hbi] at hcnt hlfn
                      refine lv_goto (tgt := 87) hx hb dX1_wrong_78 (by decide) ?_
                      refine lv_iinc (v := (nI i + (-1))) (lv' := [(4, .int (nI i + (-1))), (0, .ref (ad 0)), (1, .int x), (2, .int (nI (cntB (bad dk wt ld pl) (i + 1) (30 - (i + 1))))), (3, .int ((if lf (fun p => !(bad dk wt ld pl p)) (30 - (i + 1)) (i + 1) < 30 then nI (lf (fun p => !(bad dk wt ld pl p)) (30 - (i + 1)) (i + 1)) else -1)))]) hx hb dX1_wrong_87 hl (k := 4) rfl (rfl) (by decide) rfl (fun ls hl => ?_)
                      refine lv_goto (tgt := 30) hx hb dX1_wrong_90 (by decide) ?_
                      have hl : lv_has ls 5 [(4, .int (nI i - 1)), (0, .ref (ad 0)), (1, .int x), (2, .int (nI (cntB (bad dk wt ld pl) i (30 - i)))), (3, .int ((if lf (fun p => !(bad dk wt ld pl p)) (30 - i) i < 30 then nI (lf (fun p => !(bad dk wt ld pl p)) (30 - i) i) else -1)))] := by rw [hcnt, hlfn, ← nI_mm i]; simp only [Bool.false_eq_true, if_false, Nat.zero_add, Bool.not_false, if_true]; exact hl
                      exact ih i (cc + 3 + 0) (cs + 37 + 0) _ _ _ _ (by omega) (by omega) (by omega) (by omega) hE_8 h (lv_sub hl [1, 2, 3, 4, 0] rfl)
        exact loop 31 30 0 0 w _ _ _ (by omega) (by omega) (by omega) (by omega) XK.rfl' h (lv_sub hl [3, 4, 2, 1, 0] rfl)
      · skip
        refine lv_bipush (v := (-2)) hx hb dX1_wrong_19 (by decide) ?_
        have eq : opWrong (cn, ru, fu, ch, dk, wt, ld, pl, st, kp) x = (-2, (cn, ru, fu, ch, dk, wt, ld, pl, st, kp)) := by unfold opWrong; dsimp only; rw [if_neg (show ¬ ru = false by rw [c1]; decide), if_pos (Or.inr (Int32.not_le.mp c3))]
        exact gr_i C h (ty := .int) rfl (rfl) (by rw [eq]; exact ⟨rfl, fP, fl, lb, wE, sE, kE, hX⟩) (Nat.le_of_ble_eq_true rfl) (Nat.le_of_ble_eq_true rfl) dX1_wrong_21
  · skip
    have c1 : ru = false := bI_eq0.mp c1
    refine lv_bipush (v := (-3)) hx hb dX1_wrong_7 (by decide) ?_
    have eq : opWrong (cn, ru, fu, ch, dk, wt, ld, pl, st, kp) x = (-3, (cn, ru, fu, ch, dk, wt, ld, pl, st, kp)) := by unfold opWrong; dsimp only; rw [if_pos c1]
    exact gr_i C h (ty := .int) rfl (rfl) (by rw [eq]; exact ⟨rfl, fP, fl, lb, wE, sE, kE, hX⟩) (Nat.le_of_ble_eq_true rfl) (Nat.le_of_ble_eq_true rfl) dX1_wrong_9
