set_option maxRecDepth 100000
set_option maxHeartbeats 4000000 in
/-- KnowDiskLaw.at: catches what KnowDisk.at throws -/
theorem m_X0_at (l : Launch) (hst : l.stackTraces = false) (g : GG) (w v : GW) (ad : Nat → Nat) (o : Nat) (f : Nat → Int64) (cn : Nat) (ru fu ch : Bool) (dk : Sec) (wt : List (Nat × Sec)) (ld : Nat → Option Sec) (pl : Nat → Option Nat) (st kp : List (Int32 × Int64)) (hR : RX g w ad (cn, ru, fu, ch, dk, wt, ld, pl, st, kp)) (hI : InvK (cn, ru, fu, ch, dk, wt, ld, pl, st, kp)) (hwo : w o = none) (x i : Int32) : Met l yX0_at (wsW_ yX0_at cX0_at 5 (some .int) [((0 : Nat), (10 : Nat), (13 : Nat), (13 : Nat))]) ({ frames := 10, cells := 6, slots := 259, locals := 10640 } : Room) (gP g [.ref (ad 0), .int x, .int i, .ref o] (gu w o (eL g 1 f)) v) (va_Qi (fun (r : Int32) (w' : GW) => ∃ (w2 : GW) (f2 : Nat → Int64), w' = gu w2 o (eL g 1 f2) ∧ w2 o = none ∧ RX g w2 ad (cn, ru, fu, ch, dk, wt, ld, pl, st, kp) ∧ r = bI (opAt (cn, ru, fu, ch, dk, wt, ld, pl, st, kp) x i).isNone ∧ ∀ b, opAt (cn, ru, fu, ch, dk, wt, ld, pl, st, kp) x i = some b → f2 0 = b.toInt32.toInt64) (gB g v) (gA g)) 6 259 (gA g) := by
  refine gmw_of (by decide) (Nat.le_of_ble_eq_true rfl) ?_
  intro p e s m below meth c ls C htb h hl
  have C : Cx g p s m ([.ref (ad 0), .int x, .int i, .ref o] : List Value).toArray meth c cX0_at 5 RX0 (some .int) := C
  obtain ⟨hx, hb, hml, hown, hts, hr, hlk, hG⟩ := id C
  have hl : lv_has ls 5 [(0, .ref (ad 0)), (1, .int x), (2, .int i), (3, .ref o)] := hl
  obtain ⟨fP, fl, lb, wE, sE, kE, hX⟩ := id hR
  have hx0 := hX.1.1
  obtain ⟨h, hvo⟩ := h.mb hwo
  refine lv_aload_n hx hb dX0_at_0 rfl (lv_at hl 3 rfl) ?_
  refine lv_iconst (v := nI 0) hx hb dX0_at_1 (by decide) ?_
  refine lv_aload_n hx hb dX0_at_2 rfl (lv_at hl 0 rfl) ?_
  refine lv_iload_n hx hb dX0_at_3 rfl (lv_at hl 1 rfl) ?_
  refine lv_iload_n hx hb dX0_at_4 rfl (lv_at hl 2 rfl) ?_
  refine vx_calli (vx_runV (As := [.int x, .int i]) (rest := [.int (nI 0), .ref o]) C.fix (m_X1_at l hst g w (gu v o (eL g 1 f)) ad cn ru fu ch dk wt ld pl st kp hR hI x i) (cwV 2 hts (lw_V q714 q715 q716 q43 q717) rfl rfl rfl (by decide +kernel) ⟨Nat.le_of_ble_eq_true rfl, Nat.le_of_ble_eq_true rfl⟩) (gp_V C h [.int x, .int i] (Cn := RX1) (T := TX1) (N := 10) rfl hx0) rfl rfl hl.1 rfl (lv_room (Nat.le_of_ble_eq_true rfl)) dX0_at_5 ⟨Nat.le_of_ble_eq_true rfl, Nat.le_of_ble_eq_true rfl⟩) h.2 (fun _ _ q => q) (fun _ q => q) (fun _ _ q => q) (fun E ce q9 u t H1 locs1 ht hvm hp hB hz hk hS hce hcv hcl => ?_) (fun r u t H1 locs1 ht hvm hp hB hz hk hS => ?_)
  · obtain ⟨hp1, hp2⟩ := hp
    obtain ⟨rfl, hB⟩ := hB
    have h : SH g u (gu v o (eL g 1 f)) s H1 locs1 := ⟨by rw [← ht]; exact hB, hS⟩
    obtain ⟨h, huo⟩ := h.mv hvo
    refine vx_catch (own := RX0) (name := exN) hown [] ⟨0, 10, 13, 13⟩ [] (by rw [htb]; rfl) (fun z hz => nomatch hz) (by decide) (by decide) (hts _ q641) (va_Nw.use rfl (hG.2.2.1 _ q690 rfl)) hce hcv hcl ?_
    refine lv_astore (lv' := [(4, .ref q9), (0, .ref (ad 0)), (1, .int x), (2, .int i), (3, .ref o)]) hx hb dX0_at_13 hl (by decide) rfl (fun ls hl => ?_)
    refine lv_iconst (v := (1)) hx hb dX0_at_15 (by decide) ?_
    exact gr_i C h (ty := .int) rfl rfl ⟨u, f, rfl, huo, hp2, by rw [hp1]; rfl, fun b z => by rw [hp1] at z; cases z⟩ (Nat.le_of_ble_eq_true rfl) (Nat.le_of_ble_eq_true rfl) dX0_at_16
  · obtain ⟨⟨bb, hb1, hb2⟩, hX2⟩ := hp
    have h : SH g u (gu v o (eL g 1 f)) s H1 locs1 := ⟨by rw [← ht]; exact hB, hS⟩
    obtain ⟨h, huo⟩ := h.mv hvo
    refine lv_i2l hx hb dX0_at_8 rfl ?_
    refine gx_last C h (a := o) gu_s 0 rfl ⟨by decide, by decide⟩ dX0_at_9 (fun H locs h => ?_)
    refine lv_goto (tgt := 17) hx hb dX0_at_10 (by decide) ?_
    refine lv_iconst (v := (0)) hx hb dX0_at_17 (by decide) ?_
    exact gr_i C h (ty := .int) rfl rfl ⟨u, vp_updL f 0 r.toInt64, gu_gu, huo, hX2, by rw [hb1]; rfl, fun b z => by rw [hb1] at z; cases z; rw [hb2]; simp [vp_updL]⟩ (Nat.le_of_ble_eq_true rfl) (Nat.le_of_ble_eq_true rfl) dX0_at_18
