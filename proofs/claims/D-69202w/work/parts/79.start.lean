set_option maxRecDepth 100000
theorem arr_prim {args : Array Value} {s : State} {ty : FieldType} (h : (Cond.arrayClass ty).before args s = true) : ∃ cA : ClassId, ArrOfT s cA ty ∧ s.vm.findClass ("[" ++ ty.toString) = some cA := by
  obtain ⟨cA, kA, comp, h1, h2, h3⟩ := Cond.arrayClass_spec h
  exact ⟨cA, fun n z => ⟨fun k h => (by cases h), kA, h2, comp, h3⟩, h1⟩
theorem arr_obj {args : Array Value} {s : State} {C : String} (h : (Cond.arrayOver (.object C)).before args s = true) : ∃ cA : ClassId, ArrOfT s cA (.object C) ∧ va_RA s cA (.object C) := by
  obtain ⟨comp, cA, kA, h1, -, h2, h3, h4⟩ := Cond.arrayOver_spec h
  exact ⟨cA, fun n z => ⟨fun k h => (by cases h), kA, h2, comp, h3⟩, kA, comp, h2, h3, h1, h4⟩
theorem len0 {args : Array Value} {s : State} {t : Term} {a : Addr} {cell : Cell} (h : (Cond.eq (.length t) (.int 0)).before args s = true) (ht : t.eval args s none [] s = some (.ref a)) (hc : s.heap[a]? = some cell) : cell.slots.size = 0 := by
  cases hat : s.arrayAt? a with
  | none => simp [Cond.before, Cond.holds, Cond.value, Term.eval, ht, hat] at h
  | some c2 =>
    have e : c2 = cell := Option.some.inj ((State.arrayAt?_spec hat).1.symm.trans hc)
    subst e
    by_cases hsm : c2.slots.size < 2 ^ 31
    · have hev : (Term.length t).eval args s none [] s = some (.int c2.slots.size.toInt32) := by
        simp only [Term.eval, ht, hat, Option.bind_eq_bind, Option.bind_some]
        rw [if_pos (by simpa using hsm)]; rfl
      have hv := Cond.eq_ints hev (show (Term.int 0).eval args s none [] s = some (.int 0) from rfl)
      have hd : c2.slots.size.toInt32 = 0 := by simpa [Cond.before, Cond.holds, hv] using h
      have h2 : (nI c2.slots.size).toInt = (0 : Int32).toInt := congrArg Int32.toInt hd
      rw [nI_toInt hsm] at h2
      have h3 : ((c2.slots.size : Nat) : Int) = 0 := h2
      omega
    · simp only [Cond.before, Cond.holds, Cond.value, Term.eval, ht, hat, Option.bind_eq_bind, Option.bind_some] at h
      rw [if_neg (by simpa using hsm)] at h
      simp at h
theorem nw_of {args : Array Value} {s : State} (hts : ∀ w ∈ lw_tbl, w.before args s = true) : NW s := by
  intro w hw hk
  have h := hts w hw
  cases w with
  | methodLinkNest a i x q => exact va_Nw.of rfl h
  | fieldLinkNest a i b n d q => exact va_Nw.of rfl h
  | castable a b => exact va_Nw.of rfl h
  | declares x => exact va_Nw.of rfl h
  | _ => cases hk
set_option maxHeartbeats 4000000 in
/-- what holds of the law's entry -/
theorem law_gs {s : State} {b : Nat} (hts0 : ∀ w ∈ lw_tbl, w.before #[Value.ref b] s = true) (hgv : (Jvm.Cond.and given_1 narrow_1).before #[Value.ref b] s = true) : ∃ g : GG, g.2.2.1 = s.heap.size ∧ GS g s s.heap := by
  have hts : ∀ w ∈ lw_all, w.before #[Value.ref b] s = true := fun w h => hts0 w (lw_all_tbl h)
  have hs := flat_of_before _ hgv
  obtain ⟨c0, i0, k0⟩ := u_known hts in_X1 (hts _ q71)
  obtain ⟨c1, i1, k1⟩ := u_known hts in_X4 (hts _ q343)
  obtain ⟨c2, i2, k2⟩ := u_known hts in_X2 (hts _ q134)
  obtain ⟨c3, i3, k3⟩ := u_known hts in_X5 (hts _ q487)
  obtain ⟨c4, i4, k4⟩ := u_known hts in_X3 (hts _ q722)
  obtain ⟨c5, i5, k5⟩ := u_known hts in_J1 (hts _ q81)
  obtain ⟨c6, i6, k6⟩ := u_known hts in_J3 (hts _ q105)
  obtain ⟨c7, i7, k7⟩ := u_known hts in_J7 (hts _ q267)
  obtain ⟨c8, i8, k8⟩ := u_known hts in_J9 (hts _ q407)
  obtain ⟨tB, aB, fB⟩ := arr_prim (hts _ q149)
  obtain ⟨tI, aI, fI⟩ := arr_prim (hts _ q103)
  obtain ⟨tZ, aZ, fZ⟩ := arr_prim (hts _ q799)
  obtain ⟨tL, aL, fL⟩ := arr_prim (hts _ q800)
  obtain ⟨tS, aS, fS⟩ := arr_obj (hts0 _ q79)
  obtain ⟨tO, aO, fO⟩ := arr_obj (hts0 _ q90)
  have hex : (Cond.exactly (.static "java/util/ArrayList" "DEFAULTCAPACITY_EMPTY_ELEMENTDATA" "[Ljava/lang/Object;") "[Ljava/lang/Object;").before #[Value.ref b] s = true := hs _ (by decide +kernel)
  have hle : (Cond.eq (.length (.static "java/util/ArrayList" "DEFAULTCAPACITY_EMPTY_ELEMENTDATA" "[Ljava/lang/Object;")) (.int 0)).before #[Value.ref b] s = true := hs _ (by decide +kernel)
  have hU : (Cond.isRef (.static Bundle.tN "UNASSIGNED_STACK" Bundle.steD)).before #[Value.ref b] s = true := hs _ (by decide +kernel)
  have hN : (Cond.isRef (.static Bundle.tN "SUPPRESSED_SENTINEL" Bundle.listD)).before #[Value.ref b] s = true := hs _ (by decide +kernel)
  have hmi : (Cond.isRef (.mirror "[Ljava/lang/Object;")).before #[Value.ref b] s = true := hs _ (by decide +kernel)
  obtain ⟨E0, cE, cell, kE, z1, z2, z3, -, z5, z6, -⟩ := Cond.exactly_spec (args := #[Value.ref b]) (first := s) (o := none) (s := s) (idx := []) (t := (.static "java/util/ArrayList" "DEFAULTCAPACITY_EMPTY_ELEMENTDATA" "[Ljava/lang/Object;")) (cls := "[Ljava/lang/Object;") hex
  obtain ⟨mi, hMi⟩ := va_Mi.of hmi
  have hsz := len0 hle z1 z3
  have hE0 : E0 < s.heap.size := (Array.getElem?_eq_some_iff.mp z3).1
  refine ⟨((fun c => [c0, c1, c2, c3, c4, c5, c6, c7, c8].getD c 0, fun c => [i0, i1, i2, i3, i4, i5, i6, i7, i8].getD c (fun _ => 0)), (fun k => [tB, tI, tZ, tL, tS, tO].getD k 0), s.heap.size, E0, mi), rfl, ?_⟩
  have hA : ∀ a : Nat, a < s.heap.size → ¬ s.heap.size ≤ a := fun a h => Nat.not_le.mpr h
  have hcO : s.vm.findClass "[Ljava/lang/Object;" = some tO := va_nmO fO (by decide +kernel)
  refine ⟨⟨fun c q hq => ?_, fun k q hq => ?_⟩, Nat.le_refl _, nw_of hts0, ⟨va_AO.of (hts0 _ q79), va_AO.of (hts0 _ q90)⟩, ⟨va_Fw.of (hts0 _ q295) (hts0 _ q294) (hts0 _ q300) (hts0 _ q298) (hts0 _ q296), va_Fw.of (hts0 _ q311) (hts0 _ q310) (hts0 _ q315) (hts0 _ q313) (hts0 _ q296), va_Fw.of (hts0 _ q295) (hts0 _ q294) (hts0 _ q306) (hts0 _ q304) (hts0 _ q302), va_Fw.of (hts0 _ q311) (hts0 _ q310) (hts0 _ q324) (hts0 _ q322) (hts0 _ q302)⟩, ⟨va_Zof (hts0 _ q114) (hts _ q47) z1 hA, ⟨cell, z3, ?_, hsz, z5⟩, hA _ hE0⟩, hMi, vx_Zqof (hts0 _ q659) (hts _ q61) hU hA, vx_Zqof (hts0 _ q661) (hts _ q61) hN hA⟩
  · rcases c with _ | _ | _ | _ | _ | _ | _ | _ | _ | c
    · cases hq; exact k0
    · cases hq; exact k1
    · cases hq; exact k2
    · cases hq; exact k3
    · cases hq; exact k4
    · cases hq; exact k5
    · cases hq; exact k6
    · cases hq; exact k7
    · cases hq; exact k8
    · have := (List.getElem?_eq_some_iff.mp hq).1; exact absurd this (by show ¬ (c + 9 < 9); omega)
  · rcases k with _ | _ | _ | _ | _ | _ | k
    · cases hq; exact ⟨aB, fB⟩
    · cases hq; exact ⟨aI, fI⟩
    · cases hq; exact ⟨aZ, fZ⟩
    · cases hq; exact ⟨aL, fL⟩
    · cases hq; exact ⟨aS, fS⟩
    · cases hq; exact ⟨aO, fO⟩
    · have := (List.getElem?_eq_some_iff.mp hq).1; exact absurd this (by show ¬ (k + 6 < 6); omega)
  · exact Option.some.inj (z6 ▸ (z2.symm.trans hcO)) 
set_option maxHeartbeats 4000000 in
theorem whole_start {p : Program} {e : Env} {s : State} {m : MethodId} {below : List Frame} {meth : Method} {c : Code} (l : Launch) (hflags : l.flags = flags0) {b L : Nat} {xs : Nat → Int32} (hL : L ≤ 321) (C0 : lw_At p s m meth c b L xs) : W p l e room_1 s m #[Value.ref b] below meth c s.heap [] 0 0 (lw_Z below #[Value.ref b] s) (entryFrame m ([Value.ref b] : List Value).toArray 7) := by
  have hst : l.stackTraces = false := by unfold Launch.stackTraces; rw [hflags]; decide +kernel
  obtain ⟨hx, hb, hr, hml, hown, hts0, hXs, hbl, hlk, hgv⟩ := C0
  obtain ⟨g, hfl, hG⟩ := law_gs hts0 hgv
  have hts : ∀ w ∈ lw_all, w.before #[Value.ref b] s = true := fun w h => hts0 w (lw_all_tbl h)
  have C : Cx g p s m #[Value.ref b] meth c cL_law 7 RX0 ret := ⟨hx, hb, hml, hown, hts, hr, hlk, hG⟩
  have hbA : ¬ g.2.2.1 ≤ b := by omega
  have hl := lv_entry ([.ref b]) (n := 7) (Nat.le_of_ble_eq_true rfl)
  rw [lg_entry_eq]
  generalize (lg_sl ([.ref b]) ++ List.replicate (7 - (lg_sl ([.ref b])).length) Slot.unset).toArray = ls at hl ⊢
  have hl : lv_has ls 7 [(0, .ref b)] := hl
  obtain ⟨v, hv⟩ : ∃ z_ : GW, z_ = fun _ => none := ⟨_, rfl⟩
  obtain ⟨w0, ew0⟩ : ∃ z_ : GW, z_ = gu v g.2.2.2.1 (eO g 0 (fun _ => none)) := ⟨_, rfl⟩
  have hE0 : w0 g.2.2.2.1 = some (eO g 0 (fun _ => none)) := by rw [ew0]; exact gu_s
  have h : SH g w0 v s s.heap [] := by
    refine ⟨⟨fun a e1 ha => ?_, fun a e1 ha => by rw [hv] at ha; cases ha, fun a => Or.inr (by rw [hv])⟩, va_S.rf⟩
    rw [ew0] at ha
    by_cases q : a = g.2.2.2.1
    · subst q
      rw [gu_s] at ha
      cases ha
      exact Or.inr ⟨g.2.1 5, _, rfl, hG.2.2.2.2.2.1.2.2, hG.2.2.2.2.2.1.2.1⟩
    · rw [gu_n q, hv] at ha
      cases ha
  refine gx_new C h (ci := 0) (fs := [.null, .int (nI 0), .int (bI false), .int (bI false), .null, .null, .int (bI false), .null, .null, .null]) (Cn := RX1) (T := TX1) (N := 10) rfl in_X1 tyX1 tyX1_ok q70 q71 q43 (fun j hj => by rcases (show j = 0 ∨ j = 1 ∨ j = 2 ∨ j = 3 ∨ j = 4 ∨ j = 5 ∨ j = 6 ∨ j = 7 ∨ j = 8 ∨ j = 9 by omega) with rfl | rfl | rfl | rfl | rfl | rfl | rfl | rfl | rfl | rfl <;> rfl) (Nat.le_of_ble_eq_true rfl) (Nat.le_of_ble_eq_true rfl) dL_law_0 (fun x0 H hn_1 hn_1v h => ?_)
  obtain ⟨w_2, ew_2⟩ : ∃ z_ : GW, z_ = gu w0 x0 (ob 0 [.null, .int (nI 0), .int (bI false), .int (bI false), .null, .null, .int (bI false), .null, .null, .null]) := ⟨_, rfl⟩
  have h : SH g w_2 v s H [] := by rw [ew_2]; exact h
  have f_3 : w_2 g.2.2.2.1 = some (eO g 0 (fun _ => none)) := by rw [ew_2]; exact (gu_n (g_neN hE0 hn_1)).trans hE0
  have f_4 : w_2 x0 = some (ob 0 [.null, .int (nI 0), .int (bI false), .int (bI false), .null, .null, .int (bI false), .null, .null, .null]) := by rw [ew_2]; exact gu_s
  refine lv_dup hx hb dL_law_3 rfl ?_
  refine lv_aload_n hx hb dL_law_4 rfl (lv_at hl 0 rfl) ?_
  refine lv_iconst (v := nI 0) hx hb dL_law_5 (by decide) ?_
  refine gc_i (va_runS (As := [.ref b, .int (nI 0)]) (rest := [.ref x0, .ref x0]) C.fix (m_X0_cell l g w_2 v b L xs (by omega) hbA) (va_cwS 2 hts (lw_S q635 q636 q42 q637) rfl rfl rfl (by decide +kernel) ⟨Nat.le_of_ble_eq_true rfl, Nat.le_of_ble_eq_true rfl⟩) (gp_X C h hXs hbl hbA _) rfl rfl hl.1 rfl (lv_room (Nat.le_of_ble_eq_true rfl)) dL_law_6 ⟨Nat.le_of_ble_eq_true rfl, Nat.le_of_ble_eq_true rfl⟩) h (fun rcl_5 wcl_5 H locs hp h => ?_)
  obtain ⟨ercl_5, ewcl_5⟩ := hp
  rw [ercl_5]
  rw [ewcl_5] at h
  obtain ⟨xv, hxv⟩ : ∃ z_ : Int32, z_ = (if 0 < L then xs 0 else 0) := ⟨_, rfl⟩
  rw [← hxv]
  refine gc_v (va_runI (As := [.int xv]) (rest := [.ref x0]) C.fix (m_X1_init l g w_2 v x0 xv f_4 f_3) (cwI 1 hts (lw_meth q74) rfl rfl rfl (hts _ q43) (hts _ q72) (hts _ q73) rfl (by decide +kernel) ⟨Nat.le_of_ble_eq_true rfl, Nat.le_of_ble_eq_true rfl⟩) (gp_S C h _) rfl rfl hl.1 rfl (lv_room (Nat.le_of_ble_eq_true rfl)) dL_law_9 ⟨Nat.le_of_ble_eq_true rfl, Nat.le_of_ble_eq_true rfl⟩) h (fun w_7 H locs hp h => ?_)
  obtain ⟨ax, hax, hRX⟩ := hp
  rw [← hax]
  refine lv_astore_n (lv' := [(1, .ref (ax 0)), (0, .ref b)]) hx hb dL_law_12 rfl hl (by decide) rfl (fun ls hl => ?_)
  have h := h.swap
  obtain ⟨we, hwe⟩ : ∃ z_ : GW, z_ = v := ⟨_, rfl⟩
  rw [← hwe] at h
  obtain ⟨v, hv2⟩ : ∃ z_ : GW, z_ = w_7 := ⟨_, rfl⟩
  rw [← hv2] at h hRX
  refine gx_new C h (ci := 4) (fs := [.int (nI 0), .int (bI false), .int (bI false), .null, .null, .null, .null, .null, .int (bI false), .null, .null, .int (nI 0), .int (nI 0), .null, .null, .int (nI 0), .int (nI 0), .null, .null, .int (nI 0), .int (bI false), .null]) (Cn := RX3) (T := TX3) (N := 22) rfl in_X3 tyX3 tyX3_ok q721 q722 q53 (fun j hj => by rcases (show j = 0 ∨ j = 1 ∨ j = 2 ∨ j = 3 ∨ j = 4 ∨ j = 5 ∨ j = 6 ∨ j = 7 ∨ j = 8 ∨ j = 9 ∨ j = 10 ∨ j = 11 ∨ j = 12 ∨ j = 13 ∨ j = 14 ∨ j = 15 ∨ j = 16 ∨ j = 17 ∨ j = 18 ∨ j = 19 ∨ j = 20 ∨ j = 21 by omega) with rfl | rfl | rfl | rfl | rfl | rfl | rfl | rfl | rfl | rfl | rfl | rfl | rfl | rfl | rfl | rfl | rfl | rfl | rfl | rfl | rfl | rfl <;> rfl) (Nat.le_of_ble_eq_true rfl) (Nat.le_of_ble_eq_true rfl) dL_law_13 (fun y0 H hn_8 hn_8v h => ?_)
  obtain ⟨w_9, ew_9⟩ : ∃ z_ : GW, z_ = gu we y0 (ob 4 [.int (nI 0), .int (bI false), .int (bI false), .null, .null, .null, .null, .null, .int (bI false), .null, .null, .int (nI 0), .int (nI 0), .null, .null, .int (nI 0), .int (nI 0), .null, .null, .int (nI 0), .int (bI false), .null]) := ⟨_, rfl⟩
  have h : SH g w_9 v s H locs := by rw [ew_9]; exact h
  have f_10 : w_9 y0 = some (ob 4 [.int (nI 0), .int (bI false), .int (bI false), .null, .null, .null, .null, .null, .int (bI false), .null, .null, .int (nI 0), .int (nI 0), .null, .null, .int (nI 0), .int (nI 0), .null, .null, .int (nI 0), .int (bI false), .null]) := by rw [ew_9]; exact gu_s
  refine lv_dup hx hb dL_law_16 rfl ?_
  refine lv_aload_n hx hb dL_law_17 rfl (lv_at hl 1 rfl) ?_
  refine lv_iconst (v := nI 0) hx hb dL_law_18 (by decide) ?_
  refine gc_i (va_runS (As := [.ref b, .int (nI 0)]) (rest := [.ref y0, .ref y0]) C.fix (m_X0_cell l g w_9 v b L xs (by omega) hbA) (va_cwS 2 hts (lw_S q635 q636 q42 q637) rfl rfl rfl (by decide +kernel) ⟨Nat.le_of_ble_eq_true rfl, Nat.le_of_ble_eq_true rfl⟩) (gp_X C h hXs hbl hbA _) rfl rfl hl.1 rfl (lv_room (Nat.le_of_ble_eq_true rfl)) dL_law_19 ⟨Nat.le_of_ble_eq_true rfl, Nat.le_of_ble_eq_true rfl⟩) h (fun rcl_11 wcl_11 H locs hp h => ?_)
  obtain ⟨ercl_11, ewcl_11⟩ := hp
  rw [ercl_11]
  rw [ewcl_11] at h
  rw [← hxv]
  refine gc_v (va_runI (As := [.int xv]) (rest := [.ref y0]) C.fix (m_X3_init l g w_9 v y0 xv f_10) (cwI 1 hts (lw_meth q725) rfl rfl rfl (hts _ q53) (hts _ q723) (hts _ q724) rfl (by decide +kernel) ⟨Nat.le_of_ble_eq_true rfl, Nat.le_of_ble_eq_true rfl⟩) (gp_S C h _) rfl rfl hl.1 rfl (lv_room (Nat.le_of_ble_eq_true rfl)) dL_law_22 ⟨Nat.le_of_ble_eq_true rfl, Nat.le_of_ble_eq_true rfl⟩) h (fun w_13 H locs hp h => ?_)
  obtain ⟨am, ham, hRM⟩ := hp
  rw [← ham]
  refine lv_astore_n (lv' := [(2, .ref (am 0)), (1, .ref (ax 0)), (0, .ref b)]) hx hb dL_law_25 rfl hl (by decide) rfl (fun ls hl => ?_)
  refine lv_iconst (v := nI 1) hx hb dL_law_26 (by decide) ?_
  refine gx_newa C h 3 (atype := .long) q800 (ty := .long) rfl rfl (N' := 1) (x := .inr (.inl (fun _ => 0))) (fun _ => rfl) (rfl) (Nat.le_of_ble_eq_true rfl) (Nat.le_of_ble_eq_true rfl) (Nat.le_of_ble_eq_true rfl) (Nat.le_of_ble_eq_true rfl) dL_law_27 (fun o H hn_14 hn_14v h => ?_)
  obtain ⟨w_15, ew_15⟩ : ∃ z_ : GW, z_ = gu w_13 o (eL g 1 (fun _ => 0)) := ⟨_, rfl⟩
  have h : SH g w_15 v s H locs := by rw [ew_15]; exact h
  have f_16 : w_15 o = some (eL g 1 (fun _ => 0)) := by rw [ew_15]; exact gu_s
  refine lv_astore_n (lv' := [(3, .ref o), (2, .ref (am 0)), (1, .ref (ax 0)), (0, .ref b)]) hx hb dL_law_29 rfl hl (by decide) rfl (fun ls hl => ?_)
  refine lv_iconst (v := nI 1) hx hb dL_law_30 (by decide) ?_
  refine lv_istore (lv' := [(4, .int (nI 1)), (3, .ref o), (2, .ref (am 0)), (1, .ref (ax 0)), (0, .ref b)]) hx hb dL_law_31 hl (by decide) rfl (fun ls hl => ?_)
  rw [ew_15] at h
  exact law_loop l hst g hL C hXs hbl hfl ax am o 65 0 25 50733 (initK xv) v w_13 (fun _ => 0) _ _ _ (by omega) (by omega) (by omega) (by omega) (inv_init xv) hRX hRM hn_14 h.swap (lv_sub hl [0, 4, 3, 2, 1] rfl)
