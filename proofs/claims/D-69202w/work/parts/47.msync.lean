set_option maxRecDepth 100000
theorem write_D {fi n : Nat} {dk : Sec} {wt : List (Nat × Sec)} {x : Nat × Sec} {fD fT fY : Nat → Int32} (hx : x.1 < 64) (hn : n ≤ 32) (r1 : ∀ j, j < 2048 → fD j = ub (dk j)) (r7 : ∀ (i : Nat) (y : Nat × Sec), (x :: wt)[i]? = some y → fT (fi + i) = nI y.1 ∧ ∀ j, j < 32 → fY (32 * (fi + i) + j) = ub (y.2 j)) : ∀ j, j < 2048 → va_cpy fY fD (32 * fi) (32 * x.1) n j = ub (wrD dk x n j) := by
  intro j hj
  unfold wrD va_cpy
  by_cases c : 32 * x.1 ≤ j ∧ j < 32 * x.1 + n
  · rw [if_pos c, if_pos c]
    have := (r7 0 x rfl).2 (j - 32 * x.1) (by omega)
    rw [Nat.add_zero] at this
    rw [this, Nat.zero_add]
  · rw [if_neg c, if_neg c]; exact r1 j hj
theorem fold32 {wt : List (Nat × Sec)} {k : Nat} : ∀ {s s' : Sec}, (∀ i, i < 32 → s i = s' i) → ∀ i, i < 32 → wt.foldl (fun s x => if x.1 = k then x.2 else s) s i = wt.foldl (fun s x => if x.1 = k then x.2 else s) s' i := by
  induction wt with
  | nil => intro s s' h i hi; exact h i hi
  | cons x l ih =>
    intro s s' h i hi
    rw [List.foldl_cons, List.foldl_cons]
    refine ih (fun i hi => ?_) i hi
    by_cases c : x.1 = k
    · rw [if_pos c, if_pos c]
    · rw [if_neg c, if_neg c]; exact h i hi
theorem sec_wr {dk : Sec} {x : Nat × Sec} {k i : Nat} (hi : i < 32) : sec (wrD dk x 32) k i = (if x.1 = k then x.2 else sec dk k) i := by
  rw [sec_at hi]
  unfold wrD va_cpy
  by_cases c : x.1 = k
  · subst c
    rw [if_pos (by omega), if_pos rfl, show 0 + (32 * x.1 + i - 32 * x.1) = i by omega]
  · rw [if_neg (by omega), if_neg c, sec_at hi]
theorem lat_wr (dk : Sec) (x : Nat × Sec) (wt : List (Nat × Sec)) (k : Nat) : ∀ i, i < 32 → lat (wrD dk x 32) wt k i = lat dk (x :: wt) k i := by
  intro i hi
  unfold lat
  rw [List.foldl_cons]
  exact fold32 (fun i hi => sec_wr hi) i hi
theorem write_rm {g : GG} {w : GW} {ad : Nat → Nat} {N cn : Nat} {ru fu ch th : Bool} {fi be ne ke : Nat} {dk : Sec} {wt : List (Nat × Sec)} {ld : Nat → Option Sec} {pl : Nat → Option Nat} {st kp : List (Int32 × Int64)} {fD fL fO : Nat → Int32} {z : Nat → Bool} {fP fT fY fN : Nat → Int32} {fS : Nat → Int64} {fKn : Nat → Int32} {fK : Nat → Int64} {fH : Nat → Int32} {x : Nat × Sec} (hx : x.1 < 64) (hM : MW g w ad cn ru fu ch th (fi + 1) be ne ke (va_cpy fY fD (32 * fi) (32 * x.1) 32) fL fO z fP fT fY fN fS fKn fK fH) (r1 : ∀ j, j < 2048 → fD j = ub (dk j)) (r2 : ∀ k i, k < 64 → i < 32 → fL (32 * k + i) = ub (lat dk (x :: wt) k i)) (r3 : ∀ k c i, k < 64 → ld k = some c → i < 32 → fO (32 * k + i) = ub (c i)) (r4 : ∀ k, k < 64 → z k = (ld k).isSome) (r5 : ∀ p, p < 30 → fP p = plI (pl p)) (r6 : fi + ((x :: wt)).length = be) (r7 : ∀ (i : Nat) (y : Nat × Sec), ((x :: wt))[i]? = some y → fT (fi + i) = nI y.1 ∧ ∀ j, j < 32 → fY (32 * (fi + i) + j) = ub (y.2 j)) (r8 : ne + 1 = st.length) (r9 : ∀ (i : Nat) (x : Int32 × Int64), st[i]? = some x → fN i = x.1 ∧ fS i = x.2) (r10 : ke = kp.length) (r11 : ∀ (i : Nat) (x : Int32 × Int64), kp[i]? = some x → fKn i = x.1 ∧ fK i = x.2) (r12 : be + cntL ld ≤ N) (r13 : st.length ≤ N + 1) : RM g w ad N (cn, ru, fu, ch, wrD dk x 32, wt, ld, pl, st, kp) := by
  refine ⟨th, fi + 1, be, ne, ke, _, fL, fO, z, fP, fT, fY, fN, fS, fKn, fK, fH, hM, write_D hx (Nat.le_refl _) r1 r7, ?_, r3, r4, r5, ?_, ?_, r8, r9, r10, r11, r12, r13⟩
  · intro k i hk hi
    rw [r2 k i hk hi, lat_wr dk x wt k i hi]
  · simp at r6; omega
  · intro i y hy
    have := r7 (i + 1) y (by simpa using hy)
    rw [show fi + 1 + i = fi + (i + 1) by omega]
    exact this
theorem sync_S {ne : Nat} {st : List (Int32 × Int64)} {fN : Nat → Int32} {fS : Nat → Int64} (h : fN ne = (lastS st).1 ∧ fS ne = (lastS st).2) : ∀ (i : Nat) (x : Int32 × Int64), [lastS st][i]? = some x → upd fN 0 (fN ne) i = x.1 ∧ vp_updL fS 0 (fS ne) i = x.2 := by
  intro i x hx
  have hi : i < 1 := (List.getElem?_eq_some_iff.mp hx).1
  have : i = 0 := by omega
  subst this
  cases hx
  unfold upd vp_updL
  rw [if_pos rfl, if_pos rfl]
  exact h
theorem begin_rm {g : GG} {w : GW} {ad : Nat → Nat} {N cn : Nat} {ru fu th : Bool} {dk : Sec} {fD fL fO : Nat → Int32} {z : Nat → Bool} {fP fT fY fN : Nat → Int32} {fS : Nat → Int64} {fKn : Nat → Int32} {fK : Nat → Int64} {fH : Nat → Int32} {x : Int32} {y : Int64} (hM : MW g w ad cn ru fu false th 0 0 0 0 fD fL fO z fP fT fY (upd fN 0 x) (vp_updL fS 0 y) fKn fK fH) (r1 : ∀ j, j < 2048 → fD j = ub (dk j)) (q1 : ∀ q, q < 30 → fP q = -1) (q2 : ∀ q, q < 64 → z q = false) (q3 : ∀ q, q < 2048 → fL q = fD q) : RM g w ad N (beginK cn ru fu dk (x, y)) := by
  refine ⟨th, 0, 0, 0, 0, fD, fL, fO, z, fP, fT, fY, _, _, fKn, fK, fH, hM, r1, ?_, fun k c i _ h => (by cases h), fun k hk => q2 k hk, fun p hp => q1 p hp, rfl, fun i x hx => (by simp at hx), rfl, ?_, rfl, fun i x hx => (by simp at hx), ?_, by simp⟩
  · intro k i hk hi
    rw [q3 _ (by omega), r1 _ (by omega), lat_nil, sec_at hi]
  · intro i x0 hx
    have hi : i < 1 := (List.getElem?_eq_some_iff.mp hx).1
    have : i = 0 := by omega
    subst this
    cases hx
    unfold upd vp_updL
    exact ⟨if_pos rfl, if_pos rfl⟩
  · have : cntL (fun _ => none) = 0 := by decide +kernel
    omega
theorem tearN_le (t : Int32) : tearN t ≤ 32 := by
  unfold tearN
  split
  · omega
  · split
    · omega
    · rename_i h1 h2
      obtain ⟨j, hj, hx⟩ := nI_of2 (M := nI 32) (n := 32) (by decide) h1 (Int32.not_lt.mp h2)
      rw [hx, nI_clamp (by omega)]
      omega
theorem tearN_mid {t : Int32} (h1 : 0 ≤ t) (h2 : t ≤ nI 32) : nI (tearN t) = t := by
  unfold tearN
  rw [if_neg (Int32.not_lt.mpr h1), if_neg (Int32.not_lt.mpr h2)]
  obtain ⟨j, hj, hx⟩ := nI_of2 (M := nI 32) (n := 32) (by decide) (Int32.not_lt.mpr h1) h2
  rw [hx, nI_clamp (by omega)]
theorem clamp_le {q : Int32} {i : Nat} (hi : i < 2 ^ 31) : q ≤ nI i ↔ q.toNatClampNeg ≤ i := by
  rw [Int32.le_iff_toInt_le, nI_toInt hi]
  show _ ↔ q.toInt.toNat ≤ i
  omega
set_option maxHeartbeats 4000000 in
theorem m_X3_sync (l : Launch) (g : GG) (w v : GW) (ad : Nat → Nat) (N cn : Nat) (ru fu ch : Bool) (dk : Sec) (wt : List (Nat × Sec)) (ld : Nat → Option Sec) (pl : Nat → Option Nat) (st kp : List (Int32 × Int64)) (hR : RM g w ad N (cn, ru, fu, ch, dk, wt, ld, pl, st, kp)) (hI : InvK (cn, ru, fu, ch, dk, wt, ld, pl, st, kp)) (hN : N < 64)  : Met l yX3_sync (ws_ yX3_sync cX3_sync 1 (some .int)) ({ frames := 2, cells := 0, slots := 0, locals := 120 } : Room) (gP g [.ref (ad 0)] w v) (va_Qi (fun (r : Int32) (w' : GW) => r = (opSync (cn, ru, fu, ch, dk, wt, ld, pl, st, kp)).1 ∧ RM g w' ad (N + 1) (opSync (cn, ru, fu, ch, dk, wt, ld, pl, st, kp)).2) (gB g v) (gA g)) 0 0 (gA g) := by
  refine gm_of (by decide) (Nat.le_of_ble_eq_true rfl) ?_
  intro p e s m below meth c ls C hnm h hl
  have C : Cx g p s m ([.ref (ad 0)] : List Value).toArray meth c cX3_sync 1 RX3 (some .int) := C
  obtain ⟨hx, hb, hml, hown, hts, hr, hlk, hG⟩ := id C
  have hl : lv_has ls 1 [(0, .ref (ad 0))] := hl
  obtain ⟨th, fi, be, ne, ke, fD, fL, fO, z, fP, fT, fY, fN, fS, fKn, fK, fH, hM, r1, r2, r3, r4, r5, r6, r7, r8, r9, r10, r11, r12, r13⟩ := id hR
  obtain ⟨i1, i2, i3, i4, i5, i6, i7, i8, i9⟩ := id hI
  have hfb : fi ≤ be ∧ be ≤ 1200 := by omega
  have hne : ne < 1200 := by omega
  have hke : ke ≤ 4 := by omega
  have hcn : 2 ≤ cn ∧ cn ≤ 64 := by omega
  have hhel : ∀ k, k < 64 → heM fP fT fS fK fi be ne ke k = hel wt pl st kp k := fun k hk => br_hel i1.2 i2 i4 r5 r6 r7 r8 r9 r10 r11 hk
  have hKe := br_frS hcn hhel
  have hpl : ∀ q, q < 30 → fP q = -1 ∨ ∃ kk : Nat, kk < 64 ∧ fP q = nI kk := fun q hq => br_pls i1.2 i2 r5 hq
  obtain ⟨hinj, m0, m1, m2, m3, m4, m5, m6, m7, m8, m9, m10, m11, m12⟩ := id hM
  refine lv_aload_n hx hb dX3_sync_0 rfl (lv_at hl 0 rfl) ?_
  refine gx_get C h m0 (Cn := RX3) (T := TX3) (N := 22) rfl in_X3 1 (by decide) q733 rfl rfl dX3_sync_1 ?_
  refine lv_if_ne (tgt := 10) hx hb dX3_sync_4 (by decide) (fun c1 => ?_) (fun c1 => ?_)
  · skip
    have c1 : ru = true := bI_ne0.mp c1
    have loop : ∀ (n_ : Nat) (dk' : Sec) (wt' : List (Nat × Sec)) (w1 : GW) (H : Heap) (locs : List Loc) (ls : Array Slot), wt'.length < n_ → (∀ x, x ∈ wt' → x ∈ wt) → (wrAll dk' wt' = wrAll dk wt) → (RM g w1 ad N (cn, ru, fu, ch, dk', wt', ld, pl, st, kp)) → SH g w1 v s H locs → lv_has ls 1 [(0, .ref (ad 0))] → W p l e ({ frames := 2, cells := 0, slots := 0, locals := 120 } : Room) s m ([.ref (ad 0)] : List Value).toArray below meth c H locs 0 0 (MQ below (va_Qi (fun (r : Int32) (w' : GW) => r = (opSync (cn, ru, fu, ch, dk, wt, ld, pl, st, kp)).1 ∧ RM g w' ad (N + 1) (opSync (cn, ru, fu, ch, dk, wt, ld, pl, st, kp)).2) (gB g v) (gA g)) ([.ref (ad 0)] : List Value).toArray s 0 0 (gA g)) (F0 m 10 ls []) := by
      intro n_
      induction n_ with
      | zero => intros; exact absurd ‹_ < 0› (Nat.not_lt_zero _)
      | succ n_ ih =>
        intro dk' wt' w1 H locs ls hf hsub hall hR1  h hl
        obtain ⟨thq, fiq, beq, neq, keq, fDq, fLq, fOq, zq, fPq, fTq, fYq, fNq, fSq, fKnq, fKq, fHq, hMq, r1q, r2q, r3q, r4q, r5q, r6q, r7q, r8q, r9q, r10q, r11q, r12q, r13q⟩ := id hR1
        obtain ⟨hinj, nq_0, nq_1, nq_2, nq_3, nq_4, nq_5, nq_6, nq_7, nq_8, nq_9, nq_10, nq_11, nq_12⟩ := id hMq
        refine lv_aload_n hx hb dX3_sync_10 rfl (lv_at hl 0 rfl) ?_
        refine gx_get C h nq_0 (Cn := RX3) (T := TX3) (N := 22) rfl in_X3 11 (by decide) q743 rfl rfl dX3_sync_11 ?_
        refine lv_aload_n hx hb dX3_sync_14 rfl (lv_at hl 0 rfl) ?_
        refine gx_get C h nq_0 (Cn := RX3) (T := TX3) (N := 22) rfl in_X3 12 (by decide) q744 rfl rfl dX3_sync_15 ?_
        refine lv_icmp_ge (tgt := 30) hx hb dX3_sync_18 (by decide) (fun c2 => ?_) (fun c2 => ?_)
        · skip
          have c2 : beq ≤ fiq := (nI_leI (by omega) (by omega)).mp c2
          have hnil : wt' = [] := List.eq_nil_of_length_eq_zero (by omega)
          subst hnil
          refine lv_aload_n hx hb dX3_sync_30 rfl (lv_at hl 0 rfl) ?_
          refine gc_v (va_runV (As := []) (rest := []) C.fix (m_X3_settle l g w1 v ad cn ru fu ch thq fiq beq neq keq fDq fLq fOq zq fPq fTq fYq fNq fSq fKnq fKq fHq hMq (by simpa using r6q) (by omega) (by omega)) (cwV 0 hts (lw_V q893 q895 qs39 q53 q896) rfl rfl rfl (by decide +kernel) ⟨Nat.le_of_ble_eq_true rfl, Nat.le_of_ble_eq_true rfl⟩) (gp_V C h [] (Cn := RX3) (T := TX3) (N := 22) rfl nq_0) rfl rfl hl.1 rfl (lv_room (Nat.le_of_ble_eq_true rfl)) dX3_sync_31 ⟨Nat.le_of_ble_eq_true rfl, Nat.le_of_ble_eq_true rfl⟩) h (fun w_2 H locs hp h => ?_)
          obtain ⟨hinj, s0, s1, s2, s3, s4, s5, s6, s7, s8, s9, s10, s11, s12⟩ := id hp
          have hlast := br_last r8q r9q
          refine lv_aload_n hx hb dX3_sync_34 rfl (lv_at hl 0 rfl) ?_
          refine gx_get C h s0 (Cn := RX3) (T := TX3) (N := 22) rfl in_X3 13 (by decide) q745 rfl rfl dX3_sync_35 ?_
          refine lv_aload_n hx hb dX3_sync_38 rfl (lv_at hl 0 rfl) ?_
          refine gx_get C h s0 (Cn := RX3) (T := TX3) (N := 22) rfl in_X3 16 (by decide) q748 rfl rfl dX3_sync_39 ?_
          refine gx_iald C h s8 0 (rfl) (by omega) dX3_sync_42 ?_
          rw [show upd fNq 0 (fNq neq) 0 = (lastS st).1 by unfold upd; rw [if_pos rfl]; exact hlast.1]
          have eq : opSync (cn, ru, fu, ch, dk, wt, ld, pl, st, kp) = ((lastS st).1, (cn, ru, fu, ch, wrAll dk wt, [], ld, pl, [lastS st], kp)) := by unfold opSync; dsimp only; rw [if_neg (show ¬ ru = false by rw [c1]; decide)]
          exact gr_i C h (ty := .int) rfl (rfl) (by rw [eq, ← hall]; exact ⟨rfl, thq, 0, 0, 0, keq, fDq, fLq, fOq, zq, fPq, fTq, fYq, _, _, fKnq, fKq, fHq, hp, r1q, r2q, r3q, r4q, r5q, rfl, fun i x hx => (by simp at hx), rfl, sync_S hlast, r10q, r11q, by omega, by simp⟩) (Nat.le_of_ble_eq_true rfl) (Nat.le_of_ble_eq_true rfl) dX3_sync_43
        · skip
          have c2 : ¬ (beq ≤ fiq) := fun q => c2 ((nI_leI (by omega) (by omega)).mpr q)
          obtain ⟨x0, wt2, hwt⟩ : ∃ x0 wt2, wt' = x0 :: wt2 := by cases wt' with | nil => simp at r6q; omega | cons a b => exact ⟨a, b, rfl⟩
          subst hwt
          have hx0 := i4 x0 (hsub x0 List.mem_cons_self)
          have hT0 := (r7q 0 x0 rfl).1
          rw [Nat.add_zero] at hT0
          refine lv_aload_n hx hb dX3_sync_21 rfl (lv_at hl 0 rfl) ?_
          refine lv_bipush (v := nI 32) hx hb dX3_sync_22 (by decide) ?_
          refine gc_v (va_runV (As := [.int (nI 32)]) (rest := []) C.fix (m_X3_write l g w1 v ad cn ru fu ch thq fiq beq neq keq fDq fLq fOq zq fPq fTq fYq fNq fSq fKnq fKq fHq hMq 32 x0.1 (by omega) (by omega) hT0 (by omega)) (cwV 1 hts (lw_V q889 q891 qs38 q53 q892) rfl rfl rfl (by decide +kernel) ⟨Nat.le_of_ble_eq_true rfl, Nat.le_of_ble_eq_true rfl⟩) (gp_V C h [.int (nI 32)] (Cn := RX3) (T := TX3) (N := 22) rfl nq_0) rfl rfl hl.1 rfl (lv_room (Nat.le_of_ble_eq_true rfl)) dX3_sync_24 ⟨Nat.le_of_ble_eq_true rfl, Nat.le_of_ble_eq_true rfl⟩) h (fun w_4 H locs hp h => ?_)
          refine lv_goto (tgt := 10) hx hb dX3_sync_27 (by decide) ?_
          have hR2 : RM g w_4 ad N (cn, ru, fu, ch, wrD dk' x0 32, wt2, ld, pl, st, kp) := write_rm (by omega) hp r1q r2q r3q r4q r5q r6q r7q r8q r9q r10q r11q r12q r13q
          exact ih (wrD dk' x0 32) wt2 _ _ _ _ (by simp at hf; omega) (fun x hx => hsub x (List.mem_cons_of_mem _ hx)) hall hR2 h (lv_sub hl [0] rfl)
    exact loop (wt.length + 1) dk wt _ _ _ _ (by omega) (fun x hx => hx) rfl hR h (lv_sub hl [0] rfl)
  · skip
    have c1 : ru = false := bI_eq0.mp c1
    refine lv_bipush (v := (-3)) hx hb dX3_sync_7 (by decide) ?_
    have eq : opSync (cn, ru, fu, ch, dk, wt, ld, pl, st, kp) = (-3, (cn, ru, fu, ch, dk, wt, ld, pl, st, kp)) := by unfold opSync; dsimp only; rw [if_pos c1]
    exact gr_i C h (ty := .int) rfl (rfl) (by rw [eq]; exact ⟨rfl, hR.mono⟩) (Nat.le_of_ble_eq_true rfl) (Nat.le_of_ble_eq_true rfl) dX3_sync_9
set_option maxHeartbeats 4000000 in
theorem m_X3_cut (l : Launch) (g : GG) (w v : GW) (ad : Nat → Nat) (N cn : Nat) (ru fu ch : Bool) (dk : Sec) (wt : List (Nat × Sec)) (ld : Nat → Option Sec) (pl : Nat → Option Nat) (st kp : List (Int32 × Int64)) (hR : RM g w ad N (cn, ru, fu, ch, dk, wt, ld, pl, st, kp)) (hI : InvK (cn, ru, fu, ch, dk, wt, ld, pl, st, kp)) (hN : N < 64) (q t : Int32)  : Met l yX3_cut (ws_ yX3_cut cX3_cut 4 none) ({ frames := 2, cells := 0, slots := 0, locals := 120 } : Room) (gP g [.ref (ad 0), .int q, .int t] w v) (va_Qv (fun (w' : GW) => RM g w' ad (N + 1) (opCut (cn, ru, fu, ch, dk, wt, ld, pl, st, kp) q t)) (gB g v) (gA g)) 0 0 (gA g) := by
  refine gm_of (by decide) (Nat.le_of_ble_eq_true rfl) ?_
  intro p e s m below meth c ls C hnm h hl
  have C : Cx g p s m ([.ref (ad 0), .int q, .int t] : List Value).toArray meth c cX3_cut 4 RX3 none := C
  obtain ⟨hx, hb, hml, hown, hts, hr, hlk, hG⟩ := id C
  have hl : lv_has ls 4 [(0, .ref (ad 0)), (1, .int q), (2, .int t)] := hl
  obtain ⟨th, fi, be, ne, ke, fD, fL, fO, z, fP, fT, fY, fN, fS, fKn, fK, fH, hM, r1, r2, r3, r4, r5, r6, r7, r8, r9, r10, r11, r12, r13⟩ := id hR
  obtain ⟨i1, i2, i3, i4, i5, i6, i7, i8, i9⟩ := id hI
  have hfb : fi ≤ be ∧ be ≤ 1200 := by omega
  have hne : ne < 1200 := by omega
  have hke : ke ≤ 4 := by omega
  have hcn : 2 ≤ cn ∧ cn ≤ 64 := by omega
  have hhel : ∀ k, k < 64 → heM fP fT fS fK fi be ne ke k = hel wt pl st kp k := fun k hk => br_hel i1.2 i2 i4 r5 r6 r7 r8 r9 r10 r11 hk
  have hKe := br_frS hcn hhel
  have hpl : ∀ q, q < 30 → fP q = -1 ∨ ∃ kk : Nat, kk < 64 ∧ fP q = nI kk := fun q hq => br_pls i1.2 i2 r5 hq
  obtain ⟨hinj, m0, m1, m2, m3, m4, m5, m6, m7, m8, m9, m10, m11, m12⟩ := id hM
  refine lv_aload_n hx hb dX3_cut_0 rfl (lv_at hl 0 rfl) ?_
  refine gx_get C h m0 (Cn := RX3) (T := TX3) (N := 22) rfl in_X3 1 (by decide) q733 rfl rfl dX3_cut_1 ?_
  refine lv_if_ne (tgt := 8) hx hb dX3_cut_4 (by decide) (fun c1 => ?_) (fun c1 => ?_)
  · skip
    have c1 : ru = true := bI_ne0.mp c1
    refine lv_iconst (v := nI 0) hx hb dX3_cut_8 (by decide) ?_
    refine lv_istore_n (lv' := [(3, .int (nI 0)), (0, .ref (ad 0)), (1, .int q), (2, .int t)]) hx hb dX3_cut_9 rfl hl (by decide) rfl (fun ls hl => ?_)
    have fin : ∀ (dk' : Sec) (w1 : GW) (H : Heap) (locs : List Loc) (ls : Array Slot) (th : Bool) (fi be ne ke : Nat) (fD fL fO : Nat → Int32) (z : Nat → Bool) (fP fT fY fN : Nat → Int32) (fS : Nat → Int64) (fKn : Nat → Int32) (fK : Nat → Int64) (fH : Nat → Int32), dk' = cutD dk wt q.toNatClampNeg t → MW g w1 ad cn ru fu ch th fi be ne ke fD fL fO z fP fT fY fN fS fKn fK fH → (∀ j, j < 2048 → fD j = ub (dk' j)) → SH g w1 v s H locs → lv_has ls 4 [(0, .ref (ad 0))] → W p l e ({ frames := 2, cells := 0, slots := 0, locals := 120 } : Room) s m ([.ref (ad 0), .int q, .int t] : List Value).toArray below meth c H locs 0 0 (MQ below (va_Qv (fun (w' : GW) => RM g w' ad (N + 1) (opCut (cn, ru, fu, ch, dk, wt, ld, pl, st, kp) q t)) (gB g v) (gA g)) ([.ref (ad 0), .int q, .int t] : List Value).toArray s 0 0 (gA g)) (F0 m 73 ls []) := by
      intro dk' w1 H locs ls th fi be ne ke fD fL fO z fP fT fY fN fS fKn fK fH hdk hM1 hr1 h hl
      obtain ⟨hinj, g0, g1, g2, g3, g4, g5, g6, g7, g8, g9, g10, g11, g12⟩ := id hM1
      refine lv_aload_n hx hb dX3_cut_73 rfl (lv_at hl 0 rfl) ?_
      refine lv_iconst (v := bI false) hx hb dX3_cut_74 (by decide) ?_
      refine gx_put C h g0 (Cn := RX3) (T := TX3) (N := 22) (x := .int (bI false)) rfl in_X3 tyX3 tyX3_ok nmX3 1 (by decide) q733 rfl rfl (bI_n _) (bI_f _) (Nat.le_of_ble_eq_true rfl) dX3_cut_75 (fun H locs h => ?_)
      obtain ⟨w_1, ew_1⟩ : ∃ z_ : GW, z_ = gu w1 (ad 0) (ob 4 [.int (nI cn), .int (bI false), .int (bI fu), .ref (ad 1), .ref (ad 2), .ref (ad 3), .ref (ad 4), .ref (ad 5), .int (bI ch), .ref (ad 6), .ref (ad 7), .int (nI fi), .int (nI be), .ref (ad 8), .ref (ad 9), .int (nI 0), .int (nI ne), .ref (ad 10), .ref (ad 11), .int (nI ke), .int (bI th), .ref (ad 12)]) := ⟨_, rfl⟩
      have h : SH g w_1 v s H locs := by rw [ew_1]; exact h
      have f_2 : w_1 (ad 0) = some (ob 4 [.int (nI cn), .int (bI false), .int (bI fu), .ref (ad 1), .ref (ad 2), .ref (ad 3), .ref (ad 4), .ref (ad 5), .int (bI ch), .ref (ad 6), .ref (ad 7), .int (nI fi), .int (nI be), .ref (ad 8), .ref (ad 9), .int (nI 0), .int (nI ne), .ref (ad 10), .ref (ad 11), .int (nI ke), .int (bI th), .ref (ad 12)]) := by rw [ew_1]; exact gu_s
      have f_3 : w_1 (ad 1) = some (eI g 2048 fD) := by rw [ew_1]; exact (gu_n (fun q => absurd (hinj 1 0 (by decide) (by decide) q) (by decide))).trans g1
      have f_4 : w_1 (ad 2) = some (eI g 2048 fL) := by rw [ew_1]; exact (gu_n (fun q => absurd (hinj 2 0 (by decide) (by decide) q) (by decide))).trans g2
      have f_5 : w_1 (ad 3) = some (eI g 2048 fO) := by rw [ew_1]; exact (gu_n (fun q => absurd (hinj 3 0 (by decide) (by decide) q) (by decide))).trans g3
      have f_6 : w_1 (ad 4) = some (eZ g 64 z) := by rw [ew_1]; exact (gu_n (fun q => absurd (hinj 4 0 (by decide) (by decide) q) (by decide))).trans g4
      have f_7 : w_1 (ad 5) = some (eI g 30 fP) := by rw [ew_1]; exact (gu_n (fun q => absurd (hinj 5 0 (by decide) (by decide) q) (by decide))).trans g5
      have f_8 : w_1 (ad 6) = some (eI g 1200 fT) := by rw [ew_1]; exact (gu_n (fun q => absurd (hinj 6 0 (by decide) (by decide) q) (by decide))).trans g6
      have f_9 : w_1 (ad 7) = some (eI g 38400 fY) := by rw [ew_1]; exact (gu_n (fun q => absurd (hinj 7 0 (by decide) (by decide) q) (by decide))).trans g7
      have f_10 : w_1 (ad 8) = some (eI g 1200 fN) := by rw [ew_1]; exact (gu_n (fun q => absurd (hinj 8 0 (by decide) (by decide) q) (by decide))).trans g8
      have f_11 : w_1 (ad 9) = some (eL g 1200 fS) := by rw [ew_1]; exact (gu_n (fun q => absurd (hinj 9 0 (by decide) (by decide) q) (by decide))).trans g9
      have f_12 : w_1 (ad 10) = some (eI g 4 fKn) := by rw [ew_1]; exact (gu_n (fun q => absurd (hinj 10 0 (by decide) (by decide) q) (by decide))).trans g10
      have f_13 : w_1 (ad 11) = some (eL g 4 fK) := by rw [ew_1]; exact (gu_n (fun q => absurd (hinj 11 0 (by decide) (by decide) q) (by decide))).trans g11
      have f_14 : w_1 (ad 12) = some (eI g 32 fH) := by rw [ew_1]; exact (gu_n (fun q => absurd (hinj 12 0 (by decide) (by decide) q) (by decide))).trans g12
      have hM2 : MW g w_1 ad cn false fu ch th fi be ne ke fD fL fO z fP fT fY fN fS fKn fK fH := ⟨hinj, f_2, f_3, f_4, f_5, f_6, f_7, f_8, f_9, f_10, f_11, f_12, f_13, f_14⟩
      refine lv_aload_n hx hb dX3_cut_78 rfl (lv_at hl 0 rfl) ?_
      refine lv_iconst (v := (0)) hx hb dX3_cut_79 (by decide) ?_
      refine lv_lconst (v := 0) hx hb dX3_cut_80 (by decide) ?_
      refine gc_v (va_runV (As := [.int 0, .long 0]) (rest := []) C.fix (m_X3_begin l g w_1 v ad cn false fu ch th fi be ne ke fD fL fO z fP fT fY fN fS fKn fK fH hM2 0 0) (cwV 2 hts (lw_V q728 q730 qs26 q53 q731) rfl rfl rfl (by decide +kernel) ⟨Nat.le_of_ble_eq_true rfl, Nat.le_of_ble_eq_true rfl⟩) (gp_V C h [.int 0, .long 0] (Cn := RX3) (T := TX3) (N := 22) rfl f_2) rfl rfl hl.1 rfl (lv_room (Nat.le_of_ble_eq_true rfl)) dX3_cut_81 ⟨Nat.le_of_ble_eq_true rfl, Nat.le_of_ble_eq_true rfl⟩) h (fun w_16 H locs hp h => ?_)
      obtain ⟨fL', z', fP', hM3, q1, q2, q3⟩ := hp
      have eq : opCut (cn, ru, fu, ch, dk, wt, ld, pl, st, kp) q t = beginK cn false fu (cutD dk wt q.toNatClampNeg t) (0, 0) := by unfold opCut; dsimp only; rw [if_neg (show ¬ ru = false by rw [c1]; decide)]
      exact gr_v C h (by rw [eq, ← hdk]; exact begin_rm hM3 hr1 q1 q2 q3) (Nat.le_of_ble_eq_true rfl) (Nat.le_of_ble_eq_true rfl) dX3_cut_84
    have loop : ∀ (n_ : Nat) (i : Nat) (dk' : Sec) (wt' : List (Nat × Sec)) (w1 : GW) (H : Heap) (locs : List Loc) (ls : Array Slot), wt'.length < n_ → (i ≤ 64) → (i + wt'.length ≤ 64) → (∀ x, x ∈ wt' → x ∈ wt) → (cutD dk' wt' (q.toNatClampNeg - i) t = cutD dk wt q.toNatClampNeg t) → (RM g w1 ad N (cn, ru, fu, ch, dk', wt', ld, pl, st, kp)) → SH g w1 v s H locs → lv_has ls 4 [(0, .ref (ad 0)), (1, .int q), (2, .int t), (3, .int (nI i))] → W p l e ({ frames := 2, cells := 0, slots := 0, locals := 120 } : Room) s m ([.ref (ad 0), .int q, .int t] : List Value).toArray below meth c H locs 0 0 (MQ below (va_Qv (fun (w' : GW) => RM g w' ad (N + 1) (opCut (cn, ru, fu, ch, dk, wt, ld, pl, st, kp) q t)) (gB g v) (gA g)) ([.ref (ad 0), .int q, .int t] : List Value).toArray s 0 0 (gA g)) (F0 m 10 ls []) := by
      intro n_
      induction n_ with
      | zero => intros; exact absurd ‹_ < 0› (Nat.not_lt_zero _)
      | succ n_ ih =>
        intro i dk' wt' w1 H locs ls hf hil hlen hsub hall hR1  h hl
        obtain ⟨thq, fiq, beq, neq, keq, fDq, fLq, fOq, zq, fPq, fTq, fYq, fNq, fSq, fKnq, fKq, fHq, hMq, r1q, r2q, r3q, r4q, r5q, r6q, r7q, r8q, r9q, r10q, r11q, r12q, r13q⟩ := id hR1
        obtain ⟨hinj, nq_0, nq_1, nq_2, nq_3, nq_4, nq_5, nq_6, nq_7, nq_8, nq_9, nq_10, nq_11, nq_12⟩ := id hMq
        refine lv_iload_n hx hb dX3_cut_10 rfl (lv_at hl 3 rfl) ?_
        refine lv_iload_n hx hb dX3_cut_11 rfl (lv_at hl 1 rfl) ?_
        refine lv_icmp_ge (tgt := 38) hx hb dX3_cut_12 (by decide) (fun c2 => ?_) (fun c2 => ?_)
        · skip
          have hz : q.toNatClampNeg - i = 0 := by have := (clamp_le (by omega)).mp c2; omega
          refine lv_aload_n hx hb dX3_cut_38 rfl (lv_at hl 0 rfl) ?_
          refine gx_get C h nq_0 (Cn := RX3) (T := TX3) (N := 22) rfl in_X3 11 (by decide) q743 rfl rfl dX3_cut_39 ?_
          refine lv_aload_n hx hb dX3_cut_42 rfl (lv_at hl 0 rfl) ?_
          refine gx_get C h nq_0 (Cn := RX3) (T := TX3) (N := 22) rfl in_X3 12 (by decide) q744 rfl rfl dX3_cut_43 ?_
          refine lv_icmp_ge (tgt := 73) hx hb dX3_cut_46 (by decide) (fun c4 => ?_) (fun c4 => ?_)
          · skip
            have c4 : beq ≤ fiq := (nI_leI (by omega) (by omega)).mp c4
            have hnil : wt' = [] := List.eq_nil_of_length_eq_zero (by omega)
            subst hnil
            exact fin (dk') _ _ _ ls thq fiq beq neq keq fDq fLq fOq zq fPq fTq fYq fNq fSq fKnq fKq fHq (by rw [← hall]; cases (q.toNatClampNeg - i) <;> rfl) hMq r1q h (lv_sub hl [0] rfl)
          · skip
            have c4 : ¬ (beq ≤ fiq) := fun q => c4 ((nI_leI (by omega) (by omega)).mpr q)
            obtain ⟨x0, wt2, hwt⟩ : ∃ x0 wt2, wt' = x0 :: wt2 := by cases wt' with | nil => simp at r6q; omega | cons a b => exact ⟨a, b, rfl⟩
            subst hwt
            have hx0 := i4 x0 (hsub x0 List.mem_cons_self)
            have hT0 := (r7q 0 x0 rfl).1
            rw [Nat.add_zero] at hT0
            refine lv_aload_n hx hb dX3_cut_49 rfl (lv_at hl 0 rfl) ?_
            refine lv_iload_n hx hb dX3_cut_50 rfl (lv_at hl 2 rfl) ?_
            refine lv_if_ge (tgt := 58) hx hb dX3_cut_51 (by decide) (fun c5 => ?_) (fun c5 => ?_)
            · skip
              refine lv_iload_n hx hb dX3_cut_58 rfl (lv_at hl 2 rfl) ?_
              refine lv_bipush (v := nI 32) hx hb dX3_cut_59 (by decide) ?_
              refine lv_icmp_le (tgt := 69) hx hb dX3_cut_61 (by decide) (fun c6 => ?_) (fun c6 => ?_)
              · skip
                refine lv_iload_n hx hb dX3_cut_69 rfl (lv_at hl 2 rfl) ?_
                have htn : t = nI (tearN t) := by exact (tearN_mid c5 c6).symm
                refine W.eq (congrArg (fun z_ => F0 m 70 ls [.int z_, .ref (ad 0)]) htn) ?_
                have htl : tearN t ≤ 32 := tearN_le t
                refine gc_v (va_runV (As := [.int (nI (tearN t))]) (rest := []) C.fix (m_X3_write l g w1 v ad cn ru fu ch thq fiq beq neq keq fDq fLq fOq zq fPq fTq fYq fNq fSq fKnq fKq fHq hMq (tearN t) x0.1 htl (by omega) hT0 (by omega)) (cwV 1 hts (lw_V q889 q891 qs38 q53 q892) rfl rfl rfl (by decide +kernel) ⟨Nat.le_of_ble_eq_true rfl, Nat.le_of_ble_eq_true rfl⟩) (gp_V C h [.int (nI (tearN t))] (Cn := RX3) (T := TX3) (N := 22) rfl nq_0) rfl rfl hl.1 rfl (lv_room (Nat.le_of_ble_eq_true rfl)) dX3_cut_70 ⟨Nat.le_of_ble_eq_true rfl, Nat.le_of_ble_eq_true rfl⟩) h (fun w_18 H locs hp h => ?_)
                exact fin (wrD dk' x0 (tearN t)) _ _ _ ls thq (fiq + 1) beq neq keq _ fLq fOq zq fPq fTq fYq fNq fSq fKnq fKq fHq (by rw [← hall, hz]; rfl) hp (write_D (by omega) htl r1q r7q) h (lv_sub hl [0] rfl)
              · skip
                refine lv_bipush (v := nI 32) hx hb dX3_cut_64 (by decide) ?_
                refine lv_goto (tgt := 70) hx hb dX3_cut_66 (by decide) ?_
                have htn : nI 32 = nI (tearN t) := by unfold tearN; rw [if_neg (Int32.not_lt.mpr c5), if_pos (Int32.not_le.mp c6)]
                refine W.eq (congrArg (fun z_ => F0 m 70 ls [.int z_, .ref (ad 0)]) htn) ?_
                have htl : tearN t ≤ 32 := tearN_le t
                refine gc_v (va_runV (As := [.int (nI (tearN t))]) (rest := []) C.fix (m_X3_write l g w1 v ad cn ru fu ch thq fiq beq neq keq fDq fLq fOq zq fPq fTq fYq fNq fSq fKnq fKq fHq hMq (tearN t) x0.1 htl (by omega) hT0 (by omega)) (cwV 1 hts (lw_V q889 q891 qs38 q53 q892) rfl rfl rfl (by decide +kernel) ⟨Nat.le_of_ble_eq_true rfl, Nat.le_of_ble_eq_true rfl⟩) (gp_V C h [.int (nI (tearN t))] (Cn := RX3) (T := TX3) (N := 22) rfl nq_0) rfl rfl hl.1 rfl (lv_room (Nat.le_of_ble_eq_true rfl)) dX3_cut_70 ⟨Nat.le_of_ble_eq_true rfl, Nat.le_of_ble_eq_true rfl⟩) h (fun w_20 H locs hp h => ?_)
                exact fin (wrD dk' x0 (tearN t)) _ _ _ ls thq (fiq + 1) beq neq keq _ fLq fOq zq fPq fTq fYq fNq fSq fKnq fKq fHq (by rw [← hall, hz]; rfl) hp (write_D (by omega) htl r1q r7q) h (lv_sub hl [0] rfl)
            · skip
              refine lv_iconst (v := nI 0) hx hb dX3_cut_54 (by decide) ?_
              refine lv_goto (tgt := 70) hx hb dX3_cut_55 (by decide) ?_
              have htn : nI 0 = nI (tearN t) := by unfold tearN; rw [if_pos (Int32.not_le.mp c5)]
              refine W.eq (congrArg (fun z_ => F0 m 70 ls [.int z_, .ref (ad 0)]) htn) ?_
              have htl : tearN t ≤ 32 := tearN_le t
              refine gc_v (va_runV (As := [.int (nI (tearN t))]) (rest := []) C.fix (m_X3_write l g w1 v ad cn ru fu ch thq fiq beq neq keq fDq fLq fOq zq fPq fTq fYq fNq fSq fKnq fKq fHq hMq (tearN t) x0.1 htl (by omega) hT0 (by omega)) (cwV 1 hts (lw_V q889 q891 qs38 q53 q892) rfl rfl rfl (by decide +kernel) ⟨Nat.le_of_ble_eq_true rfl, Nat.le_of_ble_eq_true rfl⟩) (gp_V C h [.int (nI (tearN t))] (Cn := RX3) (T := TX3) (N := 22) rfl nq_0) rfl rfl hl.1 rfl (lv_room (Nat.le_of_ble_eq_true rfl)) dX3_cut_70 ⟨Nat.le_of_ble_eq_true rfl, Nat.le_of_ble_eq_true rfl⟩) h (fun w_22 H locs hp h => ?_)
              exact fin (wrD dk' x0 (tearN t)) _ _ _ ls thq (fiq + 1) beq neq keq _ fLq fOq zq fPq fTq fYq fNq fSq fKnq fKq fHq (by rw [← hall, hz]; rfl) hp (write_D (by omega) htl r1q r7q) h (lv_sub hl [0] rfl)
        · skip
          refine lv_aload_n hx hb dX3_cut_15 rfl (lv_at hl 0 rfl) ?_
          refine gx_get C h nq_0 (Cn := RX3) (T := TX3) (N := 22) rfl in_X3 11 (by decide) q743 rfl rfl dX3_cut_16 ?_
          refine lv_aload_n hx hb dX3_cut_19 rfl (lv_at hl 0 rfl) ?_
          refine gx_get C h nq_0 (Cn := RX3) (T := TX3) (N := 22) rfl in_X3 12 (by decide) q744 rfl rfl dX3_cut_20 ?_
          refine lv_icmp_ge (tgt := 38) hx hb dX3_cut_23 (by decide) (fun c3 => ?_) (fun c3 => ?_)
          · skip
            have c3 : beq ≤ fiq := (nI_leI (by omega) (by omega)).mp c3
            have hnil : wt' = [] := List.eq_nil_of_length_eq_zero (by omega)
            subst hnil
            refine lv_aload_n hx hb dX3_cut_38 rfl (lv_at hl 0 rfl) ?_
            refine gx_get C h nq_0 (Cn := RX3) (T := TX3) (N := 22) rfl in_X3 11 (by decide) q743 rfl rfl dX3_cut_39 ?_
            refine lv_aload_n hx hb dX3_cut_42 rfl (lv_at hl 0 rfl) ?_
            refine gx_get C h nq_0 (Cn := RX3) (T := TX3) (N := 22) rfl in_X3 12 (by decide) q744 rfl rfl dX3_cut_43 ?_
            refine lv_icmp_ge (tgt := 73) hx hb dX3_cut_46 (by decide) (fun c4 => ?_) (fun c4 => ?_)
            · skip
              have c4 : beq ≤ fiq := (nI_leI (by omega) (by omega)).mp c4
              exact fin dk' _ _ _ ls thq fiq beq neq keq fDq fLq fOq zq fPq fTq fYq fNq fSq fKnq fKq fHq (by rw [← hall]; cases (q.toNatClampNeg - i) <;> rfl) hMq r1q h (lv_sub hl [0] rfl)
            · skip
              have c4 : ¬ (beq ≤ fiq) := fun q => c4 ((nI_leI (by omega) (by omega)).mpr q)
              omega
          · skip
            have c3 : ¬ (beq ≤ fiq) := fun q => c3 ((nI_leI (by omega) (by omega)).mpr q)
            obtain ⟨x0, wt2, hwt⟩ : ∃ x0 wt2, wt' = x0 :: wt2 := by cases wt' with | nil => simp at r6q; omega | cons a b => exact ⟨a, b, rfl⟩
            subst hwt
            have hx0 := i4 x0 (hsub x0 List.mem_cons_self)
            have hT0 := (r7q 0 x0 rfl).1
            rw [Nat.add_zero] at hT0
            obtain ⟨d, hd⟩ : ∃ d, q.toNatClampNeg - i = d + 1 := ⟨q.toNatClampNeg - i - 1, by have := mt (clamp_le (q := q) (i := i) (by omega)).mpr c2; omega⟩
            refine lv_aload_n hx hb dX3_cut_26 rfl (lv_at hl 0 rfl) ?_
            refine lv_bipush (v := nI 32) hx hb dX3_cut_27 (by decide) ?_
            refine gc_v (va_runV (As := [.int (nI 32)]) (rest := []) C.fix (m_X3_write l g w1 v ad cn ru fu ch thq fiq beq neq keq fDq fLq fOq zq fPq fTq fYq fNq fSq fKnq fKq fHq hMq 32 x0.1 (by omega) (by omega) hT0 (by omega)) (cwV 1 hts (lw_V q889 q891 qs38 q53 q892) rfl rfl rfl (by decide +kernel) ⟨Nat.le_of_ble_eq_true rfl, Nat.le_of_ble_eq_true rfl⟩) (gp_V C h [.int (nI 32)] (Cn := RX3) (T := TX3) (N := 22) rfl nq_0) rfl rfl hl.1 rfl (lv_room (Nat.le_of_ble_eq_true rfl)) dX3_cut_29 ⟨Nat.le_of_ble_eq_true rfl, Nat.le_of_ble_eq_true rfl⟩) h (fun w_24 H locs hp h => ?_)
            refine lv_iinc (v := nI (i + 1)) (lv' := [(3, .int (nI (i + 1))), (0, .ref (ad 0)), (1, .int q), (2, .int t)]) hx hb dX3_cut_32 hl (k := 3) rfl (gi_inc _ 1) (by decide) rfl (fun ls hl => ?_)
            refine lv_goto (tgt := 10) hx hb dX3_cut_35 (by decide) ?_
            have hR2 : RM g w_24 ad N (cn, ru, fu, ch, wrD dk' x0 32, wt2, ld, pl, st, kp) := write_rm (by omega) hp r1q r2q r3q r4q r5q r6q r7q r8q r9q r10q r11q r12q r13q
            have hall2 : cutD (wrD dk' x0 32) wt2 (q.toNatClampNeg - (i + 1)) t = cutD dk wt q.toNatClampNeg t := by rw [← hall, hd, show q.toNatClampNeg - (i + 1) = d by omega]; rfl
            exact ih (i + 1) (wrD dk' x0 32) wt2 _ _ _ _ (by simp at hf; omega) (by simp at hlen; omega) (by simp at hlen; omega) (fun x hx => hsub x (List.mem_cons_of_mem _ hx)) hall2 hR2 h (lv_sub hl [1, 2, 3, 0] rfl)
    exact loop (wt.length + 1) 0 dk wt _ _ _ _ (by omega) (by omega) (by omega) (fun x hx => hx) rfl hR h (lv_sub hl [1, 2, 3, 0] rfl)
  · skip
    have c1 : ru = false := bI_eq0.mp c1
    have eq : opCut (cn, ru, fu, ch, dk, wt, ld, pl, st, kp) q t = (cn, ru, fu, ch, dk, wt, ld, pl, st, kp) := by unfold opCut; dsimp only; rw [if_pos c1]
    exact gr_v C h (by rw [eq]; exact hR.mono) (Nat.le_of_ble_eq_true rfl) (Nat.le_of_ble_eq_true rfl) dX3_cut_7
