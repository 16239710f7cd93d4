set_option maxRecDepth 100000
theorem lastS_mem {st : List (Int32 × Int64)} (h : st ≠ []) : lastS st ∈ st := by
  have hl : 0 < st.length := List.length_pos_iff.mpr h
  unfold lastS
  rw [List.getD_eq_getElem?_getD, List.getElem?_eq_getElem (by omega)]
  exact List.getElem_mem _
theorem Row.mk' {f : Nat → Int32} {c : Sec} {k : Nat} (h : ∀ j, j < 32 → f (32 * k + j) = ub (c j)) : Row f f c k := ⟨h, fun _ _ => rfl⟩
theorem stM_t {P : Nat → Bool} {i : Nat} (h : P (2 + i) = true) : stM P (i + 1) = stM P i ||| ((1 : Int64) <<< ((nI (2 + i)).toInt64 &&& 63)) := by
  show (if P (2 + i) then _ else _) = _
  rw [if_pos h]
theorem stM_f {P : Nat → Bool} {i : Nat} (h : P (2 + i) = false) : stM P (i + 1) = stM P i := by
  show (if P (2 + i) then _ else _) = _
  rw [if_neg (by rw [h]; decide)]
theorem stM_congr {P Q : Nat → Bool} : ∀ n, (∀ k, 2 ≤ k → k < 2 + n → P k = Q k) → stM P n = stM Q n := by
  intro n
  induction n with
  | zero => intro _; rfl
  | succ n ih =>
    intro h
    show (if P (2 + n) then _ else _) = (if Q (2 + n) then _ else _)
    rw [ih (fun k h1 h2 => h k h1 (by omega)), h (2 + n) (by omega) (by omega)]
theorem comX_t {dk : Sec} {wt : List (Nat × Sec)} {s : Int64} {i : Nat} (h : bitL s (2 + i) = true) : comX dk wt s (i + 1) = comX dk wt s i ^^^ numB (lat dk wt (2 + i)) 0 := by
  show (if bitL s (2 + i) then _ else _) = _
  rw [if_pos h]
theorem comX_f {dk : Sec} {wt : List (Nat × Sec)} {s : Int64} {i : Nat} (h : bitL s (2 + i) = false) : comX dk wt s (i + 1) = comX dk wt s i := by
  show (if bitL s (2 + i) then _ else _) = _
  rw [if_neg (by rw [h]; decide)]
theorem comW_len (ld : Nat → Option Sec) (n : Int32) {i : Nat} (hi : i ≤ 62) : (comW ld n i).length ≤ cntL ld := by
  have h1 : ∀ i, (comW ld n i).length = cntB (fun k => (ld k).isSome) 2 i := by
    intro i
    induction i with
    | zero => rfl
    | succ i ih =>
      show (comW ld n i ++ com1 ld n (2 + i)).length = _
      rw [List.length_append, ih, cntB_s]
      congr 1
      unfold com1
      cases ld (2 + i) <;> rfl
  have h2 : ∀ (P : Nat → Bool) (a m : Nat), cntB P 0 (a + m) = cntB P 0 a + cntB P a m := by
    intro P a m
    induction m with
    | zero => rfl
    | succ m ih => rw [← Nat.add_assoc, cntB_s, ih, cntB_s, Nat.zero_add]; omega
  have h3 := h2 (fun k => (ld k).isSome) 2 62
  have h4 : ∀ (P : Nat → Bool) (a m d : Nat), cntB P a m ≤ cntB P a (m + d) := by
    intro P a m d
    induction d with
    | zero => exact Nat.le_refl _
    | succ d ih => rw [← Nat.add_assoc, cntB_s]; omega
  have h5 := h4 (fun k => (ld k).isSome) 2 i (62 - i)
  rw [show i + (62 - i) = 62 by omega] at h5
  rw [h1]
  unfold cntL
  rw [show (64 : Nat) = 2 + 62 from rfl, h3]
  omega
theorem que_L {dk : Sec} {wt : List (Nat × Sec)} {fL fr : Nat → Int32} {fm tt : Nat} {c : Sec} (q2 : ∀ k j, k < 64 → j < 32 → fL (32 * k + j) = ub (lat dk wt k j)) (hr : ∀ j, j < 32 → fr (32 * fm + j) = ub (c j)) : ∀ k j, k < 64 → j < 32 → va_cpy fr fL (32 * fm) (32 * tt) 32 (32 * k + j) = ub (lat dk (wt ++ [(tt, c)]) k j) := by
  intro k j hk hj
  rw [lat_snoc]
  unfold va_cpy
  by_cases e : tt = k
  · subst e
    rw [if_pos (by omega), if_pos rfl, show 32 * fm + (32 * tt + j - 32 * tt) = 32 * fm + j by omega]
    exact hr j hj
  · rw [if_neg (by omega), if_neg e]
    exact q2 k j hk hj
theorem que_7 {wt : List (Nat × Sec)} {fT fY fr : Nat → Int32} {fm tt fi be : Nat} {c : Sec} (q7 : ∀ (i0 : Nat) (x : Nat × Sec), wt[i0]? = some x → fT (fi + i0) = nI x.1 ∧ ∀ j, j < 32 → fY (32 * (fi + i0) + j) = ub (x.2 j)) (hb : fi + wt.length = be) (hr : ∀ j, j < 32 → fr (32 * fm + j) = ub (c j)) : ∀ (i0 : Nat) (x : Nat × Sec), (wt ++ [(tt, c)])[i0]? = some x → upd fT be (nI tt) (fi + i0) = nI x.1 ∧ ∀ j, j < 32 → va_cpy fr fY (32 * fm) (32 * be) 32 (32 * (fi + i0) + j) = ub (x.2 j) := by
  intro i0 x hx
  by_cases hi : i0 < wt.length
  · rw [List.getElem?_append_left hi] at hx
    obtain ⟨a1, a2⟩ := q7 i0 x hx
    refine ⟨?_, fun j hj => ?_⟩
    · unfold upd
      rw [if_neg (by omega)]
      exact a1
    · unfold va_cpy
      rw [if_neg (by omega)]
      exact a2 j hj
  · rw [List.getElem?_append_right (by omega)] at hx
    have hz : i0 - wt.length < 1 := (List.getElem?_eq_some_iff.mp hx).1
    have hi2 : i0 = wt.length := by omega
    subst hi2
    rw [Nat.sub_self] at hx
    cases hx
    refine ⟨?_, fun j hj => ?_⟩
    · unfold upd
      rw [if_pos hb]
    · unfold va_cpy
      rw [if_pos (by omega), show 32 * fm + (32 * (fi + wt.length) + j - 32 * be) = 32 * fm + j by omega]
      exact hr j hj
theorem com_z {cn : Nat} {ld : Nat → Option Sec} {z : Nat → Bool} (i3 : ∀ k c, ld k = some c → (2 ≤ k ∧ k < cn) ∧ closeB c = c) (hcn : 2 ≤ cn) (q4 : ∀ k, k < 64 → z k = if k < 2 + (cn - 2) then false else (ld k).isSome) {k : Nat} (hk : k < 64) : z k = (Option.isSome (none : Option Sec)) := by
  rw [q4 k hk]
  split
  · rfl
  · cases h : ld k with
    | none => rfl
    | some c => have := (i3 k c h).1; omega
theorem com_q40 {cn : Nat} {ld : Nat → Option Sec} {z : Nat → Bool} (i3 : ∀ k c, ld k = some c → (2 ≤ k ∧ k < cn) ∧ closeB c = c) (r4 : ∀ k, k < 64 → z k = (ld k).isSome) : ∀ k, k < 64 → z k = if k < 2 + 0 then false else (ld k).isSome := by
  intro k hk
  rw [r4 k hk]
  split
  · cases h : ld k with
    | none => rfl
    | some c => have := (i3 k c h).1; omega
  · rfl
theorem com_q4 {ld : Nat → Option Sec} {z : Nat → Bool} {i : Nat} (q4 : ∀ k, k < 64 → z k = if k < 2 + i then false else (ld k).isSome) : ∀ k, k < 64 → va_up z (2 + i) false k = if k < 2 + (i + 1) then false else (ld k).isSome := by
  intro k hk
  unfold va_up
  by_cases e : k = 2 + i
  · rw [if_pos e, if_pos (by omega)]
  · rw [if_neg e, q4 k hk]
    by_cases e2 : k < 2 + i
    · rw [if_pos e2, if_pos (by omega)]
    · rw [if_neg e2, if_neg (by omega)]
theorem com_q4n {ld : Nat → Option Sec} {z : Nat → Bool} {i : Nat} (h : ld (2 + i) = none) (q4 : ∀ k, k < 64 → z k = if k < 2 + i then false else (ld k).isSome) : ∀ k, k < 64 → z k = if k < 2 + (i + 1) then false else (ld k).isSome := by
  intro k hk
  rw [q4 k hk]
  by_cases e : k = 2 + i
  · rw [if_neg (by omega), if_pos (by omega), e, h]
    rfl
  · by_cases e2 : k < 2 + i
    · rw [if_pos e2, if_pos (by omega)]
    · rw [if_neg e2, if_neg (by omega)]
theorem com_q3 {ld : Nat → Option Sec} {fO fO2 : Nat → Int32} {c : Sec} {i : Nat} (hr : Row fO fO2 c (2 + i)) (q3 : ∀ k c j, 2 + i ≤ k → k < 64 → ld k = some c → j < 32 → fO (32 * k + j) = ub (c j)) : ∀ k c j, 2 + (i + 1) ≤ k → k < 64 → ld k = some c → j < 32 → fO2 (32 * k + j) = ub (c j) := by
  intro k c j h1 h2 h3 h4
  rw [hr.2 _ (by omega)]
  exact q3 k c j (by omega) h2 h3 h4
theorem headC_row (fH : Nat → Int32) (s : Int64) (n all : Int32) : Row fH (closeI (setI (setI (setWI (upd (va_cpy (fun _ => 0) fH 0 (32 * 0) 32) 4 (nI 9)) 8 s) 16 n) 20 all) 0) (headC s n all) 0 := by
  have h := (((((Row.zero fH 0).up (a := 4) (n := 9) (by omega) (by omega)).setW (a := 8) (by omega) s).set (a := 16) (by omega) n).set (a := 20) (by omega) all).close
  exact h
theorem com_S {ne : Nat} {st : List (Int32 × Int64)} {fN : Nat → Int32} {fS : Nat → Int64} {n : Int32} {s : Int64} (r8 : ne + 1 = st.length) (r9 : ∀ (i : Nat) (x : Int32 × Int64), st[i]? = some x → fN i = x.1 ∧ fS i = x.2) : ∀ (i : Nat) (x : Int32 × Int64), (st ++ [(n, s)])[i]? = some x → upd fN (ne + 1) n i = x.1 ∧ vp_updL fS (ne + 1) s i = x.2 := by
  intro i x hx
  unfold upd vp_updL
  by_cases hi : i < st.length
  · rw [List.getElem?_append_left hi] at hx
    rw [if_neg (by omega), if_neg (by omega)]
    exact r9 i x hx
  · rw [List.getElem?_append_right (by omega)] at hx
    have hz : i - st.length < 1 := (List.getElem?_eq_some_iff.mp hx).1
    have hi2 : i = st.length := by omega
    subst hi2
    rw [Nat.sub_self] at hx
    cases hx
    rw [if_pos (by omega), if_pos (by omega)]
    exact ⟨rfl, rfl⟩
set_option maxHeartbeats 4000000 in
theorem m_X3_commit (l : Launch) (g : GG) (w v : GW) (ad : Nat → Nat) (N cn : Nat) (ru fu ch : Bool) (dk : Sec) (wt : List (Nat × Sec)) (ld : Nat → Option Sec) (pl : Nat → Option Nat) (st kp : List (Int32 × Int64)) (hR : RM g w ad N (cn, ru, fu, ch, dk, wt, ld, pl, st, kp)) (hI : InvK (cn, ru, fu, ch, dk, wt, ld, pl, st, kp)) (hN : N < 64) (n : Int32)  : Met l yX3_commit (ws_ yX3_commit cX3_commit 7 (some .int)) ({ frames := 3, cells := 0, slots := 0, locals := 180 } : Room) (gP g [.ref (ad 0), .int n] w v) (va_Qi (fun (r : Int32) (w' : GW) => r = (opCommit (cn, ru, fu, ch, dk, wt, ld, pl, st, kp) n).1 ∧ RM g w' ad (N + 1) (opCommit (cn, ru, fu, ch, dk, wt, ld, pl, st, kp) n).2) (gB g v) (gA g)) 0 0 (gA g) := by
  refine gm_of (by decide) (Nat.le_of_ble_eq_true rfl) ?_
  intro p e s m below meth c ls C hnm h hl
  have C : Cx g p s m ([.ref (ad 0), .int n] : List Value).toArray meth c cX3_commit 7 RX3 (some .int) := C
  obtain ⟨hx, hb, hml, hown, hts, hr, hlk, hG⟩ := id C
  have hl : lv_has ls 7 [(0, .ref (ad 0)), (1, .int n)] := hl
  obtain ⟨th, fi, be, ne, ke, fD, fL, fO, z, fP, fT, fY, fN, fS, fKn, fK, fH, hM, r1, r2, r3, r4, r5, r6, r7, r8, r9, r10, r11, r12, r13⟩ := id hR
  obtain ⟨i1, i2, i3, i4, i5, i6, i7, i8, i9⟩ := id hI
  have hfb : fi ≤ be ∧ be ≤ 1200 := by omega
  have hne : ne < 1200 := by omega
  have hke : ke ≤ 4 := by omega
  have hcn : 2 ≤ cn ∧ cn ≤ 64 := by omega
  have hhel : ∀ k, k < 64 → heM fP fT fS fK fi be ne ke k = hel wt pl st kp k := fun k hk => br_hel i1.2 i2 i4 r5 r6 r7 r8 r9 r10 r11 hk
  have hKe := br_frS hcn hhel
  have hpl : ∀ q, q < 30 → fP q = -1 ∨ ∃ kk : Nat, kk < 64 ∧ fP q = nI kk := fun q hq => br_pls i1.2 i2 r5 hq
  obtain ⟨hinj, m0, m1, m2, m3, m4, m5, m6, m7, m8, m9, m10, m11, m12⟩ := id hM
  have hlast := br_last r8 r9
  have hl0 : 0 ≤ (lastS st).1 := (i7 _ (lastS_mem i6)).1
  refine lv_aload_n hx hb dX3_commit_0 rfl (lv_at hl 0 rfl) ?_
  refine gx_get C h m0 (Cn := RX3) (T := TX3) (N := 22) rfl in_X3 1 (by decide) q733 rfl rfl dX3_commit_1 ?_
  refine lv_if_eq (tgt := 14) hx hb dX3_commit_4 (by decide) (fun c1 => ?_) (fun c1 => ?_)
  · skip
    have c1 : ru = false := bI_eq0.mp c1
    refine lv_bipush (v := (-3)) hx hb dX3_commit_14 (by decide) ?_
    have eq : opCommit (cn, ru, fu, ch, dk, wt, ld, pl, st, kp) n = (-3, (cn, ru, fu, ch, dk, wt, ld, pl, st, kp)) := by unfold opCommit; dsimp only; rw [if_pos (Or.inl c1)]
    exact gr_i C h (ty := .int) rfl (rfl) (by rw [eq]; exact ⟨rfl, hR.mono⟩) (Nat.le_of_ble_eq_true rfl) (Nat.le_of_ble_eq_true rfl) dX3_commit_16
  · skip
    have c1 : ru = true := bI_ne0.mp c1
    refine lv_aload_n hx hb dX3_commit_7 rfl (lv_at hl 0 rfl) ?_
    refine gx_get C h m0 (Cn := RX3) (T := TX3) (N := 22) rfl in_X3 8 (by decide) q740 rfl rfl dX3_commit_8 ?_
    refine lv_if_ne (tgt := 17) hx hb dX3_commit_11 (by decide) (fun c2 => ?_) (fun c2 => ?_)
    · skip
      have c2 : ch = true := bI_ne0.mp c2
      have hrc : ¬ (ru = false ∨ ch = false) := by rw [c1, c2]; decide
      refine lv_iload_n hx hb dX3_commit_17 rfl (lv_at hl 1 rfl) ?_
      refine lv_aload_n hx hb dX3_commit_18 rfl (lv_at hl 0 rfl) ?_
      refine gx_get C h m0 (Cn := RX3) (T := TX3) (N := 22) rfl in_X3 13 (by decide) q745 rfl rfl dX3_commit_19 ?_
      refine lv_aload_n hx hb dX3_commit_22 rfl (lv_at hl 0 rfl) ?_
      refine gx_get C h m0 (Cn := RX3) (T := TX3) (N := 22) rfl in_X3 16 (by decide) q748 rfl rfl dX3_commit_23 ?_
      refine gx_iald C h m8 ne (rfl) (by omega) dX3_commit_26 ?_
      rw [hlast.1]
      refine lv_icmp_le (tgt := 36) hx hb dX3_commit_27 (by decide) (fun c3 => ?_) (fun c3 => ?_)
      · skip
        refine lv_bipush (v := (-2)) hx hb dX3_commit_36 (by decide) ?_
        have eq : opCommit (cn, ru, fu, ch, dk, wt, ld, pl, st, kp) n = (-2, (cn, ru, fu, ch, dk, wt, ld, pl, st, kp)) := by unfold opCommit; dsimp only; rw [if_neg hrc, if_pos (Or.inl c3)]
        exact gr_i C h (ty := .int) rfl (rfl) (by rw [eq]; exact ⟨rfl, hR.mono⟩) (Nat.le_of_ble_eq_true rfl) (Nat.le_of_ble_eq_true rfl) dX3_commit_38
      · skip
        refine lv_iload_n hx hb dX3_commit_30 rfl (lv_at hl 1 rfl) ?_
        refine lv_ldc (v := 1000000) hx hb hown (hts _ q880) dX3_commit_31 ?_
        refine lv_icmp_le (tgt := 39) hx hb dX3_commit_33 (by decide) (fun c4 => ?_) (fun c4 => ?_)
        · skip
          have hno : ¬ (n ≤ (lastS st).1 ∨ 1000000 < n) := fun q => q.elim c3 (fun q => Int32.not_lt.mpr c4 q)
          obtain ⟨nn, hnn, hnv⟩ : ∃ nn : Nat, nn ≤ 1000000 ∧ n = nI nn := nI_of2 (M := 1000000) (n := 1000000) (by decide) (fun q => c3 (Int32.le_of_lt (Int32.lt_of_lt_of_le q hl0))) c4
          have hcl : n.toNatClampNeg = nn := by rw [hnv]; exact nI_clamp (by omega)
          refine lv_aload_n hx hb dX3_commit_39 rfl (lv_at hl 0 rfl) ?_
          refine gx_get C h m0 (Cn := RX3) (T := TX3) (N := 22) rfl in_X3 12 (by decide) q744 rfl rfl dX3_commit_40 ?_
          refine lv_istore_n (lv' := [(2, .int (nI be)), (0, .ref (ad 0)), (1, .int n)]) hx hb dX3_commit_43 rfl hl (by decide) rfl (fun ls hl => ?_)
          refine lv_iconst (v := nI 2) hx hb dX3_commit_44 (by decide) ?_
          refine lv_istore_n (lv' := [(3, .int (nI 2)), (2, .int (nI be)), (0, .ref (ad 0)), (1, .int n)]) hx hb dX3_commit_45 rfl hl (by decide) rfl (fun ls hl => ?_)
          have hob : ∀ k, k < 64 → opM fP k = bitL (openL pl 30) k := fun k hk => by rw [br_op i1.2 i2 r5 hk, openL_bit 30 (fun p k h1 h2 => by have := i2 p k h1 h2; omega) hk]
          have hsM : stM (opM fP) (cn - 2) = openL pl 30 := by rw [← stM_open hcn i2]; exact stM_congr (cn - 2) (fun k h1 h2 => br_op i1.2 i2 r5 (by omega))
          have hclen : ∀ i, i ≤ 62 → (comW ld n i).length ≤ cntL ld := fun i hi => comW_len ld n hi
          have loop3 : ∀ (n_ : Nat) (i : Nat) (all : Int32) (fL' fO' : Nat → Int32) (z' : Nat → Bool) (fT' fY' : Nat → Int32) (w1 : GW) (H : Heap) (locs : List Loc) (ls : Array Slot), 32 - i < n_ → (i ≤ 32) → (all = comX dk (wt ++ (comW ld n (cn - 2))) (openL pl 30) (cn - 2)) → (MW g w1 ad cn ru fu ch th fi (be + (comW ld n (cn - 2)).length) ne ke fD fL' fO' z' fP fT' fY' fN fS fKn fK (va_cpy (fun _ => 0) fH 0 (32 * 0) i)) → (∀ k j, k < 64 → j < 32 → fL' (32 * k + j) = ub (lat dk (wt ++ (comW ld n (cn - 2))) k j)) → (∀ k c j, 2 + (cn - 2) ≤ k → k < 64 → ld k = some c → j < 32 → fO' (32 * k + j) = ub (c j)) → (∀ k, k < 64 → z' k = if k < 2 + (cn - 2) then false else (ld k).isSome) → (∀ (i0 : Nat) (x : Nat × Sec), (wt ++ (comW ld n (cn - 2)))[i0]? = some x → fT' (fi + i0) = nI x.1 ∧ ∀ j, j < 32 → fY' (32 * (fi + i0) + j) = ub (x.2 j)) → SH g w1 v s H locs → lv_has ls 7 [(0, .ref (ad 0)), (1, .int n), (2, .int (nI be)), (3, .long ((openL pl 30))), (5, .int all), (6, .int (nI (32 * 0 + i)))] → W p l e ({ frames := 3, cells := 0, slots := 0, locals := 180 } : Room) s m ([.ref (ad 0), .int n] : List Value).toArray below meth c H locs 0 0 (MQ below (va_Qi (fun (r : Int32) (w' : GW) => r = (opCommit (cn, ru, fu, ch, dk, wt, ld, pl, st, kp) n).1 ∧ RM g w' ad (N + 1) (opCommit (cn, ru, fu, ch, dk, wt, ld, pl, st, kp) n).2) (gB g v) (gA g)) ([.ref (ad 0), .int n] : List Value).toArray s 0 0 (gA g)) (F0 m 174 ls []) := by
            intro n_
            induction n_ with
            | zero => intros; exact absurd ‹_ < 0› (Nat.not_lt_zero _)
            | succ n_ ih =>
              intro i all fL' fO' z' fT' fY' w1 H locs ls hf hi hal hM1 q2 q3 q4 q7  h hl
              obtain ⟨hinj, g0, g1, g2, g3, g4, g5, g6, g7, g8, g9, g10, g11, g12⟩ := id hM1
              refine lv_iload hx hb dX3_commit_174 (lv_at hl 5 rfl) ?_
              refine lv_bipush (v := nI 32) hx hb dX3_commit_176 (by decide) ?_
              refine lv_icmp_ge (tgt := 195) hx hb dX3_commit_178 (by decide) (fun c5 => ?_) (fun c5 => ?_)
              · skip
                have c5 : 32 ≤ (32 * 0 + i) := (nI_leI (by omega) (by omega)).mp c5
                have hie : i = 32 := by omega
                subst hie
                refine lv_aload_n hx hb dX3_commit_195 rfl (lv_at hl 0 rfl) ?_
                refine gx_get C h g0 (Cn := RX3) (T := TX3) (N := 22) rfl in_X3 21 (by decide) q753 rfl rfl dX3_commit_196 ?_
                refine lv_iconst (v := nI 4) hx hb dX3_commit_199 (by decide) ?_
                refine lv_bipush (v := nI 9) hx hb dX3_commit_200 (by decide) ?_
                refine gx_iast C h g12 4 (rfl) (by omega) dX3_commit_202 (fun H locs h => ?_)
                obtain ⟨w_1, ew_1⟩ : ∃ z_ : GW, z_ = gu w1 (ad 12) (eI g 32 (upd (va_cpy (fun _ => 0) fH 0 (32 * 0) 32) 4 (nI 9))) := ⟨_, rfl⟩
                have h : SH g w_1 v s H locs := by rw [ew_1]; exact h
                have f_2 : w_1 (ad 0) = some (ob 4 [.int (nI cn), .int (bI ru), .int (bI fu), .ref (ad 1), .ref (ad 2), .ref (ad 3), .ref (ad 4), .ref (ad 5), .int (bI ch), .ref (ad 6), .ref (ad 7), .int (nI fi), .int (nI (be + (comW ld n (cn - 2)).length)), .ref (ad 8), .ref (ad 9), .int (nI 0), .int (nI ne), .ref (ad 10), .ref (ad 11), .int (nI ke), .int (bI th), .ref (ad 12)]) := by rw [ew_1]; exact (gu_n (fun q => absurd (hinj 0 12 (by decide) (by decide) q) (by decide))).trans g0
                have f_3 : w_1 (ad 1) = some (eI g 2048 fD) := by rw [ew_1]; exact (gu_n (fun q => absurd (hinj 1 12 (by decide) (by decide) q) (by decide))).trans g1
                have f_4 : w_1 (ad 2) = some (eI g 2048 fL') := by rw [ew_1]; exact (gu_n (fun q => absurd (hinj 2 12 (by decide) (by decide) q) (by decide))).trans g2
                have f_5 : w_1 (ad 3) = some (eI g 2048 fO') := by rw [ew_1]; exact (gu_n (fun q => absurd (hinj 3 12 (by decide) (by decide) q) (by decide))).trans g3
                have f_6 : w_1 (ad 4) = some (eZ g 64 z') := by rw [ew_1]; exact (gu_n (fun q => absurd (hinj 4 12 (by decide) (by decide) q) (by decide))).trans g4
                have f_7 : w_1 (ad 5) = some (eI g 30 fP) := by rw [ew_1]; exact (gu_n (fun q => absurd (hinj 5 12 (by decide) (by decide) q) (by decide))).trans g5
                have f_8 : w_1 (ad 6) = some (eI g 1200 fT') := by rw [ew_1]; exact (gu_n (fun q => absurd (hinj 6 12 (by decide) (by decide) q) (by decide))).trans g6
                have f_9 : w_1 (ad 7) = some (eI g 38400 fY') := by rw [ew_1]; exact (gu_n (fun q => absurd (hinj 7 12 (by decide) (by decide) q) (by decide))).trans g7
                have f_10 : w_1 (ad 8) = some (eI g 1200 fN) := by rw [ew_1]; exact (gu_n (fun q => absurd (hinj 8 12 (by decide) (by decide) q) (by decide))).trans g8
                have f_11 : w_1 (ad 9) = some (eL g 1200 fS) := by rw [ew_1]; exact (gu_n (fun q => absurd (hinj 9 12 (by decide) (by decide) q) (by decide))).trans g9
                have f_12 : w_1 (ad 10) = some (eI g 4 fKn) := by rw [ew_1]; exact (gu_n (fun q => absurd (hinj 10 12 (by decide) (by decide) q) (by decide))).trans g10
                have f_13 : w_1 (ad 11) = some (eL g 4 fK) := by rw [ew_1]; exact (gu_n (fun q => absurd (hinj 11 12 (by decide) (by decide) q) (by decide))).trans g11
                have f_14 : w_1 (ad 12) = some (eI g 32 (upd (va_cpy (fun _ => 0) fH 0 (32 * 0) 32) 4 (nI 9))) := by rw [ew_1]; exact gu_s
                refine lv_aload_n hx hb dX3_commit_203 rfl (lv_at hl 0 rfl) ?_
                refine gx_get C h f_2 (Cn := RX3) (T := TX3) (N := 22) rfl in_X3 21 (by decide) q753 rfl rfl dX3_commit_204 ?_
                refine lv_bipush (v := nI 8) hx hb dX3_commit_207 (by decide) ?_
                refine lv_lload_n hx hb dX3_commit_209 rfl (lv_at hl 3 rfl) ?_
                refine gc_v (va_runS (As := [.ref (ad 12), .int (nI 8), .long ((openL pl 30))]) (rest := []) C.fix (m_X3_setWide l g w_1 v (ad 12) 32 (upd (va_cpy (fun _ => 0) fH 0 (32 * 0) 32) 4 (nI 9)) f_14 (by omega) 8 (openL pl 30) (by omega)) (va_cwS 3 hts (lw_S q856 q857 q53 q858) rfl rfl rfl (by decide +kernel) ⟨Nat.le_of_ble_eq_true rfl, Nat.le_of_ble_eq_true rfl⟩) (gp_S C h _) rfl rfl hl.1 rfl (lv_room (Nat.le_of_ble_eq_true rfl)) dX3_commit_210 ⟨Nat.le_of_ble_eq_true rfl, Nat.le_of_ble_eq_true rfl⟩) h (fun w_16 H locs hp h => ?_)
                have ew_17 : w_16 = gu w_1 (ad 12) (eI g 32 (setWI (upd (va_cpy (fun _ => 0) fH 0 (32 * 0) 32) 4 (nI 9)) 8 (openL pl 30))) := hp
                have f_18 : w_16 (ad 0) = some (ob 4 [.int (nI cn), .int (bI ru), .int (bI fu), .ref (ad 1), .ref (ad 2), .ref (ad 3), .ref (ad 4), .ref (ad 5), .int (bI ch), .ref (ad 6), .ref (ad 7), .int (nI fi), .int (nI (be + (comW ld n (cn - 2)).length)), .ref (ad 8), .ref (ad 9), .int (nI 0), .int (nI ne), .ref (ad 10), .ref (ad 11), .int (nI ke), .int (bI th), .ref (ad 12)]) := by rw [ew_17]; exact (gu_n (fun q => absurd (hinj 0 12 (by decide) (by decide) q) (by decide))).trans f_2
                have f_19 : w_16 (ad 1) = some (eI g 2048 fD) := by rw [ew_17]; exact (gu_n (fun q => absurd (hinj 1 12 (by decide) (by decide) q) (by decide))).trans f_3
                have f_20 : w_16 (ad 2) = some (eI g 2048 fL') := by rw [ew_17]; exact (gu_n (fun q => absurd (hinj 2 12 (by decide) (by decide) q) (by decide))).trans f_4
                have f_21 : w_16 (ad 3) = some (eI g 2048 fO') := by rw [ew_17]; exact (gu_n (fun q => absurd (hinj 3 12 (by decide) (by decide) q) (by decide))).trans f_5
                have f_22 : w_16 (ad 4) = some (eZ g 64 z') := by rw [ew_17]; exact (gu_n (fun q => absurd (hinj 4 12 (by decide) (by decide) q) (by decide))).trans f_6
                have f_23 : w_16 (ad 5) = some (eI g 30 fP) := by rw [ew_17]; exact (gu_n (fun q => absurd (hinj 5 12 (by decide) (by decide) q) (by decide))).trans f_7
                have f_24 : w_16 (ad 6) = some (eI g 1200 fT') := by rw [ew_17]; exact (gu_n (fun q => absurd (hinj 6 12 (by decide) (by decide) q) (by decide))).trans f_8
                have f_25 : w_16 (ad 7) = some (eI g 38400 fY') := by rw [ew_17]; exact (gu_n (fun q => absurd (hinj 7 12 (by decide) (by decide) q) (by decide))).trans f_9
                have f_26 : w_16 (ad 8) = some (eI g 1200 fN) := by rw [ew_17]; exact (gu_n (fun q => absurd (hinj 8 12 (by decide) (by decide) q) (by decide))).trans f_10
                have f_27 : w_16 (ad 9) = some (eL g 1200 fS) := by rw [ew_17]; exact (gu_n (fun q => absurd (hinj 9 12 (by decide) (by decide) q) (by decide))).trans f_11
                have f_28 : w_16 (ad 10) = some (eI g 4 fKn) := by rw [ew_17]; exact (gu_n (fun q => absurd (hinj 10 12 (by decide) (by decide) q) (by decide))).trans f_12
                have f_29 : w_16 (ad 11) = some (eL g 4 fK) := by rw [ew_17]; exact (gu_n (fun q => absurd (hinj 11 12 (by decide) (by decide) q) (by decide))).trans f_13
                have f_30 : w_16 (ad 12) = some (eI g 32 (setWI (upd (va_cpy (fun _ => 0) fH 0 (32 * 0) 32) 4 (nI 9)) 8 (openL pl 30))) := by rw [ew_17]; exact gu_s
                refine lv_aload_n hx hb dX3_commit_213 rfl (lv_at hl 0 rfl) ?_
                refine gx_get C h f_18 (Cn := RX3) (T := TX3) (N := 22) rfl in_X3 21 (by decide) q753 rfl rfl dX3_commit_214 ?_
                refine lv_bipush (v := nI 16) hx hb dX3_commit_217 (by decide) ?_
                refine lv_iload_n hx hb dX3_commit_219 rfl (lv_at hl 1 rfl) ?_
                refine gc_v (va_runS (As := [.ref (ad 12), .int (nI 16), .int n]) (rest := []) C.fix (m_X3_set l g w_16 v (ad 12) 32 (setWI (upd (va_cpy (fun _ => 0) fH 0 (32 * 0) 32) 4 (nI 9)) 8 (openL pl 30)) f_30 (by omega) 16 n (by omega)) (va_cwS 3 hts (lw_S q859 q860 q53 q861) rfl rfl rfl (by decide +kernel) ⟨Nat.le_of_ble_eq_true rfl, Nat.le_of_ble_eq_true rfl⟩) (gp_S C h _) rfl rfl hl.1 rfl (lv_room (Nat.le_of_ble_eq_true rfl)) dX3_commit_220 ⟨Nat.le_of_ble_eq_true rfl, Nat.le_of_ble_eq_true rfl⟩) h (fun w_32 H locs hp h => ?_)
                have ew_33 : w_32 = gu w_16 (ad 12) (eI g 32 (setI (setWI (upd (va_cpy (fun _ => 0) fH 0 (32 * 0) 32) 4 (nI 9)) 8 (openL pl 30)) 16 n)) := hp
                have f_34 : w_32 (ad 0) = some (ob 4 [.int (nI cn), .int (bI ru), .int (bI fu), .ref (ad 1), .ref (ad 2), .ref (ad 3), .ref (ad 4), .ref (ad 5), .int (bI ch), .ref (ad 6), .ref (ad 7), .int (nI fi), .int (nI (be + (comW ld n (cn - 2)).length)), .ref (ad 8), .ref (ad 9), .int (nI 0), .int (nI ne), .ref (ad 10), .ref (ad 11), .int (nI ke), .int (bI th), .ref (ad 12)]) := by rw [ew_33]; exact (gu_n (fun q => absurd (hinj 0 12 (by decide) (by decide) q) (by decide))).trans f_18
                have f_35 : w_32 (ad 1) = some (eI g 2048 fD) := by rw [ew_33]; exact (gu_n (fun q => absurd (hinj 1 12 (by decide) (by decide) q) (by decide))).trans f_19
                have f_36 : w_32 (ad 2) = some (eI g 2048 fL') := by rw [ew_33]; exact (gu_n (fun q => absurd (hinj 2 12 (by decide) (by decide) q) (by decide))).trans f_20
                have f_37 : w_32 (ad 3) = some (eI g 2048 fO') := by rw [ew_33]; exact (gu_n (fun q => absurd (hinj 3 12 (by decide) (by decide) q) (by decide))).trans f_21
                have f_38 : w_32 (ad 4) = some (eZ g 64 z') := by rw [ew_33]; exact (gu_n (fun q => absurd (hinj 4 12 (by decide) (by decide) q) (by decide))).trans f_22
                have f_39 : w_32 (ad 5) = some (eI g 30 fP) := by rw [ew_33]; exact (gu_n (fun q => absurd (hinj 5 12 (by decide) (by decide) q) (by decide))).trans f_23
                have f_40 : w_32 (ad 6) = some (eI g 1200 fT') := by rw [ew_33]; exact (gu_n (fun q => absurd (hinj 6 12 (by decide) (by decide) q) (by decide))).trans f_24
                have f_41 : w_32 (ad 7) = some (eI g 38400 fY') := by rw [ew_33]; exact (gu_n (fun q => absurd (hinj 7 12 (by decide) (by decide) q) (by decide))).trans f_25
                have f_42 : w_32 (ad 8) = some (eI g 1200 fN) := by rw [ew_33]; exact (gu_n (fun q => absurd (hinj 8 12 (by decide) (by decide) q) (by decide))).trans f_26
                have f_43 : w_32 (ad 9) = some (eL g 1200 fS) := by rw [ew_33]; exact (gu_n (fun q => absurd (hinj 9 12 (by decide) (by decide) q) (by decide))).trans f_27
                have f_44 : w_32 (ad 10) = some (eI g 4 fKn) := by rw [ew_33]; exact (gu_n (fun q => absurd (hinj 10 12 (by decide) (by decide) q) (by decide))).trans f_28
                have f_45 : w_32 (ad 11) = some (eL g 4 fK) := by rw [ew_33]; exact (gu_n (fun q => absurd (hinj 11 12 (by decide) (by decide) q) (by decide))).trans f_29
                have f_46 : w_32 (ad 12) = some (eI g 32 (setI (setWI (upd (va_cpy (fun _ => 0) fH 0 (32 * 0) 32) 4 (nI 9)) 8 (openL pl 30)) 16 n)) := by rw [ew_33]; exact gu_s
                refine lv_aload_n hx hb dX3_commit_223 rfl (lv_at hl 0 rfl) ?_
                refine gx_get C h f_34 (Cn := RX3) (T := TX3) (N := 22) rfl in_X3 21 (by decide) q753 rfl rfl dX3_commit_224 ?_
                refine lv_bipush (v := nI 20) hx hb dX3_commit_227 (by decide) ?_
                refine lv_iload hx hb dX3_commit_229 (lv_at hl 4 rfl) ?_
                refine gc_v (va_runS (As := [.ref (ad 12), .int (nI 20), .int all]) (rest := []) C.fix (m_X3_set l g w_32 v (ad 12) 32 (setI (setWI (upd (va_cpy (fun _ => 0) fH 0 (32 * 0) 32) 4 (nI 9)) 8 (openL pl 30)) 16 n) f_46 (by omega) 20 all (by omega)) (va_cwS 3 hts (lw_S q859 q860 q53 q861) rfl rfl rfl (by decide +kernel) ⟨Nat.le_of_ble_eq_true rfl, Nat.le_of_ble_eq_true rfl⟩) (gp_S C h _) rfl rfl hl.1 rfl (lv_room (Nat.le_of_ble_eq_true rfl)) dX3_commit_231 ⟨Nat.le_of_ble_eq_true rfl, Nat.le_of_ble_eq_true rfl⟩) h (fun w_48 H locs hp h => ?_)
                have ew_49 : w_48 = gu w_32 (ad 12) (eI g 32 (setI (setI (setWI (upd (va_cpy (fun _ => 0) fH 0 (32 * 0) 32) 4 (nI 9)) 8 (openL pl 30)) 16 n) 20 all)) := hp
                have f_50 : w_48 (ad 0) = some (ob 4 [.int (nI cn), .int (bI ru), .int (bI fu), .ref (ad 1), .ref (ad 2), .ref (ad 3), .ref (ad 4), .ref (ad 5), .int (bI ch), .ref (ad 6), .ref (ad 7), .int (nI fi), .int (nI (be + (comW ld n (cn - 2)).length)), .ref (ad 8), .ref (ad 9), .int (nI 0), .int (nI ne), .ref (ad 10), .ref (ad 11), .int (nI ke), .int (bI th), .ref (ad 12)]) := by rw [ew_49]; exact (gu_n (fun q => absurd (hinj 0 12 (by decide) (by decide) q) (by decide))).trans f_34
                have f_51 : w_48 (ad 1) = some (eI g 2048 fD) := by rw [ew_49]; exact (gu_n (fun q => absurd (hinj 1 12 (by decide) (by decide) q) (by decide))).trans f_35
                have f_52 : w_48 (ad 2) = some (eI g 2048 fL') := by rw [ew_49]; exact (gu_n (fun q => absurd (hinj 2 12 (by decide) (by decide) q) (by decide))).trans f_36
                have f_53 : w_48 (ad 3) = some (eI g 2048 fO') := by rw [ew_49]; exact (gu_n (fun q => absurd (hinj 3 12 (by decide) (by decide) q) (by decide))).trans f_37
                have f_54 : w_48 (ad 4) = some (eZ g 64 z') := by rw [ew_49]; exact (gu_n (fun q => absurd (hinj 4 12 (by decide) (by decide) q) (by decide))).trans f_38
                have f_55 : w_48 (ad 5) = some (eI g 30 fP) := by rw [ew_49]; exact (gu_n (fun q => absurd (hinj 5 12 (by decide) (by decide) q) (by decide))).trans f_39
                have f_56 : w_48 (ad 6) = some (eI g 1200 fT') := by rw [ew_49]; exact (gu_n (fun q => absurd (hinj 6 12 (by decide) (by decide) q) (by decide))).trans f_40
                have f_57 : w_48 (ad 7) = some (eI g 38400 fY') := by rw [ew_49]; exact (gu_n (fun q => absurd (hinj 7 12 (by decide) (by decide) q) (by decide))).trans f_41
                have f_58 : w_48 (ad 8) = some (eI g 1200 fN) := by rw [ew_49]; exact (gu_n (fun q => absurd (hinj 8 12 (by decide) (by decide) q) (by decide))).trans f_42
                have f_59 : w_48 (ad 9) = some (eL g 1200 fS) := by rw [ew_49]; exact (gu_n (fun q => absurd (hinj 9 12 (by decide) (by decide) q) (by decide))).trans f_43
                have f_60 : w_48 (ad 10) = some (eI g 4 fKn) := by rw [ew_49]; exact (gu_n (fun q => absurd (hinj 10 12 (by decide) (by decide) q) (by decide))).trans f_44
                have f_61 : w_48 (ad 11) = some (eL g 4 fK) := by rw [ew_49]; exact (gu_n (fun q => absurd (hinj 11 12 (by decide) (by decide) q) (by decide))).trans f_45
                have f_62 : w_48 (ad 12) = some (eI g 32 (setI (setI (setWI (upd (va_cpy (fun _ => 0) fH 0 (32 * 0) 32) 4 (nI 9)) 8 (openL pl 30)) 16 n) 20 all)) := by rw [ew_49]; exact gu_s
                refine lv_aload_n hx hb dX3_commit_234 rfl (lv_at hl 0 rfl) ?_
                refine gx_get C h f_50 (Cn := RX3) (T := TX3) (N := 22) rfl in_X3 21 (by decide) q753 rfl rfl dX3_commit_235 ?_
                refine lv_iconst (v := nI 0) hx hb dX3_commit_238 (by decide) ?_
                refine gc_v (va_runS (As := [.ref (ad 12), .int (nI 0)]) (rest := []) C.fix (m_X3_close l g w_48 v (ad 12) 32 (setI (setI (setWI (upd (va_cpy (fun _ => 0) fH 0 (32 * 0) 32) 4 (nI 9)) 8 (openL pl 30)) 16 n) 20 all) f_62 (by omega) 0 (by omega)) (va_cwS 2 hts (lw_S q862 q863 q53 q864) rfl rfl rfl (by decide +kernel) ⟨Nat.le_of_ble_eq_true rfl, Nat.le_of_ble_eq_true rfl⟩) (gp_S C h _) rfl rfl hl.1 rfl (lv_room (Nat.le_of_ble_eq_true rfl)) dX3_commit_239 ⟨Nat.le_of_ble_eq_true rfl, Nat.le_of_ble_eq_true rfl⟩) h (fun w_64 H locs hp h => ?_)
                have ew_65 : w_64 = gu w_48 (ad 12) (eI g 32 (closeI (setI (setI (setWI (upd (va_cpy (fun _ => 0) fH 0 (32 * 0) 32) 4 (nI 9)) 8 (openL pl 30)) 16 n) 20 all) 0)) := hp
                have f_66 : w_64 (ad 0) = some (ob 4 [.int (nI cn), .int (bI ru), .int (bI fu), .ref (ad 1), .ref (ad 2), .ref (ad 3), .ref (ad 4), .ref (ad 5), .int (bI ch), .ref (ad 6), .ref (ad 7), .int (nI fi), .int (nI (be + (comW ld n (cn - 2)).length)), .ref (ad 8), .ref (ad 9), .int (nI 0), .int (nI ne), .ref (ad 10), .ref (ad 11), .int (nI ke), .int (bI th), .ref (ad 12)]) := by rw [ew_65]; exact (gu_n (fun q => absurd (hinj 0 12 (by decide) (by decide) q) (by decide))).trans f_50
                have f_67 : w_64 (ad 1) = some (eI g 2048 fD) := by rw [ew_65]; exact (gu_n (fun q => absurd (hinj 1 12 (by decide) (by decide) q) (by decide))).trans f_51
                have f_68 : w_64 (ad 2) = some (eI g 2048 fL') := by rw [ew_65]; exact (gu_n (fun q => absurd (hinj 2 12 (by decide) (by decide) q) (by decide))).trans f_52
                have f_69 : w_64 (ad 3) = some (eI g 2048 fO') := by rw [ew_65]; exact (gu_n (fun q => absurd (hinj 3 12 (by decide) (by decide) q) (by decide))).trans f_53
                have f_70 : w_64 (ad 4) = some (eZ g 64 z') := by rw [ew_65]; exact (gu_n (fun q => absurd (hinj 4 12 (by decide) (by decide) q) (by decide))).trans f_54
                have f_71 : w_64 (ad 5) = some (eI g 30 fP) := by rw [ew_65]; exact (gu_n (fun q => absurd (hinj 5 12 (by decide) (by decide) q) (by decide))).trans f_55
                have f_72 : w_64 (ad 6) = some (eI g 1200 fT') := by rw [ew_65]; exact (gu_n (fun q => absurd (hinj 6 12 (by decide) (by decide) q) (by decide))).trans f_56
                have f_73 : w_64 (ad 7) = some (eI g 38400 fY') := by rw [ew_65]; exact (gu_n (fun q => absurd (hinj 7 12 (by decide) (by decide) q) (by decide))).trans f_57
                have f_74 : w_64 (ad 8) = some (eI g 1200 fN) := by rw [ew_65]; exact (gu_n (fun q => absurd (hinj 8 12 (by decide) (by decide) q) (by decide))).trans f_58
                have f_75 : w_64 (ad 9) = some (eL g 1200 fS) := by rw [ew_65]; exact (gu_n (fun q => absurd (hinj 9 12 (by decide) (by decide) q) (by decide))).trans f_59
                have f_76 : w_64 (ad 10) = some (eI g 4 fKn) := by rw [ew_65]; exact (gu_n (fun q => absurd (hinj 10 12 (by decide) (by decide) q) (by decide))).trans f_60
                have f_77 : w_64 (ad 11) = some (eL g 4 fK) := by rw [ew_65]; exact (gu_n (fun q => absurd (hinj 11 12 (by decide) (by decide) q) (by decide))).trans f_61
                have f_78 : w_64 (ad 12) = some (eI g 32 (closeI (setI (setI (setWI (upd (va_cpy (fun _ => 0) fH 0 (32 * 0) 32) 4 (nI 9)) 8 (openL pl 30)) 16 n) 20 all) 0)) := by rw [ew_65]; exact gu_s
                obtain ⟨fHh, hfHh⟩ : ∃ q : Nat → Int32, q = closeI (setI (setI (setWI (upd (va_cpy (fun _ => 0) fH 0 (32 * 0) 32) 4 (nI 9)) 8 (openL pl 30)) 16 n) 20 all) 0 := ⟨_, rfl⟩
                have hrow : Row fH fHh (headC (openL pl 30) n all) 0 := by rw [hfHh]; exact headC_row fH (openL pl 30) n all
                have f_79 : w_64 (ad 12) = some (eI g 32 fHh) := by rw [hfHh]; exact f_78
                refine lv_aload_n hx hb dX3_commit_242 rfl (lv_at hl 0 rfl) ?_
                refine lv_aload_n hx hb dX3_commit_243 rfl (lv_at hl 0 rfl) ?_
                refine gx_get C h f_66 (Cn := RX3) (T := TX3) (N := 22) rfl in_X3 21 (by decide) q753 rfl rfl dX3_commit_244 ?_
                refine lv_iconst (v := nI 0) hx hb dX3_commit_247 (by decide) ?_
                refine lv_iload_n hx hb dX3_commit_248 rfl (lv_at hl 1 rfl) ?_
                refine lv_iconst (v := nI 2) hx hb dX3_commit_249 (by decide) ?_
                refine lv_irem hx hb dX3_commit_250 (by decide) ?_
                have hrm : n - n / nI 2 * nI 2 = nI (nn % 2) := by rw [hnv]; exact pk_rem (by omega) (by omega) (by omega)
                refine W.eq (congrArg (fun z_ => F0 m 251 ls [.int z_, .int (nI 0), .ref (ad 12), .ref (ad 0)]) hrm) ?_
                have hMq : MW g w_64 ad cn ru fu ch th fi (be + (comW ld n (cn - 2)).length) ne ke fD fL' fO' z' fP fT' fY' fN fS fKn fK fHh := ⟨hinj, f_66, f_67, f_68, f_69, f_70, f_71, f_72, f_73, f_74, f_75, f_76, f_77, f_79⟩
                have hcl62 := hclen (cn - 2) (by omega)
                refine gc_v (va_runV (As := [.ref (ad 12), .int (nI 0), .int (nI (nn % 2))]) (rest := []) C.fix (m_X3_queue l g w_64 v ad cn ru fu ch th fi (be + (comW ld n (cn - 2)).length) ne ke fD fL' fO' z' fP fT' fY' fN fS fKn fK fHh hMq (ad 12) 32 fHh 0 (nn % 2) f_79 (by omega) (fun q => absurd (hinj 12 2 (by decide) (by decide) q) (by decide)) (fun q => absurd (hinj 12 6 (by decide) (by decide) q) (by decide)) (fun q => absurd (hinj 12 7 (by decide) (by decide) q) (by decide)) (by omega) (by omega)) (cwV 3 hts (lw_V q881 q883 qs37 q53 q884) rfl rfl rfl (by decide +kernel) ⟨Nat.le_of_ble_eq_true rfl, Nat.le_of_ble_eq_true rfl⟩) (gp_V C h [.ref (ad 12), .int (nI 0), .int (nI (nn % 2))] (Cn := RX3) (T := TX3) (N := 22) rfl f_66) rfl rfl hl.1 rfl (lv_room (Nat.le_of_ble_eq_true rfl)) dX3_commit_251 ⟨Nat.le_of_ble_eq_true rfl, Nat.le_of_ble_eq_true rfl⟩) h (fun w_81 H locs hp h => ?_)
                obtain ⟨hMr, -⟩ := hp
                obtain ⟨hinj, u0, u1, u2, u3, u4, u5, u6, u7, u8, u9, u10, u11, u12⟩ := id hMr
                refine lv_aload_n hx hb dX3_commit_254 rfl (lv_at hl 0 rfl) ?_
                refine lv_dup hx hb dX3_commit_255 rfl ?_
                refine gx_get C h u0 (Cn := RX3) (T := TX3) (N := 22) rfl in_X3 16 (by decide) q748 rfl rfl dX3_commit_256 ?_
                refine lv_iconst (v := nI 1) hx hb dX3_commit_259 (by decide) ?_
                refine gn_iadd hx hb dX3_commit_260 ?_
                refine gx_put C h u0 (Cn := RX3) (T := TX3) (N := 22) (x := .int (nI (ne + 1))) rfl in_X3 tyX3 tyX3_ok nmX3 16 (by decide) q748 rfl rfl rfl rfl (Nat.le_of_ble_eq_true rfl) dX3_commit_261 (fun H locs h => ?_)
                obtain ⟨w_82, ew_82⟩ : ∃ z_ : GW, z_ = gu w_81 (ad 0) (ob 4 [.int (nI cn), .int (bI ru), .int (bI fu), .ref (ad 1), .ref (ad 2), .ref (ad 3), .ref (ad 4), .ref (ad 5), .int (bI ch), .ref (ad 6), .ref (ad 7), .int (nI fi), .int (nI ((be + (comW ld n (cn - 2)).length) + 1)), .ref (ad 8), .ref (ad 9), .int (nI 0), .int (nI (ne + 1)), .ref (ad 10), .ref (ad 11), .int (nI ke), .int (bI th), .ref (ad 12)]) := ⟨_, rfl⟩
                have h : SH g w_82 v s H locs := by rw [ew_82]; exact h
                have f_83 : w_82 (ad 0) = some (ob 4 [.int (nI cn), .int (bI ru), .int (bI fu), .ref (ad 1), .ref (ad 2), .ref (ad 3), .ref (ad 4), .ref (ad 5), .int (bI ch), .ref (ad 6), .ref (ad 7), .int (nI fi), .int (nI ((be + (comW ld n (cn - 2)).length) + 1)), .ref (ad 8), .ref (ad 9), .int (nI 0), .int (nI (ne + 1)), .ref (ad 10), .ref (ad 11), .int (nI ke), .int (bI th), .ref (ad 12)]) := by rw [ew_82]; exact gu_s
                have f_84 : w_82 (ad 1) = some (eI g 2048 fD) := by rw [ew_82]; exact (gu_n (fun q => absurd (hinj 1 0 (by decide) (by decide) q) (by decide))).trans u1
                have f_85 : w_82 (ad 2) = some (eI g 2048 (va_cpy fHh fL' (32 * 0) (32 * (nn % 2)) 32)) := by rw [ew_82]; exact (gu_n (fun q => absurd (hinj 2 0 (by decide) (by decide) q) (by decide))).trans u2
                have f_86 : w_82 (ad 3) = some (eI g 2048 fO') := by rw [ew_82]; exact (gu_n (fun q => absurd (hinj 3 0 (by decide) (by decide) q) (by decide))).trans u3
                have f_87 : w_82 (ad 4) = some (eZ g 64 z') := by rw [ew_82]; exact (gu_n (fun q => absurd (hinj 4 0 (by decide) (by decide) q) (by decide))).trans u4
                have f_88 : w_82 (ad 5) = some (eI g 30 fP) := by rw [ew_82]; exact (gu_n (fun q => absurd (hinj 5 0 (by decide) (by decide) q) (by decide))).trans u5
                have f_89 : w_82 (ad 6) = some (eI g 1200 (upd fT' (be + (comW ld n (cn - 2)).length) (nI (nn % 2)))) := by rw [ew_82]; exact (gu_n (fun q => absurd (hinj 6 0 (by decide) (by decide) q) (by decide))).trans u6
                have f_90 : w_82 (ad 7) = some (eI g 38400 (va_cpy fHh fY' (32 * 0) (32 * (be + (comW ld n (cn - 2)).length)) 32)) := by rw [ew_82]; exact (gu_n (fun q => absurd (hinj 7 0 (by decide) (by decide) q) (by decide))).trans u7
                have f_91 : w_82 (ad 8) = some (eI g 1200 fN) := by rw [ew_82]; exact (gu_n (fun q => absurd (hinj 8 0 (by decide) (by decide) q) (by decide))).trans u8
                have f_92 : w_82 (ad 9) = some (eL g 1200 fS) := by rw [ew_82]; exact (gu_n (fun q => absurd (hinj 9 0 (by decide) (by decide) q) (by decide))).trans u9
                have f_93 : w_82 (ad 10) = some (eI g 4 fKn) := by rw [ew_82]; exact (gu_n (fun q => absurd (hinj 10 0 (by decide) (by decide) q) (by decide))).trans u10
                have f_94 : w_82 (ad 11) = some (eL g 4 fK) := by rw [ew_82]; exact (gu_n (fun q => absurd (hinj 11 0 (by decide) (by decide) q) (by decide))).trans u11
                have f_95 : w_82 (ad 12) = some (eI g 32 fHh) := by rw [ew_82]; exact (gu_n (fun q => absurd (hinj 12 0 (by decide) (by decide) q) (by decide))).trans u12
                refine lv_aload_n hx hb dX3_commit_264 rfl (lv_at hl 0 rfl) ?_
                refine gx_get C h f_83 (Cn := RX3) (T := TX3) (N := 22) rfl in_X3 13 (by decide) q745 rfl rfl dX3_commit_265 ?_
                refine lv_aload_n hx hb dX3_commit_268 rfl (lv_at hl 0 rfl) ?_
                refine gx_get C h f_83 (Cn := RX3) (T := TX3) (N := 22) rfl in_X3 16 (by decide) q748 rfl rfl dX3_commit_269 ?_
                refine lv_iload_n hx hb dX3_commit_272 rfl (lv_at hl 1 rfl) ?_
                refine gx_iast C h f_91 (ne + 1) (rfl) (by omega) dX3_commit_273 (fun H locs h => ?_)
                obtain ⟨w_96, ew_96⟩ : ∃ z_ : GW, z_ = gu w_82 (ad 8) (eI g 1200 (upd fN (ne + 1) n)) := ⟨_, rfl⟩
                have h : SH g w_96 v s H locs := by rw [ew_96]; exact h
                have f_97 : w_96 (ad 0) = some (ob 4 [.int (nI cn), .int (bI ru), .int (bI fu), .ref (ad 1), .ref (ad 2), .ref (ad 3), .ref (ad 4), .ref (ad 5), .int (bI ch), .ref (ad 6), .ref (ad 7), .int (nI fi), .int (nI ((be + (comW ld n (cn - 2)).length) + 1)), .ref (ad 8), .ref (ad 9), .int (nI 0), .int (nI (ne + 1)), .ref (ad 10), .ref (ad 11), .int (nI ke), .int (bI th), .ref (ad 12)]) := by rw [ew_96]; exact (gu_n (fun q => absurd (hinj 0 8 (by decide) (by decide) q) (by decide))).trans f_83
                have f_98 : w_96 (ad 1) = some (eI g 2048 fD) := by rw [ew_96]; exact (gu_n (fun q => absurd (hinj 1 8 (by decide) (by decide) q) (by decide))).trans f_84
                have f_99 : w_96 (ad 2) = some (eI g 2048 (va_cpy fHh fL' (32 * 0) (32 * (nn % 2)) 32)) := by rw [ew_96]; exact (gu_n (fun q => absurd (hinj 2 8 (by decide) (by decide) q) (by decide))).trans f_85
                have f_100 : w_96 (ad 3) = some (eI g 2048 fO') := by rw [ew_96]; exact (gu_n (fun q => absurd (hinj 3 8 (by decide) (by decide) q) (by decide))).trans f_86
                have f_101 : w_96 (ad 4) = some (eZ g 64 z') := by rw [ew_96]; exact (gu_n (fun q => absurd (hinj 4 8 (by decide) (by decide) q) (by decide))).trans f_87
                have f_102 : w_96 (ad 5) = some (eI g 30 fP) := by rw [ew_96]; exact (gu_n (fun q => absurd (hinj 5 8 (by decide) (by decide) q) (by decide))).trans f_88
                have f_103 : w_96 (ad 6) = some (eI g 1200 (upd fT' (be + (comW ld n (cn - 2)).length) (nI (nn % 2)))) := by rw [ew_96]; exact (gu_n (fun q => absurd (hinj 6 8 (by decide) (by decide) q) (by decide))).trans f_89
                have f_104 : w_96 (ad 7) = some (eI g 38400 (va_cpy fHh fY' (32 * 0) (32 * (be + (comW ld n (cn - 2)).length)) 32)) := by rw [ew_96]; exact (gu_n (fun q => absurd (hinj 7 8 (by decide) (by decide) q) (by decide))).trans f_90
                have f_105 : w_96 (ad 8) = some (eI g 1200 (upd fN (ne + 1) n)) := by rw [ew_96]; exact gu_s
                have f_106 : w_96 (ad 9) = some (eL g 1200 fS) := by rw [ew_96]; exact (gu_n (fun q => absurd (hinj 9 8 (by decide) (by decide) q) (by decide))).trans f_92
                have f_107 : w_96 (ad 10) = some (eI g 4 fKn) := by rw [ew_96]; exact (gu_n (fun q => absurd (hinj 10 8 (by decide) (by decide) q) (by decide))).trans f_93
                have f_108 : w_96 (ad 11) = some (eL g 4 fK) := by rw [ew_96]; exact (gu_n (fun q => absurd (hinj 11 8 (by decide) (by decide) q) (by decide))).trans f_94
                have f_109 : w_96 (ad 12) = some (eI g 32 fHh) := by rw [ew_96]; exact (gu_n (fun q => absurd (hinj 12 8 (by decide) (by decide) q) (by decide))).trans f_95
                refine lv_aload_n hx hb dX3_commit_274 rfl (lv_at hl 0 rfl) ?_
                refine gx_get C h f_97 (Cn := RX3) (T := TX3) (N := 22) rfl in_X3 14 (by decide) q746 rfl rfl dX3_commit_275 ?_
                refine lv_aload_n hx hb dX3_commit_278 rfl (lv_at hl 0 rfl) ?_
                refine gx_get C h f_97 (Cn := RX3) (T := TX3) (N := 22) rfl in_X3 16 (by decide) q748 rfl rfl dX3_commit_279 ?_
                refine lv_lload_n hx hb dX3_commit_282 rfl (lv_at hl 3 rfl) ?_
                refine gx_last C h f_106 (ne + 1) (rfl) (by omega) dX3_commit_283 (fun H locs h => ?_)
                obtain ⟨w_110, ew_110⟩ : ∃ z_ : GW, z_ = gu w_96 (ad 9) (eL g 1200 (vp_updL fS (ne + 1) ((openL pl 30)))) := ⟨_, rfl⟩
                have h : SH g w_110 v s H locs := by rw [ew_110]; exact h
                have f_111 : w_110 (ad 0) = some (ob 4 [.int (nI cn), .int (bI ru), .int (bI fu), .ref (ad 1), .ref (ad 2), .ref (ad 3), .ref (ad 4), .ref (ad 5), .int (bI ch), .ref (ad 6), .ref (ad 7), .int (nI fi), .int (nI ((be + (comW ld n (cn - 2)).length) + 1)), .ref (ad 8), .ref (ad 9), .int (nI 0), .int (nI (ne + 1)), .ref (ad 10), .ref (ad 11), .int (nI ke), .int (bI th), .ref (ad 12)]) := by rw [ew_110]; exact (gu_n (fun q => absurd (hinj 0 9 (by decide) (by decide) q) (by decide))).trans f_97
                have f_112 : w_110 (ad 1) = some (eI g 2048 fD) := by rw [ew_110]; exact (gu_n (fun q => absurd (hinj 1 9 (by decide) (by decide) q) (by decide))).trans f_98
                have f_113 : w_110 (ad 2) = some (eI g 2048 (va_cpy fHh fL' (32 * 0) (32 * (nn % 2)) 32)) := by rw [ew_110]; exact (gu_n (fun q => absurd (hinj 2 9 (by decide) (by decide) q) (by decide))).trans f_99
                have f_114 : w_110 (ad 3) = some (eI g 2048 fO') := by rw [ew_110]; exact (gu_n (fun q => absurd (hinj 3 9 (by decide) (by decide) q) (by decide))).trans f_100
                have f_115 : w_110 (ad 4) = some (eZ g 64 z') := by rw [ew_110]; exact (gu_n (fun q => absurd (hinj 4 9 (by decide) (by decide) q) (by decide))).trans f_101
                have f_116 : w_110 (ad 5) = some (eI g 30 fP) := by rw [ew_110]; exact (gu_n (fun q => absurd (hinj 5 9 (by decide) (by decide) q) (by decide))).trans f_102
                have f_117 : w_110 (ad 6) = some (eI g 1200 (upd fT' (be + (comW ld n (cn - 2)).length) (nI (nn % 2)))) := by rw [ew_110]; exact (gu_n (fun q => absurd (hinj 6 9 (by decide) (by decide) q) (by decide))).trans f_103
                have f_118 : w_110 (ad 7) = some (eI g 38400 (va_cpy fHh fY' (32 * 0) (32 * (be + (comW ld n (cn - 2)).length)) 32)) := by rw [ew_110]; exact (gu_n (fun q => absurd (hinj 7 9 (by decide) (by decide) q) (by decide))).trans f_104
                have f_119 : w_110 (ad 8) = some (eI g 1200 (upd fN (ne + 1) n)) := by rw [ew_110]; exact (gu_n (fun q => absurd (hinj 8 9 (by decide) (by decide) q) (by decide))).trans f_105
                have f_120 : w_110 (ad 9) = some (eL g 1200 (vp_updL fS (ne + 1) ((openL pl 30)))) := by rw [ew_110]; exact gu_s
                have f_121 : w_110 (ad 10) = some (eI g 4 fKn) := by rw [ew_110]; exact (gu_n (fun q => absurd (hinj 10 9 (by decide) (by decide) q) (by decide))).trans f_107
                have f_122 : w_110 (ad 11) = some (eL g 4 fK) := by rw [ew_110]; exact (gu_n (fun q => absurd (hinj 11 9 (by decide) (by decide) q) (by decide))).trans f_108
                have f_123 : w_110 (ad 12) = some (eI g 32 fHh) := by rw [ew_110]; exact (gu_n (fun q => absurd (hinj 12 9 (by decide) (by decide) q) (by decide))).trans f_109
                refine lv_aload_n hx hb dX3_commit_284 rfl (lv_at hl 0 rfl) ?_
                refine lv_iconst (v := bI false) hx hb dX3_commit_285 (by decide) ?_
                refine gx_put C h f_111 (Cn := RX3) (T := TX3) (N := 22) (x := .int (bI false)) rfl in_X3 tyX3 tyX3_ok nmX3 8 (by decide) q740 rfl rfl (bI_n _) (bI_f _) (Nat.le_of_ble_eq_true rfl) dX3_commit_286 (fun H locs h => ?_)
                obtain ⟨w_124, ew_124⟩ : ∃ z_ : GW, z_ = gu w_110 (ad 0) (ob 4 [.int (nI cn), .int (bI ru), .int (bI fu), .ref (ad 1), .ref (ad 2), .ref (ad 3), .ref (ad 4), .ref (ad 5), .int (bI false), .ref (ad 6), .ref (ad 7), .int (nI fi), .int (nI ((be + (comW ld n (cn - 2)).length) + 1)), .ref (ad 8), .ref (ad 9), .int (nI 0), .int (nI (ne + 1)), .ref (ad 10), .ref (ad 11), .int (nI ke), .int (bI th), .ref (ad 12)]) := ⟨_, rfl⟩
                have h : SH g w_124 v s H locs := by rw [ew_124]; exact h
                have f_125 : w_124 (ad 0) = some (ob 4 [.int (nI cn), .int (bI ru), .int (bI fu), .ref (ad 1), .ref (ad 2), .ref (ad 3), .ref (ad 4), .ref (ad 5), .int (bI false), .ref (ad 6), .ref (ad 7), .int (nI fi), .int (nI ((be + (comW ld n (cn - 2)).length) + 1)), .ref (ad 8), .ref (ad 9), .int (nI 0), .int (nI (ne + 1)), .ref (ad 10), .ref (ad 11), .int (nI ke), .int (bI th), .ref (ad 12)]) := by rw [ew_124]; exact gu_s
                have f_126 : w_124 (ad 1) = some (eI g 2048 fD) := by rw [ew_124]; exact (gu_n (fun q => absurd (hinj 1 0 (by decide) (by decide) q) (by decide))).trans f_112
                have f_127 : w_124 (ad 2) = some (eI g 2048 (va_cpy fHh fL' (32 * 0) (32 * (nn % 2)) 32)) := by rw [ew_124]; exact (gu_n (fun q => absurd (hinj 2 0 (by decide) (by decide) q) (by decide))).trans f_113
                have f_128 : w_124 (ad 3) = some (eI g 2048 fO') := by rw [ew_124]; exact (gu_n (fun q => absurd (hinj 3 0 (by decide) (by decide) q) (by decide))).trans f_114
                have f_129 : w_124 (ad 4) = some (eZ g 64 z') := by rw [ew_124]; exact (gu_n (fun q => absurd (hinj 4 0 (by decide) (by decide) q) (by decide))).trans f_115
                have f_130 : w_124 (ad 5) = some (eI g 30 fP) := by rw [ew_124]; exact (gu_n (fun q => absurd (hinj 5 0 (by decide) (by decide) q) (by decide))).trans f_116
                have f_131 : w_124 (ad 6) = some (eI g 1200 (upd fT' (be + (comW ld n (cn - 2)).length) (nI (nn % 2)))) := by rw [ew_124]; exact (gu_n (fun q => absurd (hinj 6 0 (by decide) (by decide) q) (by decide))).trans f_117
                have f_132 : w_124 (ad 7) = some (eI g 38400 (va_cpy fHh fY' (32 * 0) (32 * (be + (comW ld n (cn - 2)).length)) 32)) := by rw [ew_124]; exact (gu_n (fun q => absurd (hinj 7 0 (by decide) (by decide) q) (by decide))).trans f_118
                have f_133 : w_124 (ad 8) = some (eI g 1200 (upd fN (ne + 1) n)) := by rw [ew_124]; exact (gu_n (fun q => absurd (hinj 8 0 (by decide) (by decide) q) (by decide))).trans f_119
                have f_134 : w_124 (ad 9) = some (eL g 1200 (vp_updL fS (ne + 1) ((openL pl 30)))) := by rw [ew_124]; exact (gu_n (fun q => absurd (hinj 9 0 (by decide) (by decide) q) (by decide))).trans f_120
                have f_135 : w_124 (ad 10) = some (eI g 4 fKn) := by rw [ew_124]; exact (gu_n (fun q => absurd (hinj 10 0 (by decide) (by decide) q) (by decide))).trans f_121
                have f_136 : w_124 (ad 11) = some (eL g 4 fK) := by rw [ew_124]; exact (gu_n (fun q => absurd (hinj 11 0 (by decide) (by decide) q) (by decide))).trans f_122
                have f_137 : w_124 (ad 12) = some (eI g 32 fHh) := by rw [ew_124]; exact (gu_n (fun q => absurd (hinj 12 0 (by decide) (by decide) q) (by decide))).trans f_123
                refine lv_aload_n hx hb dX3_commit_289 rfl (lv_at hl 0 rfl) ?_
                refine gx_get C h f_125 (Cn := RX3) (T := TX3) (N := 22) rfl in_X3 12 (by decide) q744 rfl rfl dX3_commit_290 ?_
                refine lv_iload_n hx hb dX3_commit_293 rfl (lv_at hl 2 rfl) ?_
                refine gn_isub hx hb dX3_commit_294 (by omega) ?_
                have eq : opCommit (cn, ru, fu, ch, dk, wt, ld, pl, st, kp) n = (nI ((comW ld n (cn - 2)).length + 1), (cn, ru, fu, false, dk, ((wt ++ (comW ld n (cn - 2))) ++ [(nn % 2, headC (openL pl 30) n all)]), fun _ => none, pl, st ++ [(n, (openL pl 30))], kp)) := by unfold opCommit; dsimp only; rw [if_neg hrc, if_neg hno, hcl, ← hal]
                have hz0 : cntL (fun _ => none) = 0 := by decide +kernel
                exact gr_i C h (ty := .int) rfl (rfl) (by rw [eq]; exact ⟨by congr 1; omega, th, fi, (be + (comW ld n (cn - 2)).length) + 1, ne + 1, ke, fD, _, fO', z', fP, _, _, _, _, fKn, fK, fHh, ⟨hinj, f_125, f_126, f_127, f_128, f_129, f_130, f_131, f_132, f_133, f_134, f_135, f_136, f_137⟩, r1, que_L q2 (fun j hj => hrow.1 j hj), fun k c j _ hc => (by cases hc), fun k hk => com_z i3 (by omega) q4 hk, r5, by simp; omega, que_7 q7 (by simp; omega) (fun j hj => hrow.1 j hj), by simp; omega, com_S r8 r9, r10, r11, by omega, by simp; omega⟩) (Nat.le_of_ble_eq_true rfl) (Nat.le_of_ble_eq_true rfl) dX3_commit_295
              · skip
                have c5 : ¬ (32 ≤ (32 * 0 + i)) := fun q => c5 ((nI_leI (by omega) (by omega)).mpr q)
                refine lv_aload_n hx hb dX3_commit_181 rfl (lv_at hl 0 rfl) ?_
                refine gx_get C h g0 (Cn := RX3) (T := TX3) (N := 22) rfl in_X3 21 (by decide) q753 rfl rfl dX3_commit_182 ?_
                refine lv_iload hx hb dX3_commit_185 (lv_at hl 5 rfl) ?_
                refine lv_iconst (v := (0)) hx hb dX3_commit_187 (by decide) ?_
                refine gx_iast C h g12 (32 * 0 + i) (rfl) (by omega) dX3_commit_188 (fun H locs h => ?_)
                obtain ⟨w_138, ew_138⟩ : ∃ z_ : GW, z_ = gu w1 (ad 12) (eI g 32 (upd (va_cpy (fun _ => 0) fH 0 (32 * 0) i) (32 * 0 + i) 0)) := ⟨_, rfl⟩
                have h : SH g w_138 v s H locs := by rw [ew_138]; exact h
                have f_139 : w_138 (ad 0) = some (ob 4 [.int (nI cn), .int (bI ru), .int (bI fu), .ref (ad 1), .ref (ad 2), .ref (ad 3), .ref (ad 4), .ref (ad 5), .int (bI ch), .ref (ad 6), .ref (ad 7), .int (nI fi), .int (nI (be + (comW ld n (cn - 2)).length)), .ref (ad 8), .ref (ad 9), .int (nI 0), .int (nI ne), .ref (ad 10), .ref (ad 11), .int (nI ke), .int (bI th), .ref (ad 12)]) := by rw [ew_138]; exact (gu_n (fun q => absurd (hinj 0 12 (by decide) (by decide) q) (by decide))).trans g0
                have f_140 : w_138 (ad 1) = some (eI g 2048 fD) := by rw [ew_138]; exact (gu_n (fun q => absurd (hinj 1 12 (by decide) (by decide) q) (by decide))).trans g1
                have f_141 : w_138 (ad 2) = some (eI g 2048 fL') := by rw [ew_138]; exact (gu_n (fun q => absurd (hinj 2 12 (by decide) (by decide) q) (by decide))).trans g2
                have f_142 : w_138 (ad 3) = some (eI g 2048 fO') := by rw [ew_138]; exact (gu_n (fun q => absurd (hinj 3 12 (by decide) (by decide) q) (by decide))).trans g3
                have f_143 : w_138 (ad 4) = some (eZ g 64 z') := by rw [ew_138]; exact (gu_n (fun q => absurd (hinj 4 12 (by decide) (by decide) q) (by decide))).trans g4
                have f_144 : w_138 (ad 5) = some (eI g 30 fP) := by rw [ew_138]; exact (gu_n (fun q => absurd (hinj 5 12 (by decide) (by decide) q) (by decide))).trans g5
                have f_145 : w_138 (ad 6) = some (eI g 1200 fT') := by rw [ew_138]; exact (gu_n (fun q => absurd (hinj 6 12 (by decide) (by decide) q) (by decide))).trans g6
                have f_146 : w_138 (ad 7) = some (eI g 38400 fY') := by rw [ew_138]; exact (gu_n (fun q => absurd (hinj 7 12 (by decide) (by decide) q) (by decide))).trans g7
                have f_147 : w_138 (ad 8) = some (eI g 1200 fN) := by rw [ew_138]; exact (gu_n (fun q => absurd (hinj 8 12 (by decide) (by decide) q) (by decide))).trans g8
                have f_148 : w_138 (ad 9) = some (eL g 1200 fS) := by rw [ew_138]; exact (gu_n (fun q => absurd (hinj 9 12 (by decide) (by decide) q) (by decide))).trans g9
                have f_149 : w_138 (ad 10) = some (eI g 4 fKn) := by rw [ew_138]; exact (gu_n (fun q => absurd (hinj 10 12 (by decide) (by decide) q) (by decide))).trans g10
                have f_150 : w_138 (ad 11) = some (eL g 4 fK) := by rw [ew_138]; exact (gu_n (fun q => absurd (hinj 11 12 (by decide) (by decide) q) (by decide))).trans g11
                have f_151 : w_138 (ad 12) = some (eI g 32 (upd (va_cpy (fun _ => 0) fH 0 (32 * 0) i) (32 * 0 + i) 0)) := by rw [ew_138]; exact gu_s
                have f_152 : w_138 (ad 12) = some (eI g 32 (va_cpy (fun _ => 0) fH 0 (32 * 0) (i + 1))) := by rw [← cpy_s]; exact f_151
                refine lv_iinc (v := nI (32 * 0 + i + 1)) (lv' := [(6, .int (nI (32 * 0 + i + 1))), (0, .ref (ad 0)), (1, .int n), (2, .int (nI be)), (3, .long ((openL pl 30))), (5, .int all)]) hx hb dX3_commit_189 hl (k := 5) rfl (gi_inc _ 1) (by decide) rfl (fun ls hl => ?_)
                refine lv_goto (tgt := 174) hx hb dX3_commit_192 (by decide) ?_
                have hM3 : MW g w_138 ad cn ru fu ch th fi (be + (comW ld n (cn - 2)).length) ne ke fD fL' fO' z' fP fT' fY' fN fS fKn fK (va_cpy (fun _ => 0) fH 0 (32 * 0) (i + 1)) := ⟨hinj, f_139, f_140, f_141, f_142, f_143, f_144, f_145, f_146, f_147, f_148, f_149, f_150, f_152⟩
                exact ih (i + 1) all fL' fO' z' fT' fY' _ _ _ _ (by omega) (by omega) hal hM3 q2 q3 q4 q7  h (lv_sub hl [1, 2, 3, 4, 5, 0] rfl)
          have loop2 : ∀ (n_ : Nat) (i : Nat) (fL' fO' : Nat → Int32) (z' : Nat → Bool) (fT' fY' : Nat → Int32) (w1 : GW) (H : Heap) (locs : List Loc) (ls : Array Slot), (cn - 2) - i < n_ → (i ≤ cn - 2) → (MW g w1 ad cn ru fu ch th fi (be + (comW ld n (cn - 2)).length) ne ke fD fL' fO' z' fP fT' fY' fN fS fKn fK fH) → (∀ k j, k < 64 → j < 32 → fL' (32 * k + j) = ub (lat dk (wt ++ (comW ld n (cn - 2))) k j)) → (∀ k c j, 2 + (cn - 2) ≤ k → k < 64 → ld k = some c → j < 32 → fO' (32 * k + j) = ub (c j)) → (∀ k, k < 64 → z' k = if k < 2 + (cn - 2) then false else (ld k).isSome) → (∀ (i0 : Nat) (x : Nat × Sec), (wt ++ (comW ld n (cn - 2)))[i0]? = some x → fT' (fi + i0) = nI x.1 ∧ ∀ j, j < 32 → fY' (32 * (fi + i0) + j) = ub (x.2 j)) → SH g w1 v s H locs → lv_has ls 7 [(0, .ref (ad 0)), (1, .int n), (2, .int (nI be)), (3, .long (stM (opM fP) i)), (5, .int (comX dk (wt ++ (comW ld n (cn - 2))) (openL pl 30) i)), (6, .int (nI (2 + i)))] → W p l e ({ frames := 3, cells := 0, slots := 0, locals := 180 } : Room) s m ([.ref (ad 0), .int n] : List Value).toArray below meth c H locs 0 0 (MQ below (va_Qi (fun (r : Int32) (w' : GW) => r = (opCommit (cn, ru, fu, ch, dk, wt, ld, pl, st, kp) n).1 ∧ RM g w' ad (N + 1) (opCommit (cn, ru, fu, ch, dk, wt, ld, pl, st, kp) n).2) (gB g v) (gA g)) ([.ref (ad 0), .int n] : List Value).toArray s 0 0 (gA g)) (F0 m 120 ls []) := by
            intro n_
            induction n_ with
            | zero => intros; exact absurd ‹_ < 0› (Nat.not_lt_zero _)
            | succ n_ ih =>
              intro i fL' fO' z' fT' fY' w1 H locs ls hf hi hM1 q2 q3 q4 q7  h hl
              obtain ⟨hinj, g0, g1, g2, g3, g4, g5, g6, g7, g8, g9, g10, g11, g12⟩ := id hM1
              refine lv_iload hx hb dX3_commit_120 (lv_at hl 5 rfl) ?_
              refine lv_aload_n hx hb dX3_commit_122 rfl (lv_at hl 0 rfl) ?_
              refine gx_get C h g0 (Cn := RX3) (T := TX3) (N := 22) rfl in_X3 0 (by decide) q732 rfl rfl dX3_commit_123 ?_
              refine lv_icmp_ge (tgt := 171) hx hb dX3_commit_126 (by decide) (fun c5 => ?_) (fun c5 => ?_)
              · skip
                have c5 : cn ≤ (2 + i) := (nI_leI (by omega) (by omega)).mp c5
                have hie : i = cn - 2 := by omega
                rw [hie, hsM] at hl
                refine lv_iconst (v := nI 0) hx hb dX3_commit_171 (by decide) ?_
                refine lv_istore (lv' := [(6, .int (nI 0)), (0, .ref (ad 0)), (1, .int n), (2, .int (nI be)), (3, .long ((openL pl 30))), (5, .int (comX dk (wt ++ (comW ld n (cn - 2))) (openL pl 30) (cn - 2)))]) hx hb dX3_commit_172 hl (by decide) rfl (fun ls hl => ?_)
                have hl : lv_has ls 7 [(6, .int (nI (32 * 0 + 0))), (0, .ref (ad 0)), (1, .int n), (2, .int (nI be)), (3, .long ((openL pl 30))), (5, .int (comX dk (wt ++ (comW ld n (cn - 2))) (openL pl 30) (cn - 2)))] := by exact hl
                exact loop3 33 0 (comX dk (wt ++ (comW ld n (cn - 2))) (openL pl 30) (cn - 2)) fL' fO' z' fT' fY' _ _ _ _ (by omega) (by omega) rfl (by rw [cpy_0]; exact hM1) q2 q3 q4 q7 h (lv_sub hl [1, 2, 3, 4, 5, 0] rfl)
              · skip
                have c5 : ¬ (cn ≤ (2 + i)) := fun q => c5 ((nI_leI (by omega) (by omega)).mpr q)
                refine lv_aload_n hx hb dX3_commit_129 rfl (lv_at hl 0 rfl) ?_
                refine lv_iload hx hb dX3_commit_130 (lv_at hl 5 rfl) ?_
                refine gc_i (va_runV (As := [.int (nI (2 + i))]) (rest := []) C.fix (m_X3_isOpen l g w1 v ad cn ru fu ch th fi (be + (comW ld n (cn - 2)).length) ne ke g0 fP g5 (2 + i) (by omega)) (cwV 1 hts (lw_V q848 q850 qs35 q53 q851) rfl rfl rfl (by decide +kernel) ⟨Nat.le_of_ble_eq_true rfl, Nat.le_of_ble_eq_true rfl⟩) (gp_V C h [.int (nI (2 + i))] (Cn := RX3) (T := TX3) (N := 22) rfl g0) rfl rfl hl.1 rfl (lv_room (Nat.le_of_ble_eq_true rfl)) dX3_commit_132 ⟨Nat.le_of_ble_eq_true rfl, Nat.le_of_ble_eq_true rfl⟩) h (fun r_153 w_154 H locs hp h => ?_)
                obtain ⟨er_r_153, ew_r_153⟩ := hp
                rw [er_r_153]
                rw [ew_r_153] at h
                refine lv_if_ne (tgt := 141) hx hb dX3_commit_135 (by decide) (fun c6 => ?_) (fun c6 => ?_)
                · skip
                  have c6 : opM fP (2 + i) = true := bI_ne0.mp c6
                  refine lv_lload_n hx hb dX3_commit_141 rfl (lv_at hl 3 rfl) ?_
                  refine lv_lconst (v := 1) hx hb dX3_commit_142 (by decide) ?_
                  refine lv_iload hx hb dX3_commit_143 (lv_at hl 5 rfl) ?_
                  refine lv_lshl hx hb dX3_commit_145 rfl ?_
                  refine lv_lor hx hb dX3_commit_146 ?_
                  refine lv_lstore_n (lv' := [(3, .long ((stM (opM fP) i) ||| (1 <<< ((nI (2 + i)).toInt64 &&& 63)))), (0, .ref (ad 0)), (1, .int n), (2, .int (nI be)), (5, .int (comX dk (wt ++ (comW ld n (cn - 2))) (openL pl 30) i)), (6, .int (nI (2 + i)))]) hx hb dX3_commit_147 rfl hl (by decide) rfl (fun ls hl => ?_)
                  refine lv_iload hx hb dX3_commit_148 (lv_at hl 4 rfl) ?_
                  refine lv_aload_n hx hb dX3_commit_150 rfl (lv_at hl 1 rfl) ?_
                  refine gx_get C h g0 (Cn := RX3) (T := TX3) (N := 22) rfl in_X3 4 (by decide) q736 rfl rfl dX3_commit_151 ?_
                  refine lv_bipush (v := nI 32) hx hb dX3_commit_154 (by decide) ?_
                  refine lv_iload hx hb dX3_commit_156 (lv_at hl 5 rfl) ?_
                  refine gn_imul hx hb dX3_commit_158 ?_
                  refine gc_i (va_runS (As := [.ref (ad 2), .int (nI (32 * (2 + i)))]) (rest := [.int (comX dk (wt ++ (comW ld n (cn - 2))) (openL pl 30) i)]) C.fix (m_X3_number l g w1 v (ad 2) 2048 fL' g2 (by omega) (32 * (2 + i)) (by omega)) (va_cwS 2 hts (lw_S q828 q829 q53 q830) rfl rfl rfl (by decide +kernel) ⟨Nat.le_of_ble_eq_true rfl, Nat.le_of_ble_eq_true rfl⟩) (gp_S C h _) rfl rfl hl.1 rfl (lv_room (Nat.le_of_ble_eq_true rfl)) dX3_commit_159 ⟨Nat.le_of_ble_eq_true rfl, Nat.le_of_ble_eq_true rfl⟩) h (fun r_155 w_156 H locs hp h => ?_)
                  obtain ⟨er_r_155, ew_r_155⟩ := hp
                  rw [er_r_155]
                  rw [ew_r_155] at h
                  rw [(br_row (fun j hj => q2 (2 + i) j (by omega) hj)).2.1]
                  refine lv_ixor hx hb dX3_commit_162 ?_
                  refine lv_istore (lv' := [(5, .int (((comX dk (wt ++ (comW ld n (cn - 2))) (openL pl 30) i)) ^^^ ((numB (lat dk (wt ++ (comW ld n (cn - 2))) (2 + i)) 0)))), (3, .long ((stM (opM fP) i) ||| (1 <<< ((nI (2 + i)).toInt64 &&& 63)))), (0, .ref (ad 0)), (1, .int n), (2, .int (nI be)), (6, .int (nI (2 + i)))]) hx hb dX3_commit_163 hl (by decide) rfl (fun ls hl => ?_)
                  refine lv_iinc (v := nI (2 + i + 1)) (lv' := [(6, .int (nI (2 + i + 1))), (5, .int (((comX dk (wt ++ (comW ld n (cn - 2))) (openL pl 30) i)) ^^^ ((numB (lat dk (wt ++ (comW ld n (cn - 2))) (2 + i)) 0)))), (3, .long ((stM (opM fP) i) ||| (1 <<< ((nI (2 + i)).toInt64 &&& 63)))), (0, .ref (ad 0)), (1, .int n), (2, .int (nI be))]) hx hb dX3_commit_165 hl (k := 5) rfl (gi_inc _ 1) (by decide) rfl (fun ls hl => ?_)
                  refine lv_goto (tgt := 120) hx hb dX3_commit_168 (by decide) ?_
                  have hl : lv_has ls 7 [(6, .int (nI (2 + (i + 1)))), (5, .int (comX dk (wt ++ (comW ld n (cn - 2))) (openL pl 30) (i + 1))), (3, .long (stM (opM fP) (i + 1))), (0, .ref (ad 0)), (1, .int n), (2, .int (nI be))] := by rw [stM_t c6, comX_t (by rw [← hob _ (by omega)]; exact c6)]; exact hl
                  exact ih (i + 1) fL' fO' z' fT' fY' _ _ _ _ (by omega) (by omega) hM1 q2 q3 q4 q7  h (lv_sub hl [3, 4, 5, 2, 1, 0] rfl)
                · skip
                  have c6 : opM fP (2 + i) = false := bI_eq0.mp c6
                  refine lv_goto (tgt := 165) hx hb dX3_commit_138 (by decide) ?_
                  refine lv_iinc (v := nI (2 + i + 1)) (lv' := [(6, .int (nI (2 + i + 1))), (0, .ref (ad 0)), (1, .int n), (2, .int (nI be)), (3, .long (stM (opM fP) i)), (5, .int (comX dk (wt ++ (comW ld n (cn - 2))) (openL pl 30) i))]) hx hb dX3_commit_165 hl (k := 5) rfl (gi_inc _ 1) (by decide) rfl (fun ls hl => ?_)
                  refine lv_goto (tgt := 120) hx hb dX3_commit_168 (by decide) ?_
                  have hl : lv_has ls 7 [(6, .int (nI (2 + (i + 1)))), (0, .ref (ad 0)), (1, .int n), (2, .int (nI be)), (3, .long (stM (opM fP) (i + 1))), (5, .int (comX dk (wt ++ (comW ld n (cn - 2))) (openL pl 30) (i + 1)))] := by rw [stM_f c6, comX_f (by rw [← hob _ (by omega)]; exact c6)]; exact hl
                  exact ih (i + 1) fL' fO' z' fT' fY' _ _ _ _ (by omega) (by omega) hM1 q2 q3 q4 q7  h (lv_sub hl [1, 2, 3, 4, 5, 0] rfl)
          have loop1 : ∀ (n_ : Nat) (i : Nat) (fL' fO' : Nat → Int32) (z' : Nat → Bool) (fT' fY' : Nat → Int32) (w1 : GW) (H : Heap) (locs : List Loc) (ls : Array Slot), (cn - 2) - i < n_ → (i ≤ cn - 2) → (MW g w1 ad cn ru fu ch th fi (be + (comW ld n i).length) ne ke fD fL' fO' z' fP fT' fY' fN fS fKn fK fH) → (∀ k j, k < 64 → j < 32 → fL' (32 * k + j) = ub (lat dk (wt ++ (comW ld n i)) k j)) → (∀ k c j, 2 + i ≤ k → k < 64 → ld k = some c → j < 32 → fO' (32 * k + j) = ub (c j)) → (∀ k, k < 64 → z' k = if k < 2 + i then false else (ld k).isSome) → (∀ (i0 : Nat) (x : Nat × Sec), (wt ++ (comW ld n i))[i0]? = some x → fT' (fi + i0) = nI x.1 ∧ ∀ j, j < 32 → fY' (32 * (fi + i0) + j) = ub (x.2 j)) → SH g w1 v s H locs → lv_has ls 7 [(0, .ref (ad 0)), (1, .int n), (2, .int (nI be)), (3, .int (nI (2 + i)))] → W p l e ({ frames := 3, cells := 0, slots := 0, locals := 180 } : Room) s m ([.ref (ad 0), .int n] : List Value).toArray below meth c H locs 0 0 (MQ below (va_Qi (fun (r : Int32) (w' : GW) => r = (opCommit (cn, ru, fu, ch, dk, wt, ld, pl, st, kp) n).1 ∧ RM g w' ad (N + 1) (opCommit (cn, ru, fu, ch, dk, wt, ld, pl, st, kp) n).2) (gB g v) (gA g)) ([.ref (ad 0), .int n] : List Value).toArray s 0 0 (gA g)) (F0 m 46 ls []) := by
            intro n_
            induction n_ with
            | zero => intros; exact absurd ‹_ < 0› (Nat.not_lt_zero _)
            | succ n_ ih =>
              intro i fL' fO' z' fT' fY' w1 H locs ls hf hi hM1 q2 q3 q4 q7  h hl
              obtain ⟨hinj, g0, g1, g2, g3, g4, g5, g6, g7, g8, g9, g10, g11, g12⟩ := id hM1
              refine lv_iload_n hx hb dX3_commit_46 rfl (lv_at hl 3 rfl) ?_
              refine lv_aload_n hx hb dX3_commit_47 rfl (lv_at hl 0 rfl) ?_
              refine gx_get C h g0 (Cn := RX3) (T := TX3) (N := 22) rfl in_X3 0 (by decide) q732 rfl rfl dX3_commit_48 ?_
              refine lv_icmp_ge (tgt := 112) hx hb dX3_commit_51 (by decide) (fun c5 => ?_) (fun c5 => ?_)
              · skip
                have c5 : cn ≤ (2 + i) := (nI_leI (by omega) (by omega)).mp c5
                have hie : i = cn - 2 := by omega
                rw [hie] at hM1 q2 q3 q4 q7
                refine lv_lconst (v := 0) hx hb dX3_commit_112 (by decide) ?_
                refine lv_lstore_n (lv' := [(3, .long 0), (0, .ref (ad 0)), (1, .int n), (2, .int (nI be))]) hx hb dX3_commit_113 rfl hl (by decide) rfl (fun ls hl => ?_)
                refine lv_iconst (v := nI 0) hx hb dX3_commit_114 (by decide) ?_
                refine lv_istore (lv' := [(5, .int (nI 0)), (3, .long 0), (0, .ref (ad 0)), (1, .int n), (2, .int (nI be))]) hx hb dX3_commit_115 hl (by decide) rfl (fun ls hl => ?_)
                refine lv_iconst (v := nI 2) hx hb dX3_commit_117 (by decide) ?_
                refine lv_istore (lv' := [(6, .int (nI 2)), (5, .int (nI 0)), (3, .long 0), (0, .ref (ad 0)), (1, .int n), (2, .int (nI be))]) hx hb dX3_commit_118 hl (by decide) rfl (fun ls hl => ?_)
                have hl : lv_has ls 7 [(6, .int (nI (2 + 0))), (5, .int (comX dk (wt ++ (comW ld n (cn - 2))) (openL pl 30) 0)), (3, .long (stM (opM fP) 0)), (0, .ref (ad 0)), (1, .int n), (2, .int (nI be))] := by exact hl
                exact loop2 (cn + 1) 0 fL' fO' z' fT' fY' _ _ _ _ (by omega) (by omega) hM1 q2 q3 q4 q7 h (lv_sub hl [3, 4, 5, 2, 1, 0] rfl)
              · skip
                have c5 : ¬ (cn ≤ (2 + i)) := fun q => c5 ((nI_leI (by omega) (by omega)).mpr q)
                refine lv_aload_n hx hb dX3_commit_54 rfl (lv_at hl 0 rfl) ?_
                refine gx_get C h g0 (Cn := RX3) (T := TX3) (N := 22) rfl in_X3 6 (by decide) q738 rfl rfl dX3_commit_55 ?_
                refine lv_iload_n hx hb dX3_commit_58 rfl (lv_at hl 3 rfl) ?_
                refine gx_zald C h g4 (2 + i) (rfl) (by omega) dX3_commit_59 ?_
                rw [show z' (2 + i) = (ld (2 + i)).isSome by rw [q4 _ (by omega), if_neg (by omega)]]
                refine lv_if_ne (tgt := 66) hx hb dX3_commit_60 (by decide) (fun c6 => ?_) (fun c6 => ?_)
                · skip
                  have c6 : (ld (2 + i)).isSome = true := bI_ne0.mp c6
                  obtain ⟨c0, hc0⟩ := Option.isSome_iff_exists.mp c6
                  have hw1 : comW ld n (i + 1) = comW ld n i ++ [(2 + i, closeB (setB c0 16 n))] := by show comW ld n i ++ com1 ld n (2 + i) = _; unfold com1; rw [hc0]
                  have hlen := hclen i (by omega)
                  refine lv_aload_n hx hb dX3_commit_66 rfl (lv_at hl 0 rfl) ?_
                  refine gx_get C h g0 (Cn := RX3) (T := TX3) (N := 22) rfl in_X3 5 (by decide) q737 rfl rfl dX3_commit_67 ?_
                  refine lv_bipush (v := nI 32) hx hb dX3_commit_70 (by decide) ?_
                  refine lv_iload_n hx hb dX3_commit_72 rfl (lv_at hl 3 rfl) ?_
                  refine gn_imul hx hb dX3_commit_73 ?_
                  refine lv_bipush (v := nI 16) hx hb dX3_commit_74 (by decide) ?_
                  refine gn_iadd hx hb dX3_commit_76 ?_
                  refine lv_iload_n hx hb dX3_commit_77 rfl (lv_at hl 1 rfl) ?_
                  refine gc_v (va_runS (As := [.ref (ad 3), .int (nI ((32 * (2 + i)) + 16)), .int n]) (rest := []) C.fix (m_X3_set l g w1 v (ad 3) 2048 fO' g3 (by omega) (32 * (2 + i) + 16) n (by omega)) (va_cwS 3 hts (lw_S q859 q860 q53 q861) rfl rfl rfl (by decide +kernel) ⟨Nat.le_of_ble_eq_true rfl, Nat.le_of_ble_eq_true rfl⟩) (gp_S C h _) rfl rfl hl.1 rfl (lv_room (Nat.le_of_ble_eq_true rfl)) dX3_commit_78 ⟨Nat.le_of_ble_eq_true rfl, Nat.le_of_ble_eq_true rfl⟩) h (fun w_158 H locs hp h => ?_)
                  have ew_159 : w_158 = gu w1 (ad 3) (eI g 2048 (setI fO' (32 * (2 + i) + 16) n)) := hp
                  have f_160 : w_158 (ad 0) = some (ob 4 [.int (nI cn), .int (bI ru), .int (bI fu), .ref (ad 1), .ref (ad 2), .ref (ad 3), .ref (ad 4), .ref (ad 5), .int (bI ch), .ref (ad 6), .ref (ad 7), .int (nI fi), .int (nI (be + (comW ld n i).length)), .ref (ad 8), .ref (ad 9), .int (nI 0), .int (nI ne), .ref (ad 10), .ref (ad 11), .int (nI ke), .int (bI th), .ref (ad 12)]) := by rw [ew_159]; exact (gu_n (fun q => absurd (hinj 0 3 (by decide) (by decide) q) (by decide))).trans g0
                  have f_161 : w_158 (ad 1) = some (eI g 2048 fD) := by rw [ew_159]; exact (gu_n (fun q => absurd (hinj 1 3 (by decide) (by decide) q) (by decide))).trans g1
                  have f_162 : w_158 (ad 2) = some (eI g 2048 fL') := by rw [ew_159]; exact (gu_n (fun q => absurd (hinj 2 3 (by decide) (by decide) q) (by decide))).trans g2
                  have f_163 : w_158 (ad 3) = some (eI g 2048 (setI fO' (32 * (2 + i) + 16) n)) := by rw [ew_159]; exact gu_s
                  have f_164 : w_158 (ad 4) = some (eZ g 64 z') := by rw [ew_159]; exact (gu_n (fun q => absurd (hinj 4 3 (by decide) (by decide) q) (by decide))).trans g4
                  have f_165 : w_158 (ad 5) = some (eI g 30 fP) := by rw [ew_159]; exact (gu_n (fun q => absurd (hinj 5 3 (by decide) (by decide) q) (by decide))).trans g5
                  have f_166 : w_158 (ad 6) = some (eI g 1200 fT') := by rw [ew_159]; exact (gu_n (fun q => absurd (hinj 6 3 (by decide) (by decide) q) (by decide))).trans g6
                  have f_167 : w_158 (ad 7) = some (eI g 38400 fY') := by rw [ew_159]; exact (gu_n (fun q => absurd (hinj 7 3 (by decide) (by decide) q) (by decide))).trans g7
                  have f_168 : w_158 (ad 8) = some (eI g 1200 fN) := by rw [ew_159]; exact (gu_n (fun q => absurd (hinj 8 3 (by decide) (by decide) q) (by decide))).trans g8
                  have f_169 : w_158 (ad 9) = some (eL g 1200 fS) := by rw [ew_159]; exact (gu_n (fun q => absurd (hinj 9 3 (by decide) (by decide) q) (by decide))).trans g9
                  have f_170 : w_158 (ad 10) = some (eI g 4 fKn) := by rw [ew_159]; exact (gu_n (fun q => absurd (hinj 10 3 (by decide) (by decide) q) (by decide))).trans g10
                  have f_171 : w_158 (ad 11) = some (eL g 4 fK) := by rw [ew_159]; exact (gu_n (fun q => absurd (hinj 11 3 (by decide) (by decide) q) (by decide))).trans g11
                  have f_172 : w_158 (ad 12) = some (eI g 32 fH) := by rw [ew_159]; exact (gu_n (fun q => absurd (hinj 12 3 (by decide) (by decide) q) (by decide))).trans g12
                  refine lv_aload_n hx hb dX3_commit_81 rfl (lv_at hl 0 rfl) ?_
                  refine gx_get C h f_160 (Cn := RX3) (T := TX3) (N := 22) rfl in_X3 5 (by decide) q737 rfl rfl dX3_commit_82 ?_
                  refine lv_iload_n hx hb dX3_commit_85 rfl (lv_at hl 3 rfl) ?_
                  refine gc_v (va_runS (As := [.ref (ad 3), .int (nI (2 + i))]) (rest := []) C.fix (m_X3_close l g w_158 v (ad 3) 2048 (setI fO' (32 * (2 + i) + 16) n) f_163 (by omega) (2 + i) (by omega)) (va_cwS 2 hts (lw_S q862 q863 q53 q864) rfl rfl rfl (by decide +kernel) ⟨Nat.le_of_ble_eq_true rfl, Nat.le_of_ble_eq_true rfl⟩) (gp_S C h _) rfl rfl hl.1 rfl (lv_room (Nat.le_of_ble_eq_true rfl)) dX3_commit_86 ⟨Nat.le_of_ble_eq_true rfl, Nat.le_of_ble_eq_true rfl⟩) h (fun w_174 H locs hp h => ?_)
                  have ew_175 : w_174 = gu w_158 (ad 3) (eI g 2048 (closeI (setI fO' (32 * (2 + i) + 16) n) (2 + i))) := hp
                  have f_176 : w_174 (ad 0) = some (ob 4 [.int (nI cn), .int (bI ru), .int (bI fu), .ref (ad 1), .ref (ad 2), .ref (ad 3), .ref (ad 4), .ref (ad 5), .int (bI ch), .ref (ad 6), .ref (ad 7), .int (nI fi), .int (nI (be + (comW ld n i).length)), .ref (ad 8), .ref (ad 9), .int (nI 0), .int (nI ne), .ref (ad 10), .ref (ad 11), .int (nI ke), .int (bI th), .ref (ad 12)]) := by rw [ew_175]; exact (gu_n (fun q => absurd (hinj 0 3 (by decide) (by decide) q) (by decide))).trans f_160
                  have f_177 : w_174 (ad 1) = some (eI g 2048 fD) := by rw [ew_175]; exact (gu_n (fun q => absurd (hinj 1 3 (by decide) (by decide) q) (by decide))).trans f_161
                  have f_178 : w_174 (ad 2) = some (eI g 2048 fL') := by rw [ew_175]; exact (gu_n (fun q => absurd (hinj 2 3 (by decide) (by decide) q) (by decide))).trans f_162
                  have f_179 : w_174 (ad 3) = some (eI g 2048 (closeI (setI fO' (32 * (2 + i) + 16) n) (2 + i))) := by rw [ew_175]; exact gu_s
                  have f_180 : w_174 (ad 4) = some (eZ g 64 z') := by rw [ew_175]; exact (gu_n (fun q => absurd (hinj 4 3 (by decide) (by decide) q) (by decide))).trans f_164
                  have f_181 : w_174 (ad 5) = some (eI g 30 fP) := by rw [ew_175]; exact (gu_n (fun q => absurd (hinj 5 3 (by decide) (by decide) q) (by decide))).trans f_165
                  have f_182 : w_174 (ad 6) = some (eI g 1200 fT') := by rw [ew_175]; exact (gu_n (fun q => absurd (hinj 6 3 (by decide) (by decide) q) (by decide))).trans f_166
                  have f_183 : w_174 (ad 7) = some (eI g 38400 fY') := by rw [ew_175]; exact (gu_n (fun q => absurd (hinj 7 3 (by decide) (by decide) q) (by decide))).trans f_167
                  have f_184 : w_174 (ad 8) = some (eI g 1200 fN) := by rw [ew_175]; exact (gu_n (fun q => absurd (hinj 8 3 (by decide) (by decide) q) (by decide))).trans f_168
                  have f_185 : w_174 (ad 9) = some (eL g 1200 fS) := by rw [ew_175]; exact (gu_n (fun q => absurd (hinj 9 3 (by decide) (by decide) q) (by decide))).trans f_169
                  have f_186 : w_174 (ad 10) = some (eI g 4 fKn) := by rw [ew_175]; exact (gu_n (fun q => absurd (hinj 10 3 (by decide) (by decide) q) (by decide))).trans f_170
                  have f_187 : w_174 (ad 11) = some (eL g 4 fK) := by rw [ew_175]; exact (gu_n (fun q => absurd (hinj 11 3 (by decide) (by decide) q) (by decide))).trans f_171
                  have f_188 : w_174 (ad 12) = some (eI g 32 fH) := by rw [ew_175]; exact (gu_n (fun q => absurd (hinj 12 3 (by decide) (by decide) q) (by decide))).trans f_172
                  have hrow : Row fO' (closeI (setI fO' (32 * (2 + i) + 16) n) (2 + i)) (closeB (setB c0 16 n)) (2 + i) := ((Row.mk' (fun j hj => q3 (2 + i) c0 j (by omega) (by omega) hc0 hj)).set (a := 16) (by omega) n).close
                  refine lv_aload_n hx hb dX3_commit_89 rfl (lv_at hl 0 rfl) ?_
                  refine gx_get C h f_176 (Cn := RX3) (T := TX3) (N := 22) rfl in_X3 6 (by decide) q738 rfl rfl dX3_commit_90 ?_
                  refine lv_iload_n hx hb dX3_commit_93 rfl (lv_at hl 3 rfl) ?_
                  refine lv_iconst (v := bI false) hx hb dX3_commit_94 (by decide) ?_
                  refine gx_zast C h f_180 (2 + i) (rfl) (by omega) false (rfl) dX3_commit_95 (fun H locs h => ?_)
                  obtain ⟨w_189, ew_189⟩ : ∃ z_ : GW, z_ = gu w_174 (ad 4) (eZ g 64 (va_up z' (2 + i) false)) := ⟨_, rfl⟩
                  have h : SH g w_189 v s H locs := by rw [ew_189]; exact h
                  have f_190 : w_189 (ad 0) = some (ob 4 [.int (nI cn), .int (bI ru), .int (bI fu), .ref (ad 1), .ref (ad 2), .ref (ad 3), .ref (ad 4), .ref (ad 5), .int (bI ch), .ref (ad 6), .ref (ad 7), .int (nI fi), .int (nI (be + (comW ld n i).length)), .ref (ad 8), .ref (ad 9), .int (nI 0), .int (nI ne), .ref (ad 10), .ref (ad 11), .int (nI ke), .int (bI th), .ref (ad 12)]) := by rw [ew_189]; exact (gu_n (fun q => absurd (hinj 0 4 (by decide) (by decide) q) (by decide))).trans f_176
                  have f_191 : w_189 (ad 1) = some (eI g 2048 fD) := by rw [ew_189]; exact (gu_n (fun q => absurd (hinj 1 4 (by decide) (by decide) q) (by decide))).trans f_177
                  have f_192 : w_189 (ad 2) = some (eI g 2048 fL') := by rw [ew_189]; exact (gu_n (fun q => absurd (hinj 2 4 (by decide) (by decide) q) (by decide))).trans f_178
                  have f_193 : w_189 (ad 3) = some (eI g 2048 (closeI (setI fO' (32 * (2 + i) + 16) n) (2 + i))) := by rw [ew_189]; exact (gu_n (fun q => absurd (hinj 3 4 (by decide) (by decide) q) (by decide))).trans f_179
                  have f_194 : w_189 (ad 4) = some (eZ g 64 (va_up z' (2 + i) false)) := by rw [ew_189]; exact gu_s
                  have f_195 : w_189 (ad 5) = some (eI g 30 fP) := by rw [ew_189]; exact (gu_n (fun q => absurd (hinj 5 4 (by decide) (by decide) q) (by decide))).trans f_181
                  have f_196 : w_189 (ad 6) = some (eI g 1200 fT') := by rw [ew_189]; exact (gu_n (fun q => absurd (hinj 6 4 (by decide) (by decide) q) (by decide))).trans f_182
                  have f_197 : w_189 (ad 7) = some (eI g 38400 fY') := by rw [ew_189]; exact (gu_n (fun q => absurd (hinj 7 4 (by decide) (by decide) q) (by decide))).trans f_183
                  have f_198 : w_189 (ad 8) = some (eI g 1200 fN) := by rw [ew_189]; exact (gu_n (fun q => absurd (hinj 8 4 (by decide) (by decide) q) (by decide))).trans f_184
                  have f_199 : w_189 (ad 9) = some (eL g 1200 fS) := by rw [ew_189]; exact (gu_n (fun q => absurd (hinj 9 4 (by decide) (by decide) q) (by decide))).trans f_185
                  have f_200 : w_189 (ad 10) = some (eI g 4 fKn) := by rw [ew_189]; exact (gu_n (fun q => absurd (hinj 10 4 (by decide) (by decide) q) (by decide))).trans f_186
                  have f_201 : w_189 (ad 11) = some (eL g 4 fK) := by rw [ew_189]; exact (gu_n (fun q => absurd (hinj 11 4 (by decide) (by decide) q) (by decide))).trans f_187
                  have f_202 : w_189 (ad 12) = some (eI g 32 fH) := by rw [ew_189]; exact (gu_n (fun q => absurd (hinj 12 4 (by decide) (by decide) q) (by decide))).trans f_188
                  refine lv_aload_n hx hb dX3_commit_96 rfl (lv_at hl 0 rfl) ?_
                  refine lv_aload_n hx hb dX3_commit_97 rfl (lv_at hl 0 rfl) ?_
                  refine gx_get C h f_190 (Cn := RX3) (T := TX3) (N := 22) rfl in_X3 5 (by decide) q737 rfl rfl dX3_commit_98 ?_
                  refine lv_iload_n hx hb dX3_commit_101 rfl (lv_at hl 3 rfl) ?_
                  refine lv_iload_n hx hb dX3_commit_102 rfl (lv_at hl 3 rfl) ?_
                  have hMq : MW g w_189 ad cn ru fu ch th fi (be + (comW ld n i).length) ne ke fD fL' ((closeI (setI fO' (32 * (2 + i) + 16) n) (2 + i))) (va_up z' (2 + i) false) fP fT' fY' fN fS fKn fK fH := ⟨hinj, f_190, f_191, f_192, f_193, f_194, f_195, f_196, f_197, f_198, f_199, f_200, f_201, f_202⟩
                  refine gc_v (va_runV (As := [.ref (ad 3), .int (nI (2 + i)), .int (nI (2 + i))]) (rest := []) C.fix (m_X3_queue l g w_189 v ad cn ru fu ch th fi (be + (comW ld n i).length) ne ke fD fL' ((closeI (setI fO' (32 * (2 + i) + 16) n) (2 + i))) (va_up z' (2 + i) false) fP fT' fY' fN fS fKn fK fH hMq (ad 3) 2048 (closeI (setI fO' (32 * (2 + i) + 16) n) (2 + i)) (2 + i) (2 + i) f_193 (by omega) (fun q => absurd (hinj 3 2 (by decide) (by decide) q) (by decide)) (fun q => absurd (hinj 3 6 (by decide) (by decide) q) (by decide)) (fun q => absurd (hinj 3 7 (by decide) (by decide) q) (by decide)) (by omega) (by omega)) (cwV 3 hts (lw_V q881 q883 qs37 q53 q884) rfl rfl rfl (by decide +kernel) ⟨Nat.le_of_ble_eq_true rfl, Nat.le_of_ble_eq_true rfl⟩) (gp_V C h [.ref (ad 3), .int (nI (2 + i)), .int (nI (2 + i))] (Cn := RX3) (T := TX3) (N := 22) rfl f_190) rfl rfl hl.1 rfl (lv_room (Nat.le_of_ble_eq_true rfl)) dX3_commit_103 ⟨Nat.le_of_ble_eq_true rfl, Nat.le_of_ble_eq_true rfl⟩) h (fun w_204 H locs hp h => ?_)
                  obtain ⟨hMr, -⟩ := hp
                  refine lv_iinc (v := nI (2 + i + 1)) (lv' := [(3, .int (nI (2 + i + 1))), (0, .ref (ad 0)), (1, .int n), (2, .int (nI be))]) hx hb dX3_commit_106 hl (k := 3) rfl (gi_inc _ 1) (by decide) rfl (fun ls hl => ?_)
                  refine lv_goto (tgt := 46) hx hb dX3_commit_109 (by decide) ?_
                  exact ih (i + 1) _ _ _ _ _ _ _ _ _ (by omega) (by omega) (by rw [hw1, List.length_append, List.length_singleton]; exact hMr) (by rw [hw1, ← List.append_assoc]; exact que_L q2 (fun j hj => hrow.1 j hj)) (com_q3 hrow q3) (com_q4 q4) (by rw [hw1, ← List.append_assoc]; exact que_7 q7 (by simp; omega) (fun j hj => hrow.1 j hj)) h (lv_sub hl [1, 2, 3, 0] rfl)
                · skip
                  have c6 : (ld (2 + i)).isSome = false := bI_eq0.mp c6
                  have hc0 : ld (2 + i) = none := Option.not_isSome_iff_eq_none.mp (by rw [c6]; decide)
                  have hw1 : comW ld n (i + 1) = comW ld n i := by show comW ld n i ++ com1 ld n (2 + i) = _; unfold com1; rw [hc0]; simp
                  refine lv_goto (tgt := 106) hx hb dX3_commit_63 (by decide) ?_
                  refine lv_iinc (v := nI (2 + i + 1)) (lv' := [(3, .int (nI (2 + i + 1))), (0, .ref (ad 0)), (1, .int n), (2, .int (nI be))]) hx hb dX3_commit_106 hl (k := 3) rfl (gi_inc _ 1) (by decide) rfl (fun ls hl => ?_)
                  refine lv_goto (tgt := 46) hx hb dX3_commit_109 (by decide) ?_
                  exact ih (i + 1) fL' fO' z' fT' fY' _ _ _ _ (by omega) (by omega) (by rw [hw1]; exact hM1) (by rw [hw1]; exact q2) (fun k c j h1 => q3 k c j (by omega)) (com_q4n hc0 q4) (by rw [hw1]; exact q7) h (lv_sub hl [1, 2, 3, 0] rfl)
          have hl : lv_has ls 7 [(3, .int (nI (2 + 0))), (2, .int (nI be)), (0, .ref (ad 0)), (1, .int n)] := by exact hl
          exact loop1 (cn + 1) 0 fL fO z fT fY _ _ _ _ (by omega) (by omega) (by simpa [comW] using hM) (by simpa [comW] using r2) (fun k c j h1 h2 h3 h4 => r3 k c j h2 h3 h4) (com_q40 i3 r4) (by simpa [comW] using r7) h (lv_sub hl [2, 3, 1, 0] rfl)
        · skip
          refine lv_bipush (v := (-2)) hx hb dX3_commit_36 (by decide) ?_
          have eq : opCommit (cn, ru, fu, ch, dk, wt, ld, pl, st, kp) n = (-2, (cn, ru, fu, ch, dk, wt, ld, pl, st, kp)) := by unfold opCommit; dsimp only; rw [if_neg hrc, if_pos (Or.inr (Int32.not_le.mp c4))]
          exact gr_i C h (ty := .int) rfl (rfl) (by rw [eq]; exact ⟨rfl, hR.mono⟩) (Nat.le_of_ble_eq_true rfl) (Nat.le_of_ble_eq_true rfl) dX3_commit_38
    · skip
      have c2 : ch = false := bI_eq0.mp c2
      refine lv_bipush (v := (-3)) hx hb dX3_commit_14 (by decide) ?_
      have eq : opCommit (cn, ru, fu, ch, dk, wt, ld, pl, st, kp) n = (-3, (cn, ru, fu, ch, dk, wt, ld, pl, st, kp)) := by unfold opCommit; dsimp only; rw [if_pos (Or.inr c2)]
      exact gr_i C h (ty := .int) rfl (rfl) (by rw [eq]; exact ⟨rfl, hR.mono⟩) (Nat.le_of_ble_eq_true rfl) (Nat.le_of_ble_eq_true rfl) dX3_commit_16
