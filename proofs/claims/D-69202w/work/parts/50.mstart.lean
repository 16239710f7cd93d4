set_option maxRecDepth 100000
theorem kind9 {b : Int8} : ub b = nI 9 ↔ b.toInt32 = nI 9 := i8_all (P := fun b => ub b = nI 9 ↔ b.toInt32 = nI 9) (by decide +kernel) b
theorem kd_pos {b : Int8} : (¬ ub b ≤ 0 ∧ ¬ nI 4 ≤ ub b) ↔ (0 < b.toInt32 ∧ b.toInt32 < nI 4) := i8_all (P := fun b => (¬ ub b ≤ 0 ∧ ¬ nI 4 ≤ ub b) ↔ (0 < b.toInt32 ∧ b.toInt32 < nI 4)) (by decide +kernel) b
def bit32 (x : Int32) (k : Nat) : Bool := x.toBitVec.getLsbD k
theorem sh_amt32 : ∀ k : Fin 32, ((nI k.val &&& 31).toBitVec.smod 32).toNat = k.val := by decide +kernel
theorem bit32_iff {x : Int32} {k : Nat} (hk : k < 32) : ((x >>> (nI k &&& 31)) &&& nI 1) = 0 ↔ bit32 x k = false := by
  have e0 : ∀ y : Int32, y &&& nI 1 = 0 ↔ y.toBitVec.getLsbD 0 = false := by
    intro y
    constructor
    · intro h
      have : (y &&& nI 1).toBitVec.getLsbD 0 = (0 : Int32).toBitVec.getLsbD 0 := by rw [h]
      rw [Int32.toBitVec_and, BitVec.getLsbD_and, show (nI 1).toBitVec.getLsbD 0 = true by decide, Bool.and_true] at this
      rw [this]; decide
    · intro h
      apply Int32.toBitVec_inj.mp
      apply BitVec.eq_of_getLsbD_eq
      intro i hi
      rw [Int32.toBitVec_and, BitVec.getLsbD_and]
      by_cases h0 : i = 0
      · subst h0; rw [h]; decide
      · have : ∀ i : Fin 32, i.val ≠ 0 → (nI 1).toBitVec.getLsbD i.val = false := by decide
        rw [this ⟨i, hi⟩ h0, Bool.and_false]
        exact BitVec.getLsbD_zero.symm
  rw [e0, Int32.toBitVec_shiftRight, BitVec.sshiftRight_eq', sh_amt32 ⟨k, hk⟩, BitVec.getLsbD_sshiftRight, if_pos (by simpa using hk)]
  unfold bit32
  simp
theorem bit32_0 {k : Nat} (hk : k < 32) : bit32 (nI 0) k = false := BitVec.getLsbD_zero
theorem one_shl32 : ∀ p : Fin 32, ((nI 1) <<< (nI p.val &&& 31)).toBitVec = BitVec.twoPow 32 p.val := by decide +kernel
theorem bit32_set {pa : Int32} {P : Nat → Bool} {pp : Nat} (hp : pp < 30) (h : ∀ p, p < 30 → bit32 pa p = P p) : ∀ p, p < 30 → bit32 (pa ||| (nI 1 <<< (nI pp &&& 31))) p = va_up P pp true p := by
  intro p hp2
  unfold bit32 va_up
  rw [Int32.toBitVec_or, BitVec.getLsbD_or, one_shl32 ⟨pp, by omega⟩, BitVec.getLsbD_twoPow]
  by_cases e : p = pp
  · subst e
    simp
    omega
  · have := h p hp2
    unfold bit32 at this
    rw [if_neg e, this]
    simp [Ne.symm e]
theorem bitL_ne0 {x : Int64} {j : Nat} (h : ¬ lg_cmp (x >>> ((nI j).toInt64 &&& 63) &&& 1) 0 = 0) : bitL x j = true := by
  unfold bitL
  rcases and1_cases (x >>> ((nI j).toInt64 &&& 63)) with q | q
  · exact absurd ((lg_cmp_eq _ _).mpr q) h
  · rw [q]; decide
theorem bitL_eq0 {x : Int64} {j : Nat} (h : lg_cmp (x >>> ((nI j).toInt64 &&& 63) &&& 1) 0 = 0) : bitL x j = false := by
  unfold bitL
  rw [(lg_cmp_eq _ _).mp h]; decide
section WH
variable {cn : Nat} {dk : Sec} {s : Int64} {j : Nat} {P : Nat → Bool} {a : Int32}
theorem whG_skip (h : whG cn dk s j = some (P, a)) (hb : bitL s j = false) : whG cn dk s (j + 1) = some (P, a) := by
  unfold whG
  rw [h]
  dsimp only
  rw [if_pos hb]
theorem whG_bad (h : whG cn dk s j = some (P, a)) (hb : bitL s j = true) (hc : ¬ (1 < j ∧ j < cn ∧ rightB (sec dk j) = true ∧ 0 < (sec dk j 4).toInt32 ∧ (sec dk j 4).toInt32 < nI 4 ∧ ub (sec dk j 5) < nI 30 ∧ P (ub (sec dk j 5)).toNatClampNeg = false)) : whG cn dk s (j + 1) = none := by
  unfold whG
  rw [h]
  dsimp only
  rw [if_neg (by rw [hb]; decide), if_neg hc]
theorem whG_ok (h : whG cn dk s j = some (P, a)) (hb : bitL s j = true) (hc : 1 < j ∧ j < cn ∧ rightB (sec dk j) = true ∧ 0 < (sec dk j 4).toInt32 ∧ (sec dk j 4).toInt32 < nI 4 ∧ ub (sec dk j 5) < nI 30 ∧ P (ub (sec dk j 5)).toNatClampNeg = false) : whG cn dk s (j + 1) = some (va_up P (ub (sec dk j 5)).toNatClampNeg true, a ^^^ numB (sec dk j) 0) := by
  unfold whG
  rw [h]
  dsimp only
  rw [if_neg (by rw [hb]; decide), if_pos hc]
theorem whG_none (h : whG cn dk s j = none) : ∀ m, j ≤ m → whG cn dk s m = none := by
  intro m hm
  obtain ⟨d, rfl⟩ : ∃ d, m = j + d := ⟨m - j, by omega⟩
  clear hm
  induction d with
  | zero => exact h
  | succ d ih =>
    rw [← Nat.add_assoc]
    unfold whG
    rw [ih]
theorem whG_pg : ∀ (m : Nat) {P : Nat → Bool} {a : Int32}, whG cn dk s m = some (P, a) → ∀ j, j < m → bitL s j = true → (1 < j ∧ j < cn) ∧ ub (sec dk j 5) < nI 30 := by
  intro m
  induction m with
  | zero => intro P a _ j hj; omega
  | succ m ih =>
    intro P a h j hj hb
    unfold whG at h
    cases hm : whG cn dk s m with
    | none => rw [hm] at h; cases h
    | some x =>
      obtain ⟨P0, a0⟩ := x
      rw [hm] at h
      dsimp only at h
      by_cases e : j = m
      · subst e
        rw [if_neg (by rw [hb]; decide)] at h
        split at h
        · rename_i hc
          exact ⟨⟨hc.1, hc.2.1⟩, hc.2.2.2.2.2.1⟩
        · cases h
      · exact ih hm j (by omega) hb
end WH
theorem wholeF_n {cn : Nat} {dk : Sec} {k : Nat} (h1 : (sec dk k 4).toInt32 = nI 9) (h2 : rightB (sec dk k) = true) (h : whG cn dk (wideB (sec dk k) 8) 64 = none) : (wholeF cn dk k).isSome = false := by
  unfold wholeF
  rw [if_pos ⟨h1, h2⟩, h]
  rfl
theorem wholeF_s {cn : Nat} {dk : Sec} {k : Nat} {P : Nat → Bool} {a : Int32} (h1 : (sec dk k 4).toInt32 = nI 9) (h2 : rightB (sec dk k) = true) (h : whG cn dk (wideB (sec dk k) 8) 64 = some (P, a)) : wholeF cn dk k = if a = numB (sec dk k) 20 then some (numB (sec dk k) 16, wideB (sec dk k) 8) else none := by
  unfold wholeF
  rw [if_pos ⟨h1, h2⟩, h]
theorem whole_some {cn : Nat} {dk : Sec} {k : Nat} {x : Int32 × Int64} (h : wholeF cn dk k = some x) : x = (numB (sec dk k) 16, wideB (sec dk k) 8) ∧ ∀ j, j < 64 → bitL x.2 j = true → (1 < j ∧ j < cn) ∧ ub (sec dk j 5) < nI 30 := by
  unfold wholeF at h
  split at h
  · cases hm : whG cn dk (wideB (sec dk k) 8) 64 with
    | none => rw [hm] at h; cases h
    | some y =>
      obtain ⟨P, a⟩ := y
      rw [hm] at h
      dsimp only at h
      split at h
      · cases h
        exact ⟨rfl, whG_pg 64 hm⟩
      · cases h
  · cases h
theorem whole_is {cn : Nat} {dk : Sec} {k : Nat} (h : (wholeF cn dk k).isSome = true) : wholeF cn dk k = some (numB (sec dk k) 16, wideB (sec dk k) 8) := by
  obtain ⟨x, hx⟩ := Option.isSome_iff_exists.mp h
  rw [hx, (whole_some hx).1]
theorem whole_no {cn : Nat} {dk : Sec} {k : Nat} (h : (wholeF cn dk k).isSome = false) : wholeF cn dk k = none := Option.not_isSome_iff_eq_none.mp (by rw [h]; decide)
section PK
variable {cn : Nat} {dk : Sec}
theorem pkz_nn (h1 : (wholeF cn dk 0).isSome = false) (h2 : (wholeF cn dk 1).isSome = false) : (pickS (wholeF cn dk 0) (wholeF cn dk 1)).getD (0, 0) = (0, 0) := by rw [whole_no h1, whole_no h2]; rfl
theorem pkz_ns (h1 : (wholeF cn dk 0).isSome = false) (h2 : (wholeF cn dk 1).isSome = true) : (pickS (wholeF cn dk 0) (wholeF cn dk 1)).getD (0, 0) = (numB (sec dk 1) 16, wideB (sec dk 1) 8) := by rw [whole_no h1, whole_is h2]; rfl
theorem pkz_sn (h1 : (wholeF cn dk 0).isSome = true) (h2 : (wholeF cn dk 1).isSome = false) : (pickS (wholeF cn dk 0) (wholeF cn dk 1)).getD (0, 0) = (numB (sec dk 0) 16, wideB (sec dk 0) 8) := by rw [whole_is h1, whole_no h2]; rfl
theorem pkz_ss1 (h1 : (wholeF cn dk 0).isSome = true) (h2 : (wholeF cn dk 1).isSome = true) (h : numB (sec dk 1) 16 ≤ numB (sec dk 0) 16) : (pickS (wholeF cn dk 0) (wholeF cn dk 1)).getD (0, 0) = (numB (sec dk 0) 16, wideB (sec dk 0) 8) := by
  rw [whole_is h1, whole_is h2]
  unfold pickS
  dsimp only
  rw [if_pos h]
  rfl
theorem pkz_ss2 (h1 : (wholeF cn dk 0).isSome = true) (h2 : (wholeF cn dk 1).isSome = true) (h : ¬ numB (sec dk 1) 16 ≤ numB (sec dk 0) 16) : (pickS (wholeF cn dk 0) (wholeF cn dk 1)).getD (0, 0) = (numB (sec dk 1) 16, wideB (sec dk 1) 8) := by
  rw [whole_is h1, whole_is h2]
  unfold pickS
  dsimp only
  rw [if_neg h]
  rfl
/-- what the picked state's sectors are -/
theorem pick_sec {j : Nat} (hj : j < 64) (h : bitL ((pickS (wholeF cn dk 0) (wholeF cn dk 1)).getD (0, 0)).2 j = true) : (1 < j ∧ j < cn) ∧ ub (sec dk j 5) < nI 30 := by
  cases h0 : wholeF cn dk 0 with
  | none =>
    cases h1 : wholeF cn dk 1 with
    | none =>
      rw [h0, h1] at h
      have : bitL 0 j = true := h
      rw [bitL_0 hj] at this
      cases this
    | some y =>
      rw [h0, h1] at h
      exact (whole_some h1).2 j hj h
  | some x =>
    cases h1 : wholeF cn dk 1 with
    | none =>
      rw [h0, h1] at h
      exact (whole_some h0).2 j hj h
    | some y =>
      rw [h0, h1] at h
      unfold pickS at h
      dsimp only at h
      split at h
      · exact (whole_some h0).2 j hj h
      · exact (whole_some h1).2 j hj h
theorem pick_pg {j : Nat} (hj : j < 64) (h : bitL ((pickS (wholeF cn dk 0) (wholeF cn dk 1)).getD (0, 0)).2 j = true) : ub (sec dk j 5) < nI 30 := (pick_sec hj h).2
end PK
theorem plS_f {dk : Sec} {s : Int64} {j : Nat} (h : bitL s j = false) : plS dk s (j + 1) = plS dk s j := by
  show (if bitL s j then _ else _) = _
  rw [if_neg (by rw [h]; decide)]
theorem plS_t {dk : Sec} {s : Int64} {j : Nat} (h : bitL s j = true) : plS dk s (j + 1) = va_up (plS dk s j) (ub (sec dk j 5)).toNatClampNeg (some j) := by
  show (if bitL s j then _ else _) = _
  rw [if_pos h]
theorem plS_up {f : Nat → Int32} {pl : Nat → Option Nat} {pp i : Nat} (h : ∀ p, p < 30 → f p = plI (pl p)) : ∀ p, p < 30 → upd f pp (nI i) p = plI (va_up pl pp (some i) p) := by
  intro p hp
  unfold upd va_up
  by_cases e : p = pp
  · rw [if_pos e, if_pos e]; rfl
  · rw [if_neg e, if_neg e]; exact h p hp
theorem start_rm {g : GG} {w : GW} {ad : Nat → Nat} {N cn : Nat} {ru fu th : Bool} {dk : Sec} {pl : Nat → Option Nat} {fD fL fO : Nat → Int32} {z : Nat → Bool} {fP fT fY fN : Nat → Int32} {fS : Nat → Int64} {fKn : Nat → Int32} {fK : Nat → Int64} {fH : Nat → Int32} {x : Int32} {y : Int64} (hM : MW g w ad cn ru fu false th 0 0 0 0 fD fL fO z fP fT fY (upd fN 0 x) (vp_updL fS 0 y) fKn fK fH) (r1 : ∀ j, j < 2048 → fD j = ub (dk j)) (q1 : ∀ q, q < 30 → fP q = plI (pl q)) (q2 : ∀ q, q < 64 → z q = false) (q3 : ∀ q, q < 2048 → fL q = fD q) : RM g w ad N (cn, ru, fu, false, dk, [], fun _ => none, pl, [(x, y)], []) := by
  refine ⟨th, 0, 0, 0, 0, fD, fL, fO, z, fP, fT, fY, _, _, fKn, fK, fH, hM, r1, ?_, fun k c i _ h => (by cases h), fun k hk => q2 k hk, q1, rfl, fun i x hx => (by simp at hx), rfl, ?_, rfl, fun i x hx => (by simp at hx), ?_, by simp⟩
  · intro k i hk hi
    rw [q3 _ (by omega), r1 _ (by omega), lat_nil, sec_at hi]
  · intro i x0 hx
    have hi : i < 1 := (List.getElem?_eq_some_iff.mp hx).1
    have : i = 0 := by omega
    subst this
    cases hx
    unfold upd vp_updL
    exact ⟨if_pos rfl, if_pos rfl⟩
  · have : cntL (fun _ => none) = 0 := by decide +kernel
    omega
set_option maxHeartbeats 4000000 in
theorem m_X3_isWhole (l : Launch) (g : GG) (w v : GW) (ad : Nat → Nat) (cn : Nat) (ru fu ch th : Bool) (fi be ne ke : Nat) (h0 : w (ad 0) = some (mo ad cn ru fu ch th fi be ne ke)) (fD : Nat → Int32) (hD : w (ad 1) = some (eI g 2048 fD)) (dk : Sec) (k : Nat) (hk : k < 64) (hcn : 2 ≤ cn ∧ cn ≤ 64) (r1 : ∀ j, j < 2048 → fD j = ub (dk j)) : Met l yX3_isWhole (ws_ yX3_isWhole cX3_isWhole 10 (some .boolean)) ({ frames := 3, cells := 0, slots := 0, locals := 180 } : Room) (gP g [.ref (ad 0), .int (nI k)] w v) (va_Qi (fun (r : Int32) (w' : GW) => r = bI (wholeF cn dk k).isSome ∧ w' = w) (gB g v) (gA g)) 0 0 (gA g) := by
  refine gm_of (by decide) (Nat.le_of_ble_eq_true rfl) ?_
  intro p e s m below meth c ls C hnm h hl
  have C : Cx g p s m ([.ref (ad 0), .int (nI k)] : List Value).toArray meth c cX3_isWhole 10 RX3 (some .boolean) := C
  obtain ⟨hx, hb, hml, hown, hts, hr, hlk, hG⟩ := id C
  have hl : lv_has ls 10 [(0, .ref (ad 0)), (1, .int (nI k))] := hl
  have rD : ∀ k i, k < 64 → i < 32 → fD (32 * k + i) = ub (sec dk k i) := fun k i hk hi => by rw [r1 _ (by omega), sec_at hi]
  refine lv_bipush (v := nI 32) hx hb dX3_isWhole_0 (by decide) ?_
  refine lv_iload_n hx hb dX3_isWhole_2 rfl (lv_at hl 1 rfl) ?_
  refine gn_imul hx hb dX3_isWhole_3 ?_
  refine lv_istore_n (lv' := [(2, .int (nI (32 * k))), (0, .ref (ad 0)), (1, .int (nI k))]) hx hb dX3_isWhole_4 rfl hl (by decide) rfl (fun ls hl => ?_)
  refine lv_aload_n hx hb dX3_isWhole_5 rfl (lv_at hl 1 rfl) ?_
  refine gx_get C h h0 (Cn := RX3) (T := TX3) (N := 22) rfl in_X3 3 (by decide) q735 rfl rfl dX3_isWhole_6 ?_
  refine lv_iload_n hx hb dX3_isWhole_9 rfl (lv_at hl 0 rfl) ?_
  refine lv_iconst (v := nI 4) hx hb dX3_isWhole_10 (by decide) ?_
  refine gn_iadd hx hb dX3_isWhole_11 ?_
  refine gx_iald C h hD ((32 * k) + 4) (rfl) (by omega) dX3_isWhole_12 ?_
  rw [rD k 4 hk (by omega)]
  refine lv_bipush (v := nI 9) hx hb dX3_isWhole_13 (by decide) ?_
  refine lv_icmp_ne (tgt := 29) hx hb dX3_isWhole_15 (by decide) (fun c1 => ?_) (fun c1 => ?_)
  · skip
    refine lv_iconst (v := bI false) hx hb dX3_isWhole_29 (by decide) ?_
    exact gr_i C h (ty := .boolean) rfl (bI_n _) (⟨by unfold wholeF; rw [if_neg (fun q => c1 (kind9.mpr q.1))]; rfl, rfl⟩) (Nat.le_of_ble_eq_true rfl) (Nat.le_of_ble_eq_true rfl) dX3_isWhole_30
  · skip
    have c1b := kind9.mp c1
    refine lv_aload_n hx hb dX3_isWhole_18 rfl (lv_at hl 1 rfl) ?_
    refine gx_get C h h0 (Cn := RX3) (T := TX3) (N := 22) rfl in_X3 3 (by decide) q735 rfl rfl dX3_isWhole_19 ?_
    refine lv_iload_n hx hb dX3_isWhole_22 rfl (lv_at hl 2 rfl) ?_
    refine gc_i (va_runS (As := [.ref (ad 1), .int (nI k)]) (rest := []) C.fix (m_X3_isRight l g w v (ad 1) 2048 fD hD (by omega) k (by omega)) (va_cwS 2 hts (lw_S q873 q874 q53 q875) rfl rfl rfl (by decide +kernel) ⟨Nat.le_of_ble_eq_true rfl, Nat.le_of_ble_eq_true rfl⟩) (gp_S C h _) rfl rfl hl.1 rfl (lv_room (Nat.le_of_ble_eq_true rfl)) dX3_isWhole_23 ⟨Nat.le_of_ble_eq_true rfl, Nat.le_of_ble_eq_true rfl⟩) h (fun r_1 w_2 H locs hp h => ?_)
    obtain ⟨er_r_1, ew_r_1⟩ := hp
    rw [er_r_1]
    rw [ew_r_1] at h
    rw [(br_row (fun i hi => rD k i hk hi)).1]
    refine lv_if_ne (tgt := 31) hx hb dX3_isWhole_26 (by decide) (fun c2 => ?_) (fun c2 => ?_)
    · skip
      have c2 : rightB (sec dk k) = true := bI_ne0.mp c2
      refine lv_aload_n hx hb dX3_isWhole_31 rfl (lv_at hl 1 rfl) ?_
      refine gx_get C h h0 (Cn := RX3) (T := TX3) (N := 22) rfl in_X3 3 (by decide) q735 rfl rfl dX3_isWhole_32 ?_
      refine lv_iload_n hx hb dX3_isWhole_35 rfl (lv_at hl 0 rfl) ?_
      refine lv_bipush (v := nI 8) hx hb dX3_isWhole_36 (by decide) ?_
      refine gn_iadd hx hb dX3_isWhole_38 ?_
      refine gc_l (va_runS (As := [.ref (ad 1), .int (nI ((32 * k) + 8))]) (rest := []) C.fix (m_X3_wide l g w v (ad 1) 2048 fD hD (by omega) (32 * k + 8) (by omega)) (va_cwS 2 hts (lw_S q825 q826 q53 q827) rfl rfl rfl (by decide +kernel) ⟨Nat.le_of_ble_eq_true rfl, Nat.le_of_ble_eq_true rfl⟩) (gp_S C h _) rfl rfl hl.1 rfl (lv_room (Nat.le_of_ble_eq_true rfl)) dX3_isWhole_39 ⟨Nat.le_of_ble_eq_true rfl, Nat.le_of_ble_eq_true rfl⟩) h (fun r_3 w_4 H locs hp h => ?_)
      obtain ⟨er_r_3, ew_r_3⟩ := hp
      rw [er_r_3]
      rw [ew_r_3] at h
      rw [(br_row (fun i hi => rD k i hk hi)).2.2 8 (by omega)]
      refine lv_lstore_n (lv' := [(3, .long ((wideB (sec dk k) 8))), (2, .int (nI (32 * k))), (0, .ref (ad 0)), (1, .int (nI k))]) hx hb dX3_isWhole_42 rfl hl (by decide) rfl (fun ls hl => ?_)
      refine lv_iconst (v := nI 0) hx hb dX3_isWhole_43 (by decide) ?_
      refine lv_istore (lv' := [(5, .int (nI 0)), (3, .long ((wideB (sec dk k) 8))), (2, .int (nI (32 * k))), (0, .ref (ad 0)), (1, .int (nI k))]) hx hb dX3_isWhole_44 hl (by decide) rfl (fun ls hl => ?_)
      refine lv_iconst (v := nI 0) hx hb dX3_isWhole_46 (by decide) ?_
      refine lv_istore (lv' := [(6, .int (nI 0)), (5, .int (nI 0)), (3, .long ((wideB (sec dk k) 8))), (2, .int (nI (32 * k))), (0, .ref (ad 0)), (1, .int (nI k))]) hx hb dX3_isWhole_47 hl (by decide) rfl (fun ls hl => ?_)
      refine lv_iconst (v := bI true) hx hb dX3_isWhole_49 (by decide) ?_
      refine lv_istore (lv' := [(7, .int (bI true)), (6, .int (nI 0)), (5, .int (nI 0)), (3, .long ((wideB (sec dk k) 8))), (2, .int (nI (32 * k))), (0, .ref (ad 0)), (1, .int (nI k))]) hx hb dX3_isWhole_50 hl (by decide) rfl (fun ls hl => ?_)
      refine lv_iconst (v := nI 0) hx hb dX3_isWhole_52 (by decide) ?_
      refine lv_istore (lv' := [(8, .int (nI 0)), (7, .int (bI true)), (6, .int (nI 0)), (5, .int (nI 0)), (3, .long ((wideB (sec dk k) 8))), (2, .int (nI (32 * k))), (0, .ref (ad 0)), (1, .int (nI k))]) hx hb dX3_isWhole_53 hl (by decide) rfl (fun ls hl => ?_)
      have exf : ∀ (j : Nat) (H : Heap) (locs : List Loc) (ls : Array Slot), j ≤ 64 → (wholeF cn dk k).isSome = false → SH g w v s H locs → lv_has ls 10 [(0, .ref (ad 0)), (2, .int (nI (32 * k))), (7, .int (bI false)), (8, .int (nI j))] → W p l e ({ frames := 3, cells := 0, slots := 0, locals := 180 } : Room) s m ([.ref (ad 0), .int (nI k)] : List Value).toArray below meth c H locs 0 0 (MQ below (va_Qi (fun (r : Int32) (w' : GW) => r = bI (wholeF cn dk k).isSome ∧ w' = w) (gB g v) (gA g)) ([.ref (ad 0), .int (nI k)] : List Value).toArray s 0 0 (gA g)) (F0 m 55 ls []) := by
        intro j H locs ls hj hwn h hl
        refine lv_iload hx hb dX3_isWhole_55 (lv_at hl 3 rfl) ?_
        refine lv_bipush (v := nI 64) hx hb dX3_isWhole_57 (by decide) ?_
        refine lv_icmp_ge (tgt := 214) hx hb dX3_isWhole_59 (by decide) (fun c3 => ?_) (fun c3 => ?_)
        · skip
          have c3 : 64 ≤ j := (nI_leI (by omega) (by omega)).mp c3
          refine lv_iload hx hb dX3_isWhole_214 (lv_at hl 2 rfl) ?_
          refine lv_if_eq (tgt := 239) hx hb dX3_isWhole_216 (by decide) (fun c9 => ?_) (fun c9 => ?_)
          · skip
            have c9 : false = false := bI_eq0.mp c9
            refine lv_iconst (v := bI false) hx hb dX3_isWhole_239 (by decide) ?_
            exact gr_i C h (ty := .boolean) rfl (bI_n _) (⟨by rw [hwn], rfl⟩) (Nat.le_of_ble_eq_true rfl) (Nat.le_of_ble_eq_true rfl) dX3_isWhole_240
          · skip
            have c9 : false = true := bI_ne0.mp c9
            cases c9
        · skip
          have c3 : ¬ (64 ≤ j) := fun q => c3 ((nI_leI (by omega) (by omega)).mpr q)
          refine lv_iload hx hb dX3_isWhole_62 (lv_at hl 2 rfl) ?_
          refine lv_if_eq (tgt := 214) hx hb dX3_isWhole_64 (by decide) (fun c4 => ?_) (fun c4 => ?_)
          · skip
            have c4 : false = false := bI_eq0.mp c4
            refine lv_iload hx hb dX3_isWhole_214 (lv_at hl 2 rfl) ?_
            refine lv_if_eq (tgt := 239) hx hb dX3_isWhole_216 (by decide) (fun c9 => ?_) (fun c9 => ?_)
            · skip
              have c9 : false = false := bI_eq0.mp c9
              refine lv_iconst (v := bI false) hx hb dX3_isWhole_239 (by decide) ?_
              exact gr_i C h (ty := .boolean) rfl (bI_n _) (⟨by rw [hwn], rfl⟩) (Nat.le_of_ble_eq_true rfl) (Nat.le_of_ble_eq_true rfl) dX3_isWhole_240
            · skip
              have c9 : false = true := bI_ne0.mp c9
              cases c9
          · skip
            have c4 : false = true := bI_ne0.mp c4
            cases c4
      have loop : ∀ (n_ : Nat) (j : Nat) (al pa : Int32) (P : Nat → Bool) (w1 : GW) (H : Heap) (locs : List Loc) (ls : Array Slot), 64 - j < n_ → (j ≤ 64) → (whG cn dk (wideB (sec dk k) 8) j = some (P, al)) → (∀ p, p < 30 → bit32 pa p = P p) → (w1 = w) → SH g w1 v s H locs → lv_has ls 10 [(0, .ref (ad 0)), (1, .int (nI k)), (2, .int (nI (32 * k))), (3, .long ((wideB (sec dk k) 8))), (5, .int al), (6, .int pa), (7, .int (bI true)), (8, .int (nI j))] → W p l e ({ frames := 3, cells := 0, slots := 0, locals := 180 } : Room) s m ([.ref (ad 0), .int (nI k)] : List Value).toArray below meth c H locs 0 0 (MQ below (va_Qi (fun (r : Int32) (w' : GW) => r = bI (wholeF cn dk k).isSome ∧ w' = w) (gB g v) (gA g)) ([.ref (ad 0), .int (nI k)] : List Value).toArray s 0 0 (gA g)) (F0 m 55 ls []) := by
        intro n_
        induction n_ with
        | zero => intros; exact absurd ‹_ < 0› (Nat.not_lt_zero _)
        | succ n_ ih =>
          intro j al pa P w1 H locs ls hf hj hG_ hpa hw  h hl
          rw [hw] at h
          refine lv_iload hx hb dX3_isWhole_55 (lv_at hl 7 rfl) ?_
          refine lv_bipush (v := nI 64) hx hb dX3_isWhole_57 (by decide) ?_
          refine lv_icmp_ge (tgt := 214) hx hb dX3_isWhole_59 (by decide) (fun c3 => ?_) (fun c3 => ?_)
          · skip
            have c3 : 64 ≤ j := (nI_leI (by omega) (by omega)).mp c3
            have hj64 : j = 64 := by omega
            rw [hj64] at hG_
            have hwf := wholeF_s c1b c2 hG_
            refine lv_iload hx hb dX3_isWhole_214 (lv_at hl 6 rfl) ?_
            refine lv_if_eq (tgt := 239) hx hb dX3_isWhole_216 (by decide) (fun c4 => ?_) (fun c4 => ?_)
            · skip
              have c4 : true = false := bI_eq0.mp c4
              cases c4
            · skip
              have c4 : true = true := bI_ne0.mp c4
              refine lv_iload hx hb dX3_isWhole_219 (lv_at hl 4 rfl) ?_
              refine lv_aload_n hx hb dX3_isWhole_221 rfl (lv_at hl 0 rfl) ?_
              refine gx_get C h h0 (Cn := RX3) (T := TX3) (N := 22) rfl in_X3 3 (by decide) q735 rfl rfl dX3_isWhole_222 ?_
              refine lv_iload_n hx hb dX3_isWhole_225 rfl (lv_at hl 2 rfl) ?_
              refine lv_bipush (v := nI 20) hx hb dX3_isWhole_226 (by decide) ?_
              refine gn_iadd hx hb dX3_isWhole_228 ?_
              refine gc_i (va_runS (As := [.ref (ad 1), .int (nI ((32 * k) + 20))]) (rest := [.int al]) C.fix (m_X3_number l g w v (ad 1) 2048 fD hD (by omega) (32 * k + 20) (by omega)) (va_cwS 2 hts (lw_S q828 q829 q53 q830) rfl rfl rfl (by decide +kernel) ⟨Nat.le_of_ble_eq_true rfl, Nat.le_of_ble_eq_true rfl⟩) (gp_S C h _) rfl rfl hl.1 rfl (lv_room (Nat.le_of_ble_eq_true rfl)) dX3_isWhole_229 ⟨Nat.le_of_ble_eq_true rfl, Nat.le_of_ble_eq_true rfl⟩) h (fun r_5 w_6 H locs hp h => ?_)
              obtain ⟨er_r_5, ew_r_5⟩ := hp
              rw [er_r_5]
              rw [ew_r_5] at h
              rw [br_num (fun i hi => rD k i hk hi) (by omega)]
              refine lv_icmp_ne (tgt := 239) hx hb dX3_isWhole_232 (by decide) (fun c5 => ?_) (fun c5 => ?_)
              · skip
                refine lv_iconst (v := bI false) hx hb dX3_isWhole_239 (by decide) ?_
                exact gr_i C h (ty := .boolean) rfl (bI_n _) (⟨by rw [hwf, if_neg c5]; rfl, rfl⟩) (Nat.le_of_ble_eq_true rfl) (Nat.le_of_ble_eq_true rfl) dX3_isWhole_240
              · skip
                refine lv_iconst (v := bI true) hx hb dX3_isWhole_235 (by decide) ?_
                refine lv_goto (tgt := 240) hx hb dX3_isWhole_236 (by decide) ?_
                exact gr_i C h (ty := .boolean) rfl (bI_n _) (⟨by rw [hwf, if_pos c5]; rfl, rfl⟩) (Nat.le_of_ble_eq_true rfl) (Nat.le_of_ble_eq_true rfl) dX3_isWhole_240
          · skip
            have c3 : ¬ (64 ≤ j) := fun q => c3 ((nI_leI (by omega) (by omega)).mpr q)
            refine lv_iload hx hb dX3_isWhole_62 (lv_at hl 6 rfl) ?_
            refine lv_if_eq (tgt := 214) hx hb dX3_isWhole_64 (by decide) (fun c4 => ?_) (fun c4 => ?_)
            · skip
              have c4 : true = false := bI_eq0.mp c4
              cases c4
            · skip
              have c4 : true = true := bI_ne0.mp c4
              refine lv_lload_n hx hb dX3_isWhole_67 rfl (lv_at hl 3 rfl) ?_
              refine lv_iload hx hb dX3_isWhole_68 (lv_at hl 7 rfl) ?_
              refine lv_lshr hx hb dX3_isWhole_70 rfl ?_
              refine lv_lconst (v := 1) hx hb dX3_isWhole_71 (by decide) ?_
              refine lv_land hx hb dX3_isWhole_72 ?_
              refine lv_lconst (v := 0) hx hb dX3_isWhole_73 (by decide) ?_
              refine W.lcmp hx hb dX3_isWhole_74 ?_
              refine lv_if_ne (tgt := 81) hx hb dX3_isWhole_75 (by decide) (fun c5 => ?_) (fun c5 => ?_)
              · skip
                have hbit : bitL (wideB (sec dk k) 8) j = true := bitL_ne0 c5
                refine lv_aload_n hx hb dX3_isWhole_81 rfl (lv_at hl 0 rfl) ?_
                refine gx_get C h h0 (Cn := RX3) (T := TX3) (N := 22) rfl in_X3 3 (by decide) q735 rfl rfl dX3_isWhole_82 ?_
                refine lv_bipush (v := nI 32) hx hb dX3_isWhole_85 (by decide) ?_
                refine lv_iload hx hb dX3_isWhole_87 (lv_at hl 7 rfl) ?_
                refine gn_imul hx hb dX3_isWhole_89 ?_
                refine lv_iconst (v := nI 5) hx hb dX3_isWhole_90 (by decide) ?_
                refine gn_iadd hx hb dX3_isWhole_91 ?_
                refine gx_iald C h hD ((32 * j) + 5) (rfl) (by omega) dX3_isWhole_92 ?_
                rw [rD j 5 (by omega) (by omega)]
                obtain ⟨pp, hpp, hpv⟩ := ub_lt (sec dk j 5)
                rw [hpv]
                have hpc : (ub (sec dk j 5)).toNatClampNeg = pp := by rw [hpv]; exact nI_clamp (by omega)
                refine lv_istore (lv' := [(9, .int (nI pp)), (0, .ref (ad 0)), (1, .int (nI k)), (2, .int (nI (32 * k))), (3, .long ((wideB (sec dk k) 8))), (5, .int al), (6, .int pa), (7, .int (bI true)), (8, .int (nI j))]) hx hb dX3_isWhole_93 hl (by decide) rfl (fun ls hl => ?_)
                refine lv_iload hx hb dX3_isWhole_95 (lv_at hl 8 rfl) ?_
                refine lv_iconst (v := nI 1) hx hb dX3_isWhole_97 (by decide) ?_
                refine lv_icmp_le (tgt := 174) hx hb dX3_isWhole_98 (by decide) (fun c6 => ?_) (fun c6 => ?_)
                · skip
                  have c6 : j ≤ 1 := (nI_leI (by omega) (by omega)).mp c6
                  have hbad : ¬ (1 < j ∧ j < cn ∧ rightB (sec dk j) = true ∧ 0 < (sec dk j 4).toInt32 ∧ (sec dk j 4).toInt32 < nI 4 ∧ ub (sec dk j 5) < nI 30 ∧ P (ub (sec dk j 5)).toNatClampNeg = false) := fun z => by have := z.1; omega
                  have hno : (wholeF cn dk k).isSome = false := wholeF_n c1b c2 (whG_none (whG_bad hG_ hbit hbad) 64 (by omega))
                  refine lv_iconst (v := bI false) hx hb dX3_isWhole_174 (by decide) ?_
                  refine lv_istore (lv' := [(7, .int (bI false)), (9, .int (nI pp)), (0, .ref (ad 0)), (1, .int (nI k)), (2, .int (nI (32 * k))), (3, .long ((wideB (sec dk k) 8))), (5, .int al), (6, .int pa), (8, .int (nI j))]) hx hb dX3_isWhole_175 hl (by decide) rfl (fun ls hl => ?_)
                  refine lv_iload hx hb dX3_isWhole_177 (lv_at hl 0 rfl) ?_
                  refine lv_if_eq (tgt := 191) hx hb dX3_isWhole_179 (by decide) (fun c20 => ?_) (fun c20 => ?_)
                  · skip
                    have c20 : false = false := bI_eq0.mp c20
                    refine lv_iload hx hb dX3_isWhole_191 (lv_at hl 6 rfl) ?_
                    refine lv_aload_n hx hb dX3_isWhole_193 rfl (lv_at hl 2 rfl) ?_
                    refine gx_get C h h0 (Cn := RX3) (T := TX3) (N := 22) rfl in_X3 3 (by decide) q735 rfl rfl dX3_isWhole_194 ?_
                    refine lv_bipush (v := nI 32) hx hb dX3_isWhole_197 (by decide) ?_
                    refine lv_iload hx hb dX3_isWhole_199 (lv_at hl 8 rfl) ?_
                    refine gn_imul hx hb dX3_isWhole_201 ?_
                    refine gc_i (va_runS (As := [.ref (ad 1), .int (nI (32 * j))]) (rest := [.int al]) C.fix (m_X3_number l g w v (ad 1) 2048 fD hD (by omega) (32 * j) (by omega)) (va_cwS 2 hts (lw_S q828 q829 q53 q830) rfl rfl rfl (by decide +kernel) ⟨Nat.le_of_ble_eq_true rfl, Nat.le_of_ble_eq_true rfl⟩) (gp_S C h _) rfl rfl hl.1 rfl (lv_room (Nat.le_of_ble_eq_true rfl)) dX3_isWhole_202 ⟨Nat.le_of_ble_eq_true rfl, Nat.le_of_ble_eq_true rfl⟩) h (fun r_7 w_8 H locs hp h => ?_)
                    obtain ⟨er_r_7, ew_r_7⟩ := hp
                    rw [er_r_7]
                    rw [ew_r_7] at h
                    refine lv_ixor hx hb dX3_isWhole_205 ?_
                    refine lv_istore (lv' := [(5, .int (al ^^^ ((numI fD (32 * j))))), (7, .int (bI false)), (9, .int (nI pp)), (0, .ref (ad 0)), (1, .int (nI k)), (2, .int (nI (32 * k))), (3, .long ((wideB (sec dk k) 8))), (6, .int pa), (8, .int (nI j))]) hx hb dX3_isWhole_206 hl (by decide) rfl (fun ls hl => ?_)
                    refine lv_iinc (v := nI (j + 1)) (lv' := [(8, .int (nI (j + 1))), (5, .int (al ^^^ ((numI fD (32 * j))))), (7, .int (bI false)), (9, .int (nI pp)), (0, .ref (ad 0)), (1, .int (nI k)), (2, .int (nI (32 * k))), (3, .long ((wideB (sec dk k) 8))), (6, .int pa)]) hx hb dX3_isWhole_208 hl (k := 8) rfl (gi_inc _ 1) (by decide) rfl (fun ls hl => ?_)
                    refine lv_goto (tgt := 55) hx hb dX3_isWhole_211 (by decide) ?_
                    exact exf (j + 1) _ _ ls (by omega) hno h (lv_sub hl [4, 6, 2, 0] rfl)
                  · skip
                    have c20 : false = true := bI_ne0.mp c20
                    cases c20
                · skip
                  have c6 : ¬ (j ≤ 1) := fun q => c6 ((nI_leI (by omega) (by omega)).mpr q)
                  refine lv_iload hx hb dX3_isWhole_101 (lv_at hl 8 rfl) ?_
                  refine lv_aload_n hx hb dX3_isWhole_103 rfl (lv_at hl 1 rfl) ?_
                  refine gx_get C h h0 (Cn := RX3) (T := TX3) (N := 22) rfl in_X3 0 (by decide) q732 rfl rfl dX3_isWhole_104 ?_
                  refine lv_icmp_ge (tgt := 174) hx hb dX3_isWhole_107 (by decide) (fun c7 => ?_) (fun c7 => ?_)
                  · skip
                    have c7 : cn ≤ j := (nI_leI (by omega) (by omega)).mp c7
                    have hbad : ¬ (1 < j ∧ j < cn ∧ rightB (sec dk j) = true ∧ 0 < (sec dk j 4).toInt32 ∧ (sec dk j 4).toInt32 < nI 4 ∧ ub (sec dk j 5) < nI 30 ∧ P (ub (sec dk j 5)).toNatClampNeg = false) := fun z => by have := z.2.1; omega
                    have hno : (wholeF cn dk k).isSome = false := wholeF_n c1b c2 (whG_none (whG_bad hG_ hbit hbad) 64 (by omega))
                    refine lv_iconst (v := bI false) hx hb dX3_isWhole_174 (by decide) ?_
                    refine lv_istore (lv' := [(7, .int (bI false)), (9, .int (nI pp)), (0, .ref (ad 0)), (1, .int (nI k)), (2, .int (nI (32 * k))), (3, .long ((wideB (sec dk k) 8))), (5, .int al), (6, .int pa), (8, .int (nI j))]) hx hb dX3_isWhole_175 hl (by decide) rfl (fun ls hl => ?_)
                    refine lv_iload hx hb dX3_isWhole_177 (lv_at hl 0 rfl) ?_
                    refine lv_if_eq (tgt := 191) hx hb dX3_isWhole_179 (by decide) (fun c20 => ?_) (fun c20 => ?_)
                    · skip
                      have c20 : false = false := bI_eq0.mp c20
                      refine lv_iload hx hb dX3_isWhole_191 (lv_at hl 6 rfl) ?_
                      refine lv_aload_n hx hb dX3_isWhole_193 rfl (lv_at hl 2 rfl) ?_
                      refine gx_get C h h0 (Cn := RX3) (T := TX3) (N := 22) rfl in_X3 3 (by decide) q735 rfl rfl dX3_isWhole_194 ?_
                      refine lv_bipush (v := nI 32) hx hb dX3_isWhole_197 (by decide) ?_
                      refine lv_iload hx hb dX3_isWhole_199 (lv_at hl 8 rfl) ?_
                      refine gn_imul hx hb dX3_isWhole_201 ?_
                      refine gc_i (va_runS (As := [.ref (ad 1), .int (nI (32 * j))]) (rest := [.int al]) C.fix (m_X3_number l g w v (ad 1) 2048 fD hD (by omega) (32 * j) (by omega)) (va_cwS 2 hts (lw_S q828 q829 q53 q830) rfl rfl rfl (by decide +kernel) ⟨Nat.le_of_ble_eq_true rfl, Nat.le_of_ble_eq_true rfl⟩) (gp_S C h _) rfl rfl hl.1 rfl (lv_room (Nat.le_of_ble_eq_true rfl)) dX3_isWhole_202 ⟨Nat.le_of_ble_eq_true rfl, Nat.le_of_ble_eq_true rfl⟩) h (fun r_9 w_10 H locs hp h => ?_)
                      obtain ⟨er_r_9, ew_r_9⟩ := hp
                      rw [er_r_9]
                      rw [ew_r_9] at h
                      refine lv_ixor hx hb dX3_isWhole_205 ?_
                      refine lv_istore (lv' := [(5, .int (al ^^^ ((numI fD (32 * j))))), (7, .int (bI false)), (9, .int (nI pp)), (0, .ref (ad 0)), (1, .int (nI k)), (2, .int (nI (32 * k))), (3, .long ((wideB (sec dk k) 8))), (6, .int pa), (8, .int (nI j))]) hx hb dX3_isWhole_206 hl (by decide) rfl (fun ls hl => ?_)
                      refine lv_iinc (v := nI (j + 1)) (lv' := [(8, .int (nI (j + 1))), (5, .int (al ^^^ ((numI fD (32 * j))))), (7, .int (bI false)), (9, .int (nI pp)), (0, .ref (ad 0)), (1, .int (nI k)), (2, .int (nI (32 * k))), (3, .long ((wideB (sec dk k) 8))), (6, .int pa)]) hx hb dX3_isWhole_208 hl (k := 8) rfl (gi_inc _ 1) (by decide) rfl (fun ls hl => ?_)
                      refine lv_goto (tgt := 55) hx hb dX3_isWhole_211 (by decide) ?_
                      exact exf (j + 1) _ _ ls (by omega) hno h (lv_sub hl [4, 6, 2, 0] rfl)
                    · skip
                      have c20 : false = true := bI_ne0.mp c20
                      cases c20
                  · skip
                    have c7 : ¬ (cn ≤ j) := fun q => c7 ((nI_leI (by omega) (by omega)).mpr q)
                    refine lv_aload_n hx hb dX3_isWhole_110 rfl (lv_at hl 1 rfl) ?_
                    refine gx_get C h h0 (Cn := RX3) (T := TX3) (N := 22) rfl in_X3 3 (by decide) q735 rfl rfl dX3_isWhole_111 ?_
                    refine lv_iload hx hb dX3_isWhole_114 (lv_at hl 8 rfl) ?_
                    refine gc_i (va_runS (As := [.ref (ad 1), .int (nI j)]) (rest := []) C.fix (m_X3_isRight l g w v (ad 1) 2048 fD hD (by omega) j (by omega)) (va_cwS 2 hts (lw_S q873 q874 q53 q875) rfl rfl rfl (by decide +kernel) ⟨Nat.le_of_ble_eq_true rfl, Nat.le_of_ble_eq_true rfl⟩) (gp_S C h _) rfl rfl hl.1 rfl (lv_room (Nat.le_of_ble_eq_true rfl)) dX3_isWhole_116 ⟨Nat.le_of_ble_eq_true rfl, Nat.le_of_ble_eq_true rfl⟩) h (fun r_11 w_12 H locs hp h => ?_)
                    obtain ⟨er_r_11, ew_r_11⟩ := hp
                    rw [er_r_11]
                    rw [ew_r_11] at h
                    rw [(br_row (fun i hi => rD j i (by omega) hi)).1]
                    refine lv_if_eq (tgt := 174) hx hb dX3_isWhole_119 (by decide) (fun c8 => ?_) (fun c8 => ?_)
                    · skip
                      have c8 : rightB (sec dk j) = false := bI_eq0.mp c8
                      have hbad : ¬ (1 < j ∧ j < cn ∧ rightB (sec dk j) = true ∧ 0 < (sec dk j 4).toInt32 ∧ (sec dk j 4).toInt32 < nI 4 ∧ ub (sec dk j 5) < nI 30 ∧ P (ub (sec dk j 5)).toNatClampNeg = false) := fun z => by have := z.2.2.1; rw [c8] at this; cases this
                      have hno : (wholeF cn dk k).isSome = false := wholeF_n c1b c2 (whG_none (whG_bad hG_ hbit hbad) 64 (by omega))
                      refine lv_iconst (v := bI false) hx hb dX3_isWhole_174 (by decide) ?_
                      refine lv_istore (lv' := [(7, .int (bI false)), (9, .int (nI pp)), (0, .ref (ad 0)), (1, .int (nI k)), (2, .int (nI (32 * k))), (3, .long ((wideB (sec dk k) 8))), (5, .int al), (6, .int pa), (8, .int (nI j))]) hx hb dX3_isWhole_175 hl (by decide) rfl (fun ls hl => ?_)
                      refine lv_iload hx hb dX3_isWhole_177 (lv_at hl 0 rfl) ?_
                      refine lv_if_eq (tgt := 191) hx hb dX3_isWhole_179 (by decide) (fun c20 => ?_) (fun c20 => ?_)
                      · skip
                        have c20 : false = false := bI_eq0.mp c20
                        refine lv_iload hx hb dX3_isWhole_191 (lv_at hl 6 rfl) ?_
                        refine lv_aload_n hx hb dX3_isWhole_193 rfl (lv_at hl 2 rfl) ?_
                        refine gx_get C h h0 (Cn := RX3) (T := TX3) (N := 22) rfl in_X3 3 (by decide) q735 rfl rfl dX3_isWhole_194 ?_
                        refine lv_bipush (v := nI 32) hx hb dX3_isWhole_197 (by decide) ?_
                        refine lv_iload hx hb dX3_isWhole_199 (lv_at hl 8 rfl) ?_
                        refine gn_imul hx hb dX3_isWhole_201 ?_
                        refine gc_i (va_runS (As := [.ref (ad 1), .int (nI (32 * j))]) (rest := [.int al]) C.fix (m_X3_number l g w v (ad 1) 2048 fD hD (by omega) (32 * j) (by omega)) (va_cwS 2 hts (lw_S q828 q829 q53 q830) rfl rfl rfl (by decide +kernel) ⟨Nat.le_of_ble_eq_true rfl, Nat.le_of_ble_eq_true rfl⟩) (gp_S C h _) rfl rfl hl.1 rfl (lv_room (Nat.le_of_ble_eq_true rfl)) dX3_isWhole_202 ⟨Nat.le_of_ble_eq_true rfl, Nat.le_of_ble_eq_true rfl⟩) h (fun r_13 w_14 H locs hp h => ?_)
                        obtain ⟨er_r_13, ew_r_13⟩ := hp
                        rw [er_r_13]
                        rw [ew_r_13] at h
                        refine lv_ixor hx hb dX3_isWhole_205 ?_
                        refine lv_istore (lv' := [(5, .int (al ^^^ ((numI fD (32 * j))))), (7, .int (bI false)), (9, .int (nI pp)), (0, .ref (ad 0)), (1, .int (nI k)), (2, .int (nI (32 * k))), (3, .long ((wideB (sec dk k) 8))), (6, .int pa), (8, .int (nI j))]) hx hb dX3_isWhole_206 hl (by decide) rfl (fun ls hl => ?_)
                        refine lv_iinc (v := nI (j + 1)) (lv' := [(8, .int (nI (j + 1))), (5, .int (al ^^^ ((numI fD (32 * j))))), (7, .int (bI false)), (9, .int (nI pp)), (0, .ref (ad 0)), (1, .int (nI k)), (2, .int (nI (32 * k))), (3, .long ((wideB (sec dk k) 8))), (6, .int pa)]) hx hb dX3_isWhole_208 hl (k := 8) rfl (gi_inc _ 1) (by decide) rfl (fun ls hl => ?_)
                        refine lv_goto (tgt := 55) hx hb dX3_isWhole_211 (by decide) ?_
                        exact exf (j + 1) _ _ ls (by omega) hno h (lv_sub hl [4, 6, 2, 0] rfl)
                      · skip
                        have c20 : false = true := bI_ne0.mp c20
                        cases c20
                    · skip
                      have c8 : rightB (sec dk j) = true := bI_ne0.mp c8
                      refine lv_aload_n hx hb dX3_isWhole_122 rfl (lv_at hl 1 rfl) ?_
                      refine gx_get C h h0 (Cn := RX3) (T := TX3) (N := 22) rfl in_X3 3 (by decide) q735 rfl rfl dX3_isWhole_123 ?_
                      refine lv_bipush (v := nI 32) hx hb dX3_isWhole_126 (by decide) ?_
                      refine lv_iload hx hb dX3_isWhole_128 (lv_at hl 8 rfl) ?_
                      refine gn_imul hx hb dX3_isWhole_130 ?_
                      refine lv_iconst (v := nI 4) hx hb dX3_isWhole_131 (by decide) ?_
                      refine gn_iadd hx hb dX3_isWhole_132 ?_
                      refine gx_iald C h hD ((32 * j) + 4) (rfl) (by omega) dX3_isWhole_133 ?_
                      rw [rD j 4 (by omega) (by omega)]
                      refine lv_if_le (tgt := 174) hx hb dX3_isWhole_134 (by decide) (fun c9 => ?_) (fun c9 => ?_)
                      · skip
                        have hbad : ¬ (1 < j ∧ j < cn ∧ rightB (sec dk j) = true ∧ 0 < (sec dk j 4).toInt32 ∧ (sec dk j 4).toInt32 < nI 4 ∧ ub (sec dk j 5) < nI 30 ∧ P (ub (sec dk j 5)).toNatClampNeg = false) := fun z => (kd_pos.mpr ⟨z.2.2.2.1, z.2.2.2.2.1⟩).1 c9
                        have hno : (wholeF cn dk k).isSome = false := wholeF_n c1b c2 (whG_none (whG_bad hG_ hbit hbad) 64 (by omega))
                        refine lv_iconst (v := bI false) hx hb dX3_isWhole_174 (by decide) ?_
                        refine lv_istore (lv' := [(7, .int (bI false)), (9, .int (nI pp)), (0, .ref (ad 0)), (1, .int (nI k)), (2, .int (nI (32 * k))), (3, .long ((wideB (sec dk k) 8))), (5, .int al), (6, .int pa), (8, .int (nI j))]) hx hb dX3_isWhole_175 hl (by decide) rfl (fun ls hl => ?_)
                        refine lv_iload hx hb dX3_isWhole_177 (lv_at hl 0 rfl) ?_
                        refine lv_if_eq (tgt := 191) hx hb dX3_isWhole_179 (by decide) (fun c20 => ?_) (fun c20 => ?_)
                        · skip
                          have c20 : false = false := bI_eq0.mp c20
                          refine lv_iload hx hb dX3_isWhole_191 (lv_at hl 6 rfl) ?_
                          refine lv_aload_n hx hb dX3_isWhole_193 rfl (lv_at hl 2 rfl) ?_
                          refine gx_get C h h0 (Cn := RX3) (T := TX3) (N := 22) rfl in_X3 3 (by decide) q735 rfl rfl dX3_isWhole_194 ?_
                          refine lv_bipush (v := nI 32) hx hb dX3_isWhole_197 (by decide) ?_
                          refine lv_iload hx hb dX3_isWhole_199 (lv_at hl 8 rfl) ?_
                          refine gn_imul hx hb dX3_isWhole_201 ?_
                          refine gc_i (va_runS (As := [.ref (ad 1), .int (nI (32 * j))]) (rest := [.int al]) C.fix (m_X3_number l g w v (ad 1) 2048 fD hD (by omega) (32 * j) (by omega)) (va_cwS 2 hts (lw_S q828 q829 q53 q830) rfl rfl rfl (by decide +kernel) ⟨Nat.le_of_ble_eq_true rfl, Nat.le_of_ble_eq_true rfl⟩) (gp_S C h _) rfl rfl hl.1 rfl (lv_room (Nat.le_of_ble_eq_true rfl)) dX3_isWhole_202 ⟨Nat.le_of_ble_eq_true rfl, Nat.le_of_ble_eq_true rfl⟩) h (fun r_15 w_16 H locs hp h => ?_)
                          obtain ⟨er_r_15, ew_r_15⟩ := hp
                          rw [er_r_15]
                          rw [ew_r_15] at h
                          refine lv_ixor hx hb dX3_isWhole_205 ?_
                          refine lv_istore (lv' := [(5, .int (al ^^^ ((numI fD (32 * j))))), (7, .int (bI false)), (9, .int (nI pp)), (0, .ref (ad 0)), (1, .int (nI k)), (2, .int (nI (32 * k))), (3, .long ((wideB (sec dk k) 8))), (6, .int pa), (8, .int (nI j))]) hx hb dX3_isWhole_206 hl (by decide) rfl (fun ls hl => ?_)
                          refine lv_iinc (v := nI (j + 1)) (lv' := [(8, .int (nI (j + 1))), (5, .int (al ^^^ ((numI fD (32 * j))))), (7, .int (bI false)), (9, .int (nI pp)), (0, .ref (ad 0)), (1, .int (nI k)), (2, .int (nI (32 * k))), (3, .long ((wideB (sec dk k) 8))), (6, .int pa)]) hx hb dX3_isWhole_208 hl (k := 8) rfl (gi_inc _ 1) (by decide) rfl (fun ls hl => ?_)
                          refine lv_goto (tgt := 55) hx hb dX3_isWhole_211 (by decide) ?_
                          exact exf (j + 1) _ _ ls (by omega) hno h (lv_sub hl [4, 6, 2, 0] rfl)
                        · skip
                          have c20 : false = true := bI_ne0.mp c20
                          cases c20
                      · skip
                        refine lv_aload_n hx hb dX3_isWhole_137 rfl (lv_at hl 1 rfl) ?_
                        refine gx_get C h h0 (Cn := RX3) (T := TX3) (N := 22) rfl in_X3 3 (by decide) q735 rfl rfl dX3_isWhole_138 ?_
                        refine lv_bipush (v := nI 32) hx hb dX3_isWhole_141 (by decide) ?_
                        refine lv_iload hx hb dX3_isWhole_143 (lv_at hl 8 rfl) ?_
                        refine gn_imul hx hb dX3_isWhole_145 ?_
                        refine lv_iconst (v := nI 4) hx hb dX3_isWhole_146 (by decide) ?_
                        refine gn_iadd hx hb dX3_isWhole_147 ?_
                        refine gx_iald C h hD ((32 * j) + 4) (rfl) (by omega) dX3_isWhole_148 ?_
                        rw [rD j 4 (by omega) (by omega)]
                        refine lv_iconst (v := nI 4) hx hb dX3_isWhole_149 (by decide) ?_
                        refine lv_icmp_ge (tgt := 174) hx hb dX3_isWhole_150 (by decide) (fun c10 => ?_) (fun c10 => ?_)
                        · skip
                          have hbad : ¬ (1 < j ∧ j < cn ∧ rightB (sec dk j) = true ∧ 0 < (sec dk j 4).toInt32 ∧ (sec dk j 4).toInt32 < nI 4 ∧ ub (sec dk j 5) < nI 30 ∧ P (ub (sec dk j 5)).toNatClampNeg = false) := fun z => (kd_pos.mpr ⟨z.2.2.2.1, z.2.2.2.2.1⟩).2 c10
                          have hno : (wholeF cn dk k).isSome = false := wholeF_n c1b c2 (whG_none (whG_bad hG_ hbit hbad) 64 (by omega))
                          refine lv_iconst (v := bI false) hx hb dX3_isWhole_174 (by decide) ?_
                          refine lv_istore (lv' := [(7, .int (bI false)), (9, .int (nI pp)), (0, .ref (ad 0)), (1, .int (nI k)), (2, .int (nI (32 * k))), (3, .long ((wideB (sec dk k) 8))), (5, .int al), (6, .int pa), (8, .int (nI j))]) hx hb dX3_isWhole_175 hl (by decide) rfl (fun ls hl => ?_)
                          refine lv_iload hx hb dX3_isWhole_177 (lv_at hl 0 rfl) ?_
                          refine lv_if_eq (tgt := 191) hx hb dX3_isWhole_179 (by decide) (fun c20 => ?_) (fun c20 => ?_)
                          · skip
                            have c20 : false = false := bI_eq0.mp c20
                            refine lv_iload hx hb dX3_isWhole_191 (lv_at hl 6 rfl) ?_
                            refine lv_aload_n hx hb dX3_isWhole_193 rfl (lv_at hl 2 rfl) ?_
                            refine gx_get C h h0 (Cn := RX3) (T := TX3) (N := 22) rfl in_X3 3 (by decide) q735 rfl rfl dX3_isWhole_194 ?_
                            refine lv_bipush (v := nI 32) hx hb dX3_isWhole_197 (by decide) ?_
                            refine lv_iload hx hb dX3_isWhole_199 (lv_at hl 8 rfl) ?_
                            refine gn_imul hx hb dX3_isWhole_201 ?_
                            refine gc_i (va_runS (As := [.ref (ad 1), .int (nI (32 * j))]) (rest := [.int al]) C.fix (m_X3_number l g w v (ad 1) 2048 fD hD (by omega) (32 * j) (by omega)) (va_cwS 2 hts (lw_S q828 q829 q53 q830) rfl rfl rfl (by decide +kernel) ⟨Nat.le_of_ble_eq_true rfl, Nat.le_of_ble_eq_true rfl⟩) (gp_S C h _) rfl rfl hl.1 rfl (lv_room (Nat.le_of_ble_eq_true rfl)) dX3_isWhole_202 ⟨Nat.le_of_ble_eq_true rfl, Nat.le_of_ble_eq_true rfl⟩) h (fun r_17 w_18 H locs hp h => ?_)
                            obtain ⟨er_r_17, ew_r_17⟩ := hp
                            rw [er_r_17]
                            rw [ew_r_17] at h
                            refine lv_ixor hx hb dX3_isWhole_205 ?_
                            refine lv_istore (lv' := [(5, .int (al ^^^ ((numI fD (32 * j))))), (7, .int (bI false)), (9, .int (nI pp)), (0, .ref (ad 0)), (1, .int (nI k)), (2, .int (nI (32 * k))), (3, .long ((wideB (sec dk k) 8))), (6, .int pa), (8, .int (nI j))]) hx hb dX3_isWhole_206 hl (by decide) rfl (fun ls hl => ?_)
                            refine lv_iinc (v := nI (j + 1)) (lv' := [(8, .int (nI (j + 1))), (5, .int (al ^^^ ((numI fD (32 * j))))), (7, .int (bI false)), (9, .int (nI pp)), (0, .ref (ad 0)), (1, .int (nI k)), (2, .int (nI (32 * k))), (3, .long ((wideB (sec dk k) 8))), (6, .int pa)]) hx hb dX3_isWhole_208 hl (k := 8) rfl (gi_inc _ 1) (by decide) rfl (fun ls hl => ?_)
                            refine lv_goto (tgt := 55) hx hb dX3_isWhole_211 (by decide) ?_
                            exact exf (j + 1) _ _ ls (by omega) hno h (lv_sub hl [4, 6, 2, 0] rfl)
                          · skip
                            have c20 : false = true := bI_ne0.mp c20
                            cases c20
                        · skip
                          refine lv_iload hx hb dX3_isWhole_153 (lv_at hl 0 rfl) ?_
                          refine lv_bipush (v := nI 30) hx hb dX3_isWhole_155 (by decide) ?_
                          refine lv_icmp_ge (tgt := 174) hx hb dX3_isWhole_157 (by decide) (fun c11 => ?_) (fun c11 => ?_)
                          · skip
                            have c11 : 30 ≤ pp := (nI_leI (by omega) (by omega)).mp c11
                            have hbad : ¬ (1 < j ∧ j < cn ∧ rightB (sec dk j) = true ∧ 0 < (sec dk j 4).toInt32 ∧ (sec dk j 4).toInt32 < nI 4 ∧ ub (sec dk j 5) < nI 30 ∧ P (ub (sec dk j 5)).toNatClampNeg = false) := fun z => by have z1 := z.2.2.2.2.2.1; rw [hpv] at z1; have := (nI_ltI (by omega) (by omega)).mp z1; omega
                            have hno : (wholeF cn dk k).isSome = false := wholeF_n c1b c2 (whG_none (whG_bad hG_ hbit hbad) 64 (by omega))
                            refine lv_iconst (v := bI false) hx hb dX3_isWhole_174 (by decide) ?_
                            refine lv_istore (lv' := [(7, .int (bI false)), (9, .int (nI pp)), (0, .ref (ad 0)), (1, .int (nI k)), (2, .int (nI (32 * k))), (3, .long ((wideB (sec dk k) 8))), (5, .int al), (6, .int pa), (8, .int (nI j))]) hx hb dX3_isWhole_175 hl (by decide) rfl (fun ls hl => ?_)
                            refine lv_iload hx hb dX3_isWhole_177 (lv_at hl 0 rfl) ?_
                            refine lv_if_eq (tgt := 191) hx hb dX3_isWhole_179 (by decide) (fun c20 => ?_) (fun c20 => ?_)
                            · skip
                              have c20 : false = false := bI_eq0.mp c20
                              refine lv_iload hx hb dX3_isWhole_191 (lv_at hl 6 rfl) ?_
                              refine lv_aload_n hx hb dX3_isWhole_193 rfl (lv_at hl 2 rfl) ?_
                              refine gx_get C h h0 (Cn := RX3) (T := TX3) (N := 22) rfl in_X3 3 (by decide) q735 rfl rfl dX3_isWhole_194 ?_
                              refine lv_bipush (v := nI 32) hx hb dX3_isWhole_197 (by decide) ?_
                              refine lv_iload hx hb dX3_isWhole_199 (lv_at hl 8 rfl) ?_
                              refine gn_imul hx hb dX3_isWhole_201 ?_
                              refine gc_i (va_runS (As := [.ref (ad 1), .int (nI (32 * j))]) (rest := [.int al]) C.fix (m_X3_number l g w v (ad 1) 2048 fD hD (by omega) (32 * j) (by omega)) (va_cwS 2 hts (lw_S q828 q829 q53 q830) rfl rfl rfl (by decide +kernel) ⟨Nat.le_of_ble_eq_true rfl, Nat.le_of_ble_eq_true rfl⟩) (gp_S C h _) rfl rfl hl.1 rfl (lv_room (Nat.le_of_ble_eq_true rfl)) dX3_isWhole_202 ⟨Nat.le_of_ble_eq_true rfl, Nat.le_of_ble_eq_true rfl⟩) h (fun r_19 w_20 H locs hp h => ?_)
                              obtain ⟨er_r_19, ew_r_19⟩ := hp
                              rw [er_r_19]
                              rw [ew_r_19] at h
                              refine lv_ixor hx hb dX3_isWhole_205 ?_
                              refine lv_istore (lv' := [(5, .int (al ^^^ ((numI fD (32 * j))))), (7, .int (bI false)), (9, .int (nI pp)), (0, .ref (ad 0)), (1, .int (nI k)), (2, .int (nI (32 * k))), (3, .long ((wideB (sec dk k) 8))), (6, .int pa), (8, .int (nI j))]) hx hb dX3_isWhole_206 hl (by decide) rfl (fun ls hl => ?_)
                              refine lv_iinc (v := nI (j + 1)) (lv' := [(8, .int (nI (j + 1))), (5, .int (al ^^^ ((numI fD (32 * j))))), (7, .int (bI false)), (9, .int (nI pp)), (0, .ref (ad 0)), (1, .int (nI k)), (2, .int (nI (32 * k))), (3, .long ((wideB (sec dk k) 8))), (6, .int pa)]) hx hb dX3_isWhole_208 hl (k := 8) rfl (gi_inc _ 1) (by decide) rfl (fun ls hl => ?_)
                              refine lv_goto (tgt := 55) hx hb dX3_isWhole_211 (by decide) ?_
                              exact exf (j + 1) _ _ ls (by omega) hno h (lv_sub hl [4, 6, 2, 0] rfl)
                            · skip
                              have c20 : false = true := bI_ne0.mp c20
                              cases c20
                          · skip
                            have c11 : ¬ (30 ≤ pp) := fun q => c11 ((nI_leI (by omega) (by omega)).mpr q)
                            have hpp30 : pp < 30 := by omega
                            refine lv_iload hx hb dX3_isWhole_160 (lv_at hl 6 rfl) ?_
                            refine lv_iload hx hb dX3_isWhole_162 (lv_at hl 0 rfl) ?_
                            refine lv_ishr hx hb dX3_isWhole_164 ?_
                            refine lv_iconst (v := nI 1) hx hb dX3_isWhole_165 (by decide) ?_
                            refine lv_iand hx hb dX3_isWhole_166 ?_
                            refine lv_if_ne (tgt := 174) hx hb dX3_isWhole_167 (by decide) (fun c12 => ?_) (fun c12 => ?_)
                            · skip
                              have hbad : ¬ (1 < j ∧ j < cn ∧ rightB (sec dk j) = true ∧ 0 < (sec dk j 4).toInt32 ∧ (sec dk j 4).toInt32 < nI 4 ∧ ub (sec dk j 5) < nI 30 ∧ P (ub (sec dk j 5)).toNatClampNeg = false) := fun z => c12 ((bit32_iff (by omega)).mpr (by rw [hpa pp hpp30, ← hpc]; exact z.2.2.2.2.2.2))
                              have hno : (wholeF cn dk k).isSome = false := wholeF_n c1b c2 (whG_none (whG_bad hG_ hbit hbad) 64 (by omega))
                              refine lv_iconst (v := bI false) hx hb dX3_isWhole_174 (by decide) ?_
                              refine lv_istore (lv' := [(7, .int (bI false)), (9, .int (nI pp)), (0, .ref (ad 0)), (1, .int (nI k)), (2, .int (nI (32 * k))), (3, .long ((wideB (sec dk k) 8))), (5, .int al), (6, .int pa), (8, .int (nI j))]) hx hb dX3_isWhole_175 hl (by decide) rfl (fun ls hl => ?_)
                              refine lv_iload hx hb dX3_isWhole_177 (lv_at hl 0 rfl) ?_
                              refine lv_if_eq (tgt := 191) hx hb dX3_isWhole_179 (by decide) (fun c20 => ?_) (fun c20 => ?_)
                              · skip
                                have c20 : false = false := bI_eq0.mp c20
                                refine lv_iload hx hb dX3_isWhole_191 (lv_at hl 6 rfl) ?_
                                refine lv_aload_n hx hb dX3_isWhole_193 rfl (lv_at hl 2 rfl) ?_
                                refine gx_get C h h0 (Cn := RX3) (T := TX3) (N := 22) rfl in_X3 3 (by decide) q735 rfl rfl dX3_isWhole_194 ?_
                                refine lv_bipush (v := nI 32) hx hb dX3_isWhole_197 (by decide) ?_
                                refine lv_iload hx hb dX3_isWhole_199 (lv_at hl 8 rfl) ?_
                                refine gn_imul hx hb dX3_isWhole_201 ?_
                                refine gc_i (va_runS (As := [.ref (ad 1), .int (nI (32 * j))]) (rest := [.int al]) C.fix (m_X3_number l g w v (ad 1) 2048 fD hD (by omega) (32 * j) (by omega)) (va_cwS 2 hts (lw_S q828 q829 q53 q830) rfl rfl rfl (by decide +kernel) ⟨Nat.le_of_ble_eq_true rfl, Nat.le_of_ble_eq_true rfl⟩) (gp_S C h _) rfl rfl hl.1 rfl (lv_room (Nat.le_of_ble_eq_true rfl)) dX3_isWhole_202 ⟨Nat.le_of_ble_eq_true rfl, Nat.le_of_ble_eq_true rfl⟩) h (fun r_21 w_22 H locs hp h => ?_)
                                obtain ⟨er_r_21, ew_r_21⟩ := hp
                                rw [er_r_21]
                                rw [ew_r_21] at h
                                refine lv_ixor hx hb dX3_isWhole_205 ?_
                                refine lv_istore (lv' := [(5, .int (al ^^^ ((numI fD (32 * j))))), (7, .int (bI false)), (9, .int (nI pp)), (0, .ref (ad 0)), (1, .int (nI k)), (2, .int (nI (32 * k))), (3, .long ((wideB (sec dk k) 8))), (6, .int pa), (8, .int (nI j))]) hx hb dX3_isWhole_206 hl (by decide) rfl (fun ls hl => ?_)
                                refine lv_iinc (v := nI (j + 1)) (lv' := [(8, .int (nI (j + 1))), (5, .int (al ^^^ ((numI fD (32 * j))))), (7, .int (bI false)), (9, .int (nI pp)), (0, .ref (ad 0)), (1, .int (nI k)), (2, .int (nI (32 * k))), (3, .long ((wideB (sec dk k) 8))), (6, .int pa)]) hx hb dX3_isWhole_208 hl (k := 8) rfl (gi_inc _ 1) (by decide) rfl (fun ls hl => ?_)
                                refine lv_goto (tgt := 55) hx hb dX3_isWhole_211 (by decide) ?_
                                exact exf (j + 1) _ _ ls (by omega) hno h (lv_sub hl [4, 6, 2, 0] rfl)
                              · skip
                                have c20 : false = true := bI_ne0.mp c20
                                cases c20
                            · skip
                              have hok : (1 < j ∧ j < cn ∧ rightB (sec dk j) = true ∧ 0 < (sec dk j 4).toInt32 ∧ (sec dk j 4).toInt32 < nI 4 ∧ ub (sec dk j 5) < nI 30 ∧ P (ub (sec dk j 5)).toNatClampNeg = false) := ⟨by omega, by omega, c8, (kd_pos.mp ⟨c9, c10⟩).1, (kd_pos.mp ⟨c9, c10⟩).2, by rw [hpv]; exact nI_lt hpp30 (by omega), by rw [hpc, ← hpa pp hpp30]; exact (bit32_iff (by omega)).mp c12⟩
                              refine lv_iconst (v := bI true) hx hb dX3_isWhole_170 (by decide) ?_
                              refine lv_goto (tgt := 175) hx hb dX3_isWhole_171 (by decide) ?_
                              refine lv_istore (lv' := [(7, .int (bI true)), (9, .int (nI pp)), (0, .ref (ad 0)), (1, .int (nI k)), (2, .int (nI (32 * k))), (3, .long ((wideB (sec dk k) 8))), (5, .int al), (6, .int pa), (8, .int (nI j))]) hx hb dX3_isWhole_175 hl (by decide) rfl (fun ls hl => ?_)
                              refine lv_iload hx hb dX3_isWhole_177 (lv_at hl 0 rfl) ?_
                              refine lv_if_eq (tgt := 191) hx hb dX3_isWhole_179 (by decide) (fun c13 => ?_) (fun c13 => ?_)
                              · skip
                                have c13 : true = false := bI_eq0.mp c13
                                cases c13
                              · skip
                                have c13 : true = true := bI_ne0.mp c13
                                refine lv_iload hx hb dX3_isWhole_182 (lv_at hl 7 rfl) ?_
                                refine lv_iconst (v := nI 1) hx hb dX3_isWhole_184 (by decide) ?_
                                refine lv_iload hx hb dX3_isWhole_185 (lv_at hl 1 rfl) ?_
                                refine lv_ishl hx hb dX3_isWhole_187 ?_
                                refine lv_ior hx hb dX3_isWhole_188 ?_
                                refine lv_istore (lv' := [(6, .int (pa ||| (((nI 1) <<< ((nI pp &&& 31)))))), (7, .int (bI true)), (9, .int (nI pp)), (0, .ref (ad 0)), (1, .int (nI k)), (2, .int (nI (32 * k))), (3, .long ((wideB (sec dk k) 8))), (5, .int al), (8, .int (nI j))]) hx hb dX3_isWhole_189 hl (by decide) rfl (fun ls hl => ?_)
                                refine lv_iload hx hb dX3_isWhole_191 (lv_at hl 7 rfl) ?_
                                refine lv_aload_n hx hb dX3_isWhole_193 rfl (lv_at hl 3 rfl) ?_
                                refine gx_get C h h0 (Cn := RX3) (T := TX3) (N := 22) rfl in_X3 3 (by decide) q735 rfl rfl dX3_isWhole_194 ?_
                                refine lv_bipush (v := nI 32) hx hb dX3_isWhole_197 (by decide) ?_
                                refine lv_iload hx hb dX3_isWhole_199 (lv_at hl 8 rfl) ?_
                                refine gn_imul hx hb dX3_isWhole_201 ?_
                                refine gc_i (va_runS (As := [.ref (ad 1), .int (nI (32 * j))]) (rest := [.int al]) C.fix (m_X3_number l g w v (ad 1) 2048 fD hD (by omega) (32 * j) (by omega)) (va_cwS 2 hts (lw_S q828 q829 q53 q830) rfl rfl rfl (by decide +kernel) ⟨Nat.le_of_ble_eq_true rfl, Nat.le_of_ble_eq_true rfl⟩) (gp_S C h _) rfl rfl hl.1 rfl (lv_room (Nat.le_of_ble_eq_true rfl)) dX3_isWhole_202 ⟨Nat.le_of_ble_eq_true rfl, Nat.le_of_ble_eq_true rfl⟩) h (fun r_23 w_24 H locs hp h => ?_)
                                obtain ⟨er_r_23, ew_r_23⟩ := hp
                                rw [er_r_23]
                                rw [ew_r_23] at h
                                rw [(br_row (fun i hi => rD j i (by omega) hi)).2.1]
                                refine lv_ixor hx hb dX3_isWhole_205 ?_
                                refine lv_istore (lv' := [(5, .int (al ^^^ ((numB (sec dk j) 0)))), (6, .int (pa ||| (((nI 1) <<< ((nI pp &&& 31)))))), (7, .int (bI true)), (9, .int (nI pp)), (0, .ref (ad 0)), (1, .int (nI k)), (2, .int (nI (32 * k))), (3, .long ((wideB (sec dk k) 8))), (8, .int (nI j))]) hx hb dX3_isWhole_206 hl (by decide) rfl (fun ls hl => ?_)
                                refine lv_iinc (v := nI (j + 1)) (lv' := [(8, .int (nI (j + 1))), (5, .int (al ^^^ ((numB (sec dk j) 0)))), (6, .int (pa ||| (((nI 1) <<< ((nI pp &&& 31)))))), (7, .int (bI true)), (9, .int (nI pp)), (0, .ref (ad 0)), (1, .int (nI k)), (2, .int (nI (32 * k))), (3, .long ((wideB (sec dk k) 8)))]) hx hb dX3_isWhole_208 hl (k := 8) rfl (gi_inc _ 1) (by decide) rfl (fun ls hl => ?_)
                                refine lv_goto (tgt := 55) hx hb dX3_isWhole_211 (by decide) ?_
                                exact ih (j + 1) _ _ (va_up P pp true) _ _ _ _ (by omega) (by omega) (by rw [whG_ok hG_ hbit hok, hpc]) (bit32_set hpp30 hpa) rfl h (lv_sub hl [5, 6, 7, 8, 1, 2, 3, 0] rfl)
              · skip
                have hbit : bitL (wideB (sec dk k) 8) j = false := bitL_eq0 c5
                refine lv_goto (tgt := 208) hx hb dX3_isWhole_78 (by decide) ?_
                refine lv_iinc (v := nI (j + 1)) (lv' := [(8, .int (nI (j + 1))), (0, .ref (ad 0)), (1, .int (nI k)), (2, .int (nI (32 * k))), (3, .long ((wideB (sec dk k) 8))), (5, .int al), (6, .int pa), (7, .int (bI true))]) hx hb dX3_isWhole_208 hl (k := 7) rfl (gi_inc _ 1) (by decide) rfl (fun ls hl => ?_)
                refine lv_goto (tgt := 55) hx hb dX3_isWhole_211 (by decide) ?_
                exact ih (j + 1) al pa P _ _ _ _ (by omega) (by omega) (by rw [whG_skip hG_ hbit]) hpa rfl h (lv_sub hl [1, 2, 3, 4, 5, 6, 7, 0] rfl)
      exact loop 65 0 (nI 0) (nI 0) (fun _ => false) w _ _ _ (by omega) (by omega) rfl (fun p hp => bit32_0 (by omega)) rfl h (lv_sub hl [6, 7, 5, 4, 3, 2, 1, 0] rfl)
    · skip
      have c2 : rightB (sec dk k) = false := bI_eq0.mp c2
      refine lv_iconst (v := bI false) hx hb dX3_isWhole_29 (by decide) ?_
      exact gr_i C h (ty := .boolean) rfl (bI_n _) (⟨by unfold wholeF; rw [if_neg (fun q => by have := q.2; rw [c2] at this; cases this)]; rfl, rfl⟩) (Nat.le_of_ble_eq_true rfl) (Nat.le_of_ble_eq_true rfl) dX3_isWhole_30
set_option maxHeartbeats 4000000 in
theorem m_X3_start (l : Launch) (g : GG) (w v : GW) (ad : Nat → Nat) (N cn : Nat) (ru fu ch : Bool) (dk : Sec) (wt : List (Nat × Sec)) (ld : Nat → Option Sec) (pl : Nat → Option Nat) (st kp : List (Int32 × Int64)) (hR : RM g w ad N (cn, ru, fu, ch, dk, wt, ld, pl, st, kp)) (hI : InvK (cn, ru, fu, ch, dk, wt, ld, pl, st, kp)) (hN : N < 64)  : Met l yX3_start (ws_ yX3_start cX3_start 7 (some .int)) ({ frames := 4, cells := 0, slots := 0, locals := 240 } : Room) (gP g [.ref (ad 0)] w v) (va_Qi (fun (r : Int32) (w' : GW) => r = (opStart (cn, ru, fu, ch, dk, wt, ld, pl, st, kp)).1 ∧ RM g w' ad (N + 1) (opStart (cn, ru, fu, ch, dk, wt, ld, pl, st, kp)).2) (gB g v) (gA g)) 0 0 (gA g) := by
  refine gm_of (by decide) (Nat.le_of_ble_eq_true rfl) ?_
  intro p e s m below meth c ls C hnm h hl
  have C : Cx g p s m ([.ref (ad 0)] : List Value).toArray meth c cX3_start 7 RX3 (some .int) := C
  obtain ⟨hx, hb, hml, hown, hts, hr, hlk, hG⟩ := id C
  have hl : lv_has ls 7 [(0, .ref (ad 0))] := hl
  obtain ⟨th, fi, be, ne, ke, fD, fL, fO, z, fP, fT, fY, fN, fS, fKn, fK, fH, hM, r1, r2, r3, r4, r5, r6, r7, r8, r9, r10, r11, r12, r13⟩ := id hR
  obtain ⟨i1, i2, i3, i4, i5, i6, i7, i8, i9⟩ := id hI
  have hfb : fi ≤ be ∧ be ≤ 1200 := by omega
  have hne : ne < 1200 := by omega
  have hke : ke ≤ 4 := by omega
  have hcn : 2 ≤ cn ∧ cn ≤ 64 := by omega
  have hhel : ∀ k, k < 64 → heM fP fT fS fK fi be ne ke k = hel wt pl st kp k := fun k hk => br_hel i1.2 i2 i4 r5 r6 r7 r8 r9 r10 r11 hk
  have hKe := br_frS hcn hhel
  have hpl : ∀ q, q < 30 → fP q = -1 ∨ ∃ kk : Nat, kk < 64 ∧ fP q = nI kk := fun q hq => br_pls i1.2 i2 r5 hq
  obtain ⟨hinj, m0, m1, m2, m3, m4, m5, m6, m7, m8, m9, m10, m11, m12⟩ := id hM
  have rD : ∀ k i, k < 64 → i < 32 → fD (32 * k + i) = ub (sec dk k i) := fun k i hk hi => by rw [r1 _ (by omega), sec_at hi]
  refine lv_aload_n hx hb dX3_start_0 rfl (lv_at hl 0 rfl) ?_
  refine gx_get C h m0 (Cn := RX3) (T := TX3) (N := 22) rfl in_X3 1 (by decide) q733 rfl rfl dX3_start_1 ?_
  refine lv_if_eq (tgt := 10) hx hb dX3_start_4 (by decide) (fun c1 => ?_) (fun c1 => ?_)
  · skip
    have c1 : ru = false := bI_eq0.mp c1
    refine lv_aload_n hx hb dX3_start_10 rfl (lv_at hl 0 rfl) ?_
    refine lv_iconst (v := nI 0) hx hb dX3_start_11 (by decide) ?_
    refine gc_i (va_runV (As := [.int (nI 0)]) (rest := []) C.fix (m_X3_isWhole l g w v ad cn ru fu ch th fi be ne ke m0 fD m1 dk 0 (by omega) hcn r1) (cwV 1 hts (lw_V q905 q907 qs40 q53 q908) rfl rfl rfl (by decide +kernel) ⟨Nat.le_of_ble_eq_true rfl, Nat.le_of_ble_eq_true rfl⟩) (gp_V C h [.int (nI 0)] (Cn := RX3) (T := TX3) (N := 22) rfl m0) rfl rfl hl.1 rfl (lv_room (Nat.le_of_ble_eq_true rfl)) dX3_start_12 ⟨Nat.le_of_ble_eq_true rfl, Nat.le_of_ble_eq_true rfl⟩) h (fun r_1 w_2 H locs hp h => ?_)
    obtain ⟨er_r_1, ew_r_1⟩ := hp
    rw [er_r_1]
    rw [ew_r_1] at h
    refine lv_istore_n (lv' := [(1, .int (bI ((wholeF cn dk 0).isSome))), (0, .ref (ad 0))]) hx hb dX3_start_15 rfl hl (by decide) rfl (fun ls hl => ?_)
    refine lv_aload_n hx hb dX3_start_16 rfl (lv_at hl 1 rfl) ?_
    refine lv_iconst (v := nI 1) hx hb dX3_start_17 (by decide) ?_
    refine gc_i (va_runV (As := [.int (nI 1)]) (rest := []) C.fix (m_X3_isWhole l g w v ad cn ru fu ch th fi be ne ke m0 fD m1 dk 1 (by omega) hcn r1) (cwV 1 hts (lw_V q905 q907 qs40 q53 q908) rfl rfl rfl (by decide +kernel) ⟨Nat.le_of_ble_eq_true rfl, Nat.le_of_ble_eq_true rfl⟩) (gp_V C h [.int (nI 1)] (Cn := RX3) (T := TX3) (N := 22) rfl m0) rfl rfl hl.1 rfl (lv_room (Nat.le_of_ble_eq_true rfl)) dX3_start_18 ⟨Nat.le_of_ble_eq_true rfl, Nat.le_of_ble_eq_true rfl⟩) h (fun r_3 w_4 H locs hp h => ?_)
    obtain ⟨er_r_3, ew_r_3⟩ := hp
    rw [er_r_3]
    rw [ew_r_3] at h
    refine lv_istore_n (lv' := [(2, .int (bI ((wholeF cn dk 1).isSome))), (1, .int (bI ((wholeF cn dk 0).isSome))), (0, .ref (ad 0))]) hx hb dX3_start_21 rfl hl (by decide) rfl (fun ls hl => ?_)
    refine lv_aload_n hx hb dX3_start_22 rfl (lv_at hl 2 rfl) ?_
    refine gx_get C h m0 (Cn := RX3) (T := TX3) (N := 22) rfl in_X3 3 (by decide) q735 rfl rfl dX3_start_23 ?_
    refine lv_bipush (v := nI 16) hx hb dX3_start_26 (by decide) ?_
    refine gc_i (va_runS (As := [.ref (ad 1), .int (nI 16)]) (rest := []) C.fix (m_X3_number l g w v (ad 1) 2048 fD m1 (by omega) 16 (by omega)) (va_cwS 2 hts (lw_S q828 q829 q53 q830) rfl rfl rfl (by decide +kernel) ⟨Nat.le_of_ble_eq_true rfl, Nat.le_of_ble_eq_true rfl⟩) (gp_S C h _) rfl rfl hl.1 rfl (lv_room (Nat.le_of_ble_eq_true rfl)) dX3_start_28 ⟨Nat.le_of_ble_eq_true rfl, Nat.le_of_ble_eq_true rfl⟩) h (fun r_5 w_6 H locs hp h => ?_)
    obtain ⟨er_r_5, ew_r_5⟩ := hp
    rw [er_r_5]
    rw [ew_r_5] at h
    rw [show numI fD 16 = numB (sec dk 0) 16 from br_num (k := 0) (a := 16) (fun i hi => rD 0 i (by omega) hi) (by omega)]
    refine lv_istore_n (lv' := [(3, .int (numB (sec dk 0) 16)), (2, .int (bI ((wholeF cn dk 1).isSome))), (1, .int (bI ((wholeF cn dk 0).isSome))), (0, .ref (ad 0))]) hx hb dX3_start_31 rfl hl (by decide) rfl (fun ls hl => ?_)
    refine lv_aload_n hx hb dX3_start_32 rfl (lv_at hl 3 rfl) ?_
    refine gx_get C h m0 (Cn := RX3) (T := TX3) (N := 22) rfl in_X3 3 (by decide) q735 rfl rfl dX3_start_33 ?_
    refine lv_bipush (v := nI 48) hx hb dX3_start_36 (by decide) ?_
    refine gc_i (va_runS (As := [.ref (ad 1), .int (nI 48)]) (rest := []) C.fix (m_X3_number l g w v (ad 1) 2048 fD m1 (by omega) 48 (by omega)) (va_cwS 2 hts (lw_S q828 q829 q53 q830) rfl rfl rfl (by decide +kernel) ⟨Nat.le_of_ble_eq_true rfl, Nat.le_of_ble_eq_true rfl⟩) (gp_S C h _) rfl rfl hl.1 rfl (lv_room (Nat.le_of_ble_eq_true rfl)) dX3_start_38 ⟨Nat.le_of_ble_eq_true rfl, Nat.le_of_ble_eq_true rfl⟩) h (fun r_7 w_8 H locs hp h => ?_)
    obtain ⟨er_r_7, ew_r_7⟩ := hp
    rw [er_r_7]
    rw [ew_r_7] at h
    rw [show numI fD 48 = numB (sec dk 1) 16 from br_num (k := 1) (a := 16) (fun i hi => rD 1 i (by omega) hi) (by omega)]
    refine lv_istore (lv' := [(4, .int (numB (sec dk 1) 16)), (3, .int (numB (sec dk 0) 16)), (2, .int (bI ((wholeF cn dk 1).isSome))), (1, .int (bI ((wholeF cn dk 0).isSome))), (0, .ref (ad 0))]) hx hb dX3_start_41 hl (by decide) rfl (fun ls hl => ?_)
    have loop : ∀ (n_ : Nat) (i : Nat) (x : Int32) (y : Int64) (fL' : Nat → Int32) (z' : Nat → Bool) (fP' : Nat → Int32) (w1 : GW) (H : Heap) (locs : List Loc) (ls : Array Slot), 64 - i < n_ → (i ≤ 64) → ((x, y) = (pickS (wholeF cn dk 0) (wholeF cn dk 1)).getD (0, 0)) → (∀ j, j < 64 → bitL y j = true → ub (sec dk j 5) < nI 30) → (∀ q, q < 64 → z' q = false) → (∀ q, q < 2048 → fL' q = fD q) → (∀ p, p < 30 → fP' p = plI (plS dk y i p)) → (MW g w1 ad cn true fu false th 0 0 0 0 fD fL' fO z' fP' fT fY (upd fN 0 x) (vp_updL fS 0 y) fKn fK fH) → SH g w1 v s H locs → lv_has ls 7 [(0, .ref (ad 0)), (6, .int (nI i))] → W p l e ({ frames := 4, cells := 0, slots := 0, locals := 240 } : Room) s m ([.ref (ad 0)] : List Value).toArray below meth c H locs 0 0 (MQ below (va_Qi (fun (r : Int32) (w' : GW) => r = (opStart (cn, ru, fu, ch, dk, wt, ld, pl, st, kp)).1 ∧ RM g w' ad (N + 1) (opStart (cn, ru, fu, ch, dk, wt, ld, pl, st, kp)).2) (gB g v) (gA g)) ([.ref (ad 0)] : List Value).toArray s 0 0 (gA g)) (F0 m 134 ls []) := by
      intro n_
      induction n_ with
      | zero => intros; exact absurd ‹_ < 0› (Nat.not_lt_zero _)
      | succ n_ ih =>
        intro i x y fL' z' fP' w1 H locs ls hf hi hxy hpg q2 q3 q1 hM1  h hl
        obtain ⟨hinj, g0, g1, g2, g3, g4, g5, g6, g7, g8, g9, g10, g11, g12⟩ := id hM1
        refine lv_iload hx hb dX3_start_134 (lv_at hl 1 rfl) ?_
        refine lv_bipush (v := nI 64) hx hb dX3_start_136 (by decide) ?_
        refine lv_icmp_ge (tgt := 185) hx hb dX3_start_138 (by decide) (fun c3 => ?_) (fun c3 => ?_)
        · skip
          have c3 : 64 ≤ i := (nI_leI (by omega) (by omega)).mp c3
          have hie : i = 64 := by omega
          rw [hie] at q1
          refine lv_aload_n hx hb dX3_start_185 rfl (lv_at hl 0 rfl) ?_
          refine gx_get C h g0 (Cn := RX3) (T := TX3) (N := 22) rfl in_X3 13 (by decide) q745 rfl rfl dX3_start_186 ?_
          refine lv_aload_n hx hb dX3_start_189 rfl (lv_at hl 0 rfl) ?_
          refine gx_get C h g0 (Cn := RX3) (T := TX3) (N := 22) rfl in_X3 16 (by decide) q748 rfl rfl dX3_start_190 ?_
          refine gx_iald C h g8 0 (rfl) (by omega) dX3_start_193 ?_
          rw [show upd fN 0 x 0 = x by unfold upd; rw [if_pos rfl]]
          have eq : opStart (cn, ru, fu, ch, dk, wt, ld, pl, st, kp) = (x, (cn, true, fu, false, dk, [], fun _ => none, plS dk y 64, [(x, y)], [])) := by unfold opStart; dsimp only; rw [if_neg (show ¬ ru = true by rw [c1]; decide), ← hxy]
          exact gr_i C h (ty := .int) rfl (rfl) (by rw [eq]; exact ⟨rfl, start_rm hM1 r1 q1 q2 q3⟩) (Nat.le_of_ble_eq_true rfl) (Nat.le_of_ble_eq_true rfl) dX3_start_194
        · skip
          have c3 : ¬ (64 ≤ i) := fun q => c3 ((nI_leI (by omega) (by omega)).mpr q)
          refine lv_aload_n hx hb dX3_start_141 rfl (lv_at hl 0 rfl) ?_
          refine gx_get C h g0 (Cn := RX3) (T := TX3) (N := 22) rfl in_X3 14 (by decide) q746 rfl rfl dX3_start_142 ?_
          refine lv_aload_n hx hb dX3_start_145 rfl (lv_at hl 0 rfl) ?_
          refine gx_get C h g0 (Cn := RX3) (T := TX3) (N := 22) rfl in_X3 16 (by decide) q748 rfl rfl dX3_start_146 ?_
          refine gx_lald C h g9 0 (rfl) (by omega) dX3_start_149 ?_
          rw [show vp_updL fS 0 y 0 = y by unfold vp_updL; rw [if_pos rfl]]
          refine lv_iload hx hb dX3_start_150 (lv_at hl 1 rfl) ?_
          refine lv_lshr hx hb dX3_start_152 rfl ?_
          refine lv_lconst (v := 1) hx hb dX3_start_153 (by decide) ?_
          refine lv_land hx hb dX3_start_154 ?_
          refine lv_lconst (v := 1) hx hb dX3_start_155 (by decide) ?_
          refine W.lcmp hx hb dX3_start_156 ?_
          refine lv_if_ne (tgt := 179) hx hb dX3_start_157 (by decide) (fun c4 => ?_) (fun c4 => ?_)
          · skip
            have hbf : bitL y i = false := bitL_f c4
            refine lv_iinc (v := nI (i + 1)) (lv' := [(6, .int (nI (i + 1))), (0, .ref (ad 0))]) hx hb dX3_start_179 hl (k := 1) rfl (gi_inc _ 1) (by decide) rfl (fun ls hl => ?_)
            refine lv_goto (tgt := 134) hx hb dX3_start_182 (by decide) ?_
            exact ih (i + 1) x y fL' z' fP' _ _ _ _ (by omega) (by omega) hxy hpg q2 q3 (by rw [plS_f hbf]; exact q1) hM1 h (lv_sub hl [1, 0] rfl)
          · skip
            have hbt : bitL y i = true := bitL_t c4
            obtain ⟨pp, hpp, hpv⟩ := ub_lt (sec dk i 5)
            have hp30 : pp < 30 := by have := hpg i (by omega) hbt; rw [hpv] at this; exact (nI_ltI (by omega) (by omega)).mp this
            have hpc : (ub (sec dk i 5)).toNatClampNeg = pp := by rw [hpv]; exact nI_clamp (by omega)
            refine lv_aload_n hx hb dX3_start_160 rfl (lv_at hl 0 rfl) ?_
            refine gx_get C h g0 (Cn := RX3) (T := TX3) (N := 22) rfl in_X3 7 (by decide) q739 rfl rfl dX3_start_161 ?_
            refine lv_aload_n hx hb dX3_start_164 rfl (lv_at hl 0 rfl) ?_
            refine gx_get C h g0 (Cn := RX3) (T := TX3) (N := 22) rfl in_X3 3 (by decide) q735 rfl rfl dX3_start_165 ?_
            refine lv_bipush (v := nI 32) hx hb dX3_start_168 (by decide) ?_
            refine lv_iload hx hb dX3_start_170 (lv_at hl 1 rfl) ?_
            refine gn_imul hx hb dX3_start_172 ?_
            refine lv_iconst (v := nI 5) hx hb dX3_start_173 (by decide) ?_
            refine gn_iadd hx hb dX3_start_174 ?_
            refine gx_iald C h g1 ((32 * i) + 5) (rfl) (by omega) dX3_start_175 ?_
            rw [rD i 5 (by omega) (by omega), hpv]
            refine lv_iload hx hb dX3_start_176 (lv_at hl 1 rfl) ?_
            refine gx_iast C h g5 pp (rfl) (by omega) dX3_start_178 (fun H locs h => ?_)
            obtain ⟨w_9, ew_9⟩ : ∃ z_ : GW, z_ = gu w1 (ad 5) (eI g 30 (upd fP' pp (nI i))) := ⟨_, rfl⟩
            have h : SH g w_9 v s H locs := by rw [ew_9]; exact h
            have f_10 : w_9 (ad 0) = some (ob 4 [.int (nI cn), .int (bI true), .int (bI fu), .ref (ad 1), .ref (ad 2), .ref (ad 3), .ref (ad 4), .ref (ad 5), .int (bI false), .ref (ad 6), .ref (ad 7), .int (nI 0), .int (nI 0), .ref (ad 8), .ref (ad 9), .int (nI 0), .int (nI 0), .ref (ad 10), .ref (ad 11), .int (nI 0), .int (bI th), .ref (ad 12)]) := by rw [ew_9]; exact (gu_n (fun q => absurd (hinj 0 5 (by decide) (by decide) q) (by decide))).trans g0
            have f_11 : w_9 (ad 1) = some (eI g 2048 fD) := by rw [ew_9]; exact (gu_n (fun q => absurd (hinj 1 5 (by decide) (by decide) q) (by decide))).trans g1
            have f_12 : w_9 (ad 2) = some (eI g 2048 fL') := by rw [ew_9]; exact (gu_n (fun q => absurd (hinj 2 5 (by decide) (by decide) q) (by decide))).trans g2
            have f_13 : w_9 (ad 3) = some (eI g 2048 fO) := by rw [ew_9]; exact (gu_n (fun q => absurd (hinj 3 5 (by decide) (by decide) q) (by decide))).trans g3
            have f_14 : w_9 (ad 4) = some (eZ g 64 z') := by rw [ew_9]; exact (gu_n (fun q => absurd (hinj 4 5 (by decide) (by decide) q) (by decide))).trans g4
            have f_15 : w_9 (ad 5) = some (eI g 30 (upd fP' pp (nI i))) := by rw [ew_9]; exact gu_s
            have f_16 : w_9 (ad 6) = some (eI g 1200 fT) := by rw [ew_9]; exact (gu_n (fun q => absurd (hinj 6 5 (by decide) (by decide) q) (by decide))).trans g6
            have f_17 : w_9 (ad 7) = some (eI g 38400 fY) := by rw [ew_9]; exact (gu_n (fun q => absurd (hinj 7 5 (by decide) (by decide) q) (by decide))).trans g7
            have f_18 : w_9 (ad 8) = some (eI g 1200 (upd fN 0 x)) := by rw [ew_9]; exact (gu_n (fun q => absurd (hinj 8 5 (by decide) (by decide) q) (by decide))).trans g8
            have f_19 : w_9 (ad 9) = some (eL g 1200 (vp_updL fS 0 y)) := by rw [ew_9]; exact (gu_n (fun q => absurd (hinj 9 5 (by decide) (by decide) q) (by decide))).trans g9
            have f_20 : w_9 (ad 10) = some (eI g 4 fKn) := by rw [ew_9]; exact (gu_n (fun q => absurd (hinj 10 5 (by decide) (by decide) q) (by decide))).trans g10
            have f_21 : w_9 (ad 11) = some (eL g 4 fK) := by rw [ew_9]; exact (gu_n (fun q => absurd (hinj 11 5 (by decide) (by decide) q) (by decide))).trans g11
            have f_22 : w_9 (ad 12) = some (eI g 32 fH) := by rw [ew_9]; exact (gu_n (fun q => absurd (hinj 12 5 (by decide) (by decide) q) (by decide))).trans g12
            refine lv_iinc (v := nI (i + 1)) (lv' := [(6, .int (nI (i + 1))), (0, .ref (ad 0))]) hx hb dX3_start_179 hl (k := 1) rfl (gi_inc _ 1) (by decide) rfl (fun ls hl => ?_)
            refine lv_goto (tgt := 134) hx hb dX3_start_182 (by decide) ?_
            have hM3 : MW g w_9 ad cn true fu false th 0 0 0 0 fD fL' fO z' (upd fP' pp (nI i)) fT fY (upd fN 0 x) (vp_updL fS 0 y) fKn fK fH := ⟨hinj, f_10, f_11, f_12, f_13, f_14, f_15, f_16, f_17, f_18, f_19, f_20, f_21, f_22⟩
            exact ih (i + 1) x y fL' z' (upd fP' pp (nI i)) _ _ _ _ (by omega) (by omega) hxy hpg q2 q3 (by rw [plS_t hbt, hpc]; exact plS_up q1) hM3 h (lv_sub hl [1, 0] rfl)
    have cont : ∀ (x : Int32) (y : Int64) (H : Heap) (locs : List Loc) (ls : Array Slot), (x, y) = (pickS (wholeF cn dk 0) (wholeF cn dk 1)).getD (0, 0) → SH g w v s H locs → lv_has ls 7 [(0, .ref (ad 0))] → W p l e ({ frames := 4, cells := 0, slots := 0, locals := 240 } : Room) s m ([.ref (ad 0)] : List Value).toArray below meth c H locs 0 0 (MQ below (va_Qi (fun (r : Int32) (w' : GW) => r = (opStart (cn, ru, fu, ch, dk, wt, ld, pl, st, kp)).1 ∧ RM g w' ad (N + 1) (opStart (cn, ru, fu, ch, dk, wt, ld, pl, st, kp)).2) (gB g v) (gA g)) ([.ref (ad 0)] : List Value).toArray s 0 0 (gA g)) (F0 m 123 ls [.long y, .int x, .ref (ad 0)]) := by
      intro x y H locs ls hxy h hl
      refine gc_v (va_runV (As := [.int x, .long y]) (rest := []) C.fix (m_X3_begin l g w v ad cn ru fu ch th fi be ne ke fD fL fO z fP fT fY fN fS fKn fK fH hM x y) (cwV 2 hts (lw_V q728 q730 qs26 q53 q731) rfl rfl rfl (by decide +kernel) ⟨Nat.le_of_ble_eq_true rfl, Nat.le_of_ble_eq_true rfl⟩) (gp_V C h [.int x, .long y] (Cn := RX3) (T := TX3) (N := 22) rfl m0) rfl rfl hl.1 rfl (lv_room (Nat.le_of_ble_eq_true rfl)) dX3_start_123 ⟨Nat.le_of_ble_eq_true rfl, Nat.le_of_ble_eq_true rfl⟩) h (fun w_24 H locs hp h => ?_)
      obtain ⟨fL', z', fP', hM3, q1, q2, q3⟩ := hp
      obtain ⟨hinj, b0, b1, b2, b3, b4, b5, b6, b7, b8, b9, b10, b11, b12⟩ := id hM3
      refine lv_aload_n hx hb dX3_start_126 rfl (lv_at hl 0 rfl) ?_
      refine lv_iconst (v := bI true) hx hb dX3_start_127 (by decide) ?_
      refine gx_put C h b0 (Cn := RX3) (T := TX3) (N := 22) (x := .int (bI true)) rfl in_X3 tyX3 tyX3_ok nmX3 1 (by decide) q733 rfl rfl (bI_n _) (bI_f _) (Nat.le_of_ble_eq_true rfl) dX3_start_128 (fun H locs h => ?_)
      obtain ⟨w_25, ew_25⟩ : ∃ z_ : GW, z_ = gu w_24 (ad 0) (ob 4 [.int (nI cn), .int (bI true), .int (bI fu), .ref (ad 1), .ref (ad 2), .ref (ad 3), .ref (ad 4), .ref (ad 5), .int (bI false), .ref (ad 6), .ref (ad 7), .int (nI 0), .int (nI 0), .ref (ad 8), .ref (ad 9), .int (nI 0), .int (nI 0), .ref (ad 10), .ref (ad 11), .int (nI 0), .int (bI th), .ref (ad 12)]) := ⟨_, rfl⟩
      have h : SH g w_25 v s H locs := by rw [ew_25]; exact h
      have f_26 : w_25 (ad 0) = some (ob 4 [.int (nI cn), .int (bI true), .int (bI fu), .ref (ad 1), .ref (ad 2), .ref (ad 3), .ref (ad 4), .ref (ad 5), .int (bI false), .ref (ad 6), .ref (ad 7), .int (nI 0), .int (nI 0), .ref (ad 8), .ref (ad 9), .int (nI 0), .int (nI 0), .ref (ad 10), .ref (ad 11), .int (nI 0), .int (bI th), .ref (ad 12)]) := by rw [ew_25]; exact gu_s
      have f_27 : w_25 (ad 1) = some (eI g 2048 fD) := by rw [ew_25]; exact (gu_n (fun q => absurd (hinj 1 0 (by decide) (by decide) q) (by decide))).trans b1
      have f_28 : w_25 (ad 2) = some (eI g 2048 fL') := by rw [ew_25]; exact (gu_n (fun q => absurd (hinj 2 0 (by decide) (by decide) q) (by decide))).trans b2
      have f_29 : w_25 (ad 3) = some (eI g 2048 fO) := by rw [ew_25]; exact (gu_n (fun q => absurd (hinj 3 0 (by decide) (by decide) q) (by decide))).trans b3
      have f_30 : w_25 (ad 4) = some (eZ g 64 z') := by rw [ew_25]; exact (gu_n (fun q => absurd (hinj 4 0 (by decide) (by decide) q) (by decide))).trans b4
      have f_31 : w_25 (ad 5) = some (eI g 30 fP') := by rw [ew_25]; exact (gu_n (fun q => absurd (hinj 5 0 (by decide) (by decide) q) (by decide))).trans b5
      have f_32 : w_25 (ad 6) = some (eI g 1200 fT) := by rw [ew_25]; exact (gu_n (fun q => absurd (hinj 6 0 (by decide) (by decide) q) (by decide))).trans b6
      have f_33 : w_25 (ad 7) = some (eI g 38400 fY) := by rw [ew_25]; exact (gu_n (fun q => absurd (hinj 7 0 (by decide) (by decide) q) (by decide))).trans b7
      have f_34 : w_25 (ad 8) = some (eI g 1200 (upd fN 0 x)) := by rw [ew_25]; exact (gu_n (fun q => absurd (hinj 8 0 (by decide) (by decide) q) (by decide))).trans b8
      have f_35 : w_25 (ad 9) = some (eL g 1200 (vp_updL fS 0 y)) := by rw [ew_25]; exact (gu_n (fun q => absurd (hinj 9 0 (by decide) (by decide) q) (by decide))).trans b9
      have f_36 : w_25 (ad 10) = some (eI g 4 fKn) := by rw [ew_25]; exact (gu_n (fun q => absurd (hinj 10 0 (by decide) (by decide) q) (by decide))).trans b10
      have f_37 : w_25 (ad 11) = some (eL g 4 fK) := by rw [ew_25]; exact (gu_n (fun q => absurd (hinj 11 0 (by decide) (by decide) q) (by decide))).trans b11
      have f_38 : w_25 (ad 12) = some (eI g 32 fH) := by rw [ew_25]; exact (gu_n (fun q => absurd (hinj 12 0 (by decide) (by decide) q) (by decide))).trans b12
      refine lv_iconst (v := nI 0) hx hb dX3_start_131 (by decide) ?_
      refine lv_istore (lv' := [(6, .int (nI 0)), (0, .ref (ad 0))]) hx hb dX3_start_132 hl (by decide) rfl (fun ls hl => ?_)
      have hM4 : MW g w_25 ad cn true fu false th 0 0 0 0 fD fL' fO z' fP' fT fY (upd fN 0 x) (vp_updL fS 0 y) fKn fK fH := ⟨hinj, f_26, f_27, f_28, f_29, f_30, f_31, f_32, f_33, f_34, f_35, f_36, f_37, f_38⟩
      exact loop 65 0 x y fL' z' fP' _ _ _ _ (by omega) (by omega) hxy (fun j hj hb_ => pick_pg hj (by rw [← hxy]; exact hb_)) q2 q3 (fun p hp => q1 p hp) hM4 h (lv_sub hl [1, 0] rfl)
    have cont2 : ∀ (kv : Int32) (H : Heap) (locs : List Loc) (ls : Array Slot), ((kv = -1 ∧ (pickS (wholeF cn dk 0) (wholeF cn dk 1)).getD (0, 0) = (0, 0)) ∨ ∃ kq : Nat, kq < 2 ∧ kv = nI kq ∧ (pickS (wholeF cn dk 0) (wholeF cn dk 1)).getD (0, 0) = (numB (sec dk kq) 16, wideB (sec dk kq) 8)) → SH g w v s H locs → lv_has ls 7 [(0, .ref (ad 0)), (5, .int kv)] → W p l e ({ frames := 4, cells := 0, slots := 0, locals := 240 } : Room) s m ([.ref (ad 0)] : List Value).toArray below meth c H locs 0 0 (MQ below (va_Qi (fun (r : Int32) (w' : GW) => r = (opStart (cn, ru, fu, ch, dk, wt, ld, pl, st, kp)).1 ∧ RM g w' ad (N + 1) (opStart (cn, ru, fu, ch, dk, wt, ld, pl, st, kp)).2) (gB g v) (gA g)) ([.ref (ad 0)] : List Value).toArray s 0 0 (gA g)) (F0 m 72 ls []) := by
      intro kv H locs ls hkv h hl
      rcases hkv with ⟨hkv, hpk⟩ | ⟨kq, hkq, hkv, hpk⟩
      · skip
        rw [hkv] at hl
        refine lv_aload_n hx hb dX3_start_72 rfl (lv_at hl 0 rfl) ?_
        refine lv_iload hx hb dX3_start_73 (lv_at hl 1 rfl) ?_
        refine lv_iconst (v := (-1)) hx hb dX3_start_75 (by decide) ?_
        refine lv_icmp_ne (tgt := 83) hx hb dX3_start_76 (by decide) (fun c5 => ?_) (fun c5 => ?_)
        · skip
          exact absurd rfl c5
        · skip
          refine lv_iconst (v := (0)) hx hb dX3_start_79 (by decide) ?_
          refine lv_goto (tgt := 98) hx hb dX3_start_80 (by decide) ?_
          refine lv_iload hx hb dX3_start_98 (lv_at hl 1 rfl) ?_
          refine lv_iconst (v := (-1)) hx hb dX3_start_100 (by decide) ?_
          refine lv_icmp_ne (tgt := 108) hx hb dX3_start_101 (by decide) (fun c6 => ?_) (fun c6 => ?_)
          · skip
            exact absurd rfl c6
          · skip
            refine lv_lconst (v := 0) hx hb dX3_start_104 (by decide) ?_
            refine lv_goto (tgt := 123) hx hb dX3_start_105 (by decide) ?_
            exact cont 0 0 _ _ ls hpk.symm h (lv_sub hl [0] rfl)
      · skip
        rw [hkv] at hl
        refine lv_aload_n hx hb dX3_start_72 rfl (lv_at hl 0 rfl) ?_
        refine lv_iload hx hb dX3_start_73 (lv_at hl 1 rfl) ?_
        refine lv_iconst (v := (-1)) hx hb dX3_start_75 (by decide) ?_
        refine lv_icmp_ne (tgt := 83) hx hb dX3_start_76 (by decide) (fun c5 => ?_) (fun c5 => ?_)
        · skip
          refine lv_aload_n hx hb dX3_start_83 rfl (lv_at hl 0 rfl) ?_
          refine gx_get C h m0 (Cn := RX3) (T := TX3) (N := 22) rfl in_X3 3 (by decide) q735 rfl rfl dX3_start_84 ?_
          refine lv_bipush (v := nI 32) hx hb dX3_start_87 (by decide) ?_
          refine lv_iload hx hb dX3_start_89 (lv_at hl 1 rfl) ?_
          refine gn_imul hx hb dX3_start_91 ?_
          refine lv_bipush (v := nI 16) hx hb dX3_start_92 (by decide) ?_
          refine gn_iadd hx hb dX3_start_94 ?_
          refine gc_i (va_runS (As := [.ref (ad 1), .int (nI ((32 * kq) + 16))]) (rest := [.ref (ad 0)]) C.fix (m_X3_number l g w v (ad 1) 2048 fD m1 (by omega) (32 * kq + 16) (by omega)) (va_cwS 2 hts (lw_S q828 q829 q53 q830) rfl rfl rfl (by decide +kernel) ⟨Nat.le_of_ble_eq_true rfl, Nat.le_of_ble_eq_true rfl⟩) (gp_S C h _) rfl rfl hl.1 rfl (lv_room (Nat.le_of_ble_eq_true rfl)) dX3_start_95 ⟨Nat.le_of_ble_eq_true rfl, Nat.le_of_ble_eq_true rfl⟩) h (fun r_39 w_40 H locs hp h => ?_)
          obtain ⟨er_r_39, ew_r_39⟩ := hp
          rw [er_r_39]
          rw [ew_r_39] at h
          rw [br_num (fun i hi => rD kq i (by omega) hi) (by omega)]
          refine lv_iload hx hb dX3_start_98 (lv_at hl 1 rfl) ?_
          refine lv_iconst (v := (-1)) hx hb dX3_start_100 (by decide) ?_
          refine lv_icmp_ne (tgt := 108) hx hb dX3_start_101 (by decide) (fun c6 => ?_) (fun c6 => ?_)
          · skip
            refine lv_aload_n hx hb dX3_start_108 rfl (lv_at hl 0 rfl) ?_
            refine gx_get C h m0 (Cn := RX3) (T := TX3) (N := 22) rfl in_X3 3 (by decide) q735 rfl rfl dX3_start_109 ?_
            refine lv_bipush (v := nI 32) hx hb dX3_start_112 (by decide) ?_
            refine lv_iload hx hb dX3_start_114 (lv_at hl 1 rfl) ?_
            refine gn_imul hx hb dX3_start_116 ?_
            refine lv_bipush (v := nI 8) hx hb dX3_start_117 (by decide) ?_
            refine gn_iadd hx hb dX3_start_119 ?_
            refine gc_l (va_runS (As := [.ref (ad 1), .int (nI ((32 * kq) + 8))]) (rest := [.int (numB (sec dk kq) 16), .ref (ad 0)]) C.fix (m_X3_wide l g w v (ad 1) 2048 fD m1 (by omega) (32 * kq + 8) (by omega)) (va_cwS 2 hts (lw_S q825 q826 q53 q827) rfl rfl rfl (by decide +kernel) ⟨Nat.le_of_ble_eq_true rfl, Nat.le_of_ble_eq_true rfl⟩) (gp_S C h _) rfl rfl hl.1 rfl (lv_room (Nat.le_of_ble_eq_true rfl)) dX3_start_120 ⟨Nat.le_of_ble_eq_true rfl, Nat.le_of_ble_eq_true rfl⟩) h (fun r_41 w_42 H locs hp h => ?_)
            obtain ⟨er_r_41, ew_r_41⟩ := hp
            rw [er_r_41]
            rw [ew_r_41] at h
            rw [(br_row (fun i hi => rD kq i (by omega) hi)).2.2 8 (by omega)]
            exact cont _ _ _ _ ls hpk.symm h (lv_sub hl [0] rfl)
          · skip
            exact absurd c6 (nm1 (by omega))
        · skip
          exact absurd c5 (nm1 (by omega))
    refine lv_iload_n hx hb dX3_start_43 rfl (lv_at hl 3 rfl) ?_
    refine lv_if_eq (tgt := 61) hx hb dX3_start_44 (by decide) (fun c3 => ?_) (fun c3 => ?_)
    · skip
      have c3 : (wholeF cn dk 0).isSome = false := bI_eq0.mp c3
      refine lv_iload_n hx hb dX3_start_61 rfl (lv_at hl 2 rfl) ?_
      refine lv_if_eq (tgt := 69) hx hb dX3_start_62 (by decide) (fun c9 => ?_) (fun c9 => ?_)
      · skip
        have c9 : (wholeF cn dk 1).isSome = false := bI_eq0.mp c9
        refine lv_iconst (v := (-1)) hx hb dX3_start_69 (by decide) ?_
        refine lv_istore (lv' := [(5, .int (-1)), (4, .int (numB (sec dk 1) 16)), (3, .int (numB (sec dk 0) 16)), (2, .int (bI ((wholeF cn dk 1).isSome))), (1, .int (bI ((wholeF cn dk 0).isSome))), (0, .ref (ad 0))]) hx hb dX3_start_70 hl (by decide) rfl (fun ls hl => ?_)
        exact cont2 (-1) _ _ ls (Or.inl ⟨rfl, pkz_nn c3 c9⟩) h (lv_sub hl [5, 0] rfl)
      · skip
        have c9 : (wholeF cn dk 1).isSome = true := bI_ne0.mp c9
        refine lv_iconst (v := nI 1) hx hb dX3_start_65 (by decide) ?_
        refine lv_goto (tgt := 70) hx hb dX3_start_66 (by decide) ?_
        refine lv_istore (lv' := [(5, .int (nI 1)), (4, .int (numB (sec dk 1) 16)), (3, .int (numB (sec dk 0) 16)), (2, .int (bI ((wholeF cn dk 1).isSome))), (1, .int (bI ((wholeF cn dk 0).isSome))), (0, .ref (ad 0))]) hx hb dX3_start_70 hl (by decide) rfl (fun ls hl => ?_)
        exact cont2 (nI 1) _ _ ls (Or.inr ⟨1, by omega, rfl, pkz_ns c3 c9⟩) h (lv_sub hl [5, 0] rfl)
    · skip
      have c3 : (wholeF cn dk 0).isSome = true := bI_ne0.mp c3
      refine lv_iload_n hx hb dX3_start_47 rfl (lv_at hl 2 rfl) ?_
      refine lv_if_eq (tgt := 57) hx hb dX3_start_48 (by decide) (fun c4 => ?_) (fun c4 => ?_)
      · skip
        have c4 : (wholeF cn dk 1).isSome = false := bI_eq0.mp c4
        refine lv_iconst (v := nI 0) hx hb dX3_start_57 (by decide) ?_
        refine lv_goto (tgt := 70) hx hb dX3_start_58 (by decide) ?_
        refine lv_istore (lv' := [(5, .int (nI 0)), (4, .int (numB (sec dk 1) 16)), (3, .int (numB (sec dk 0) 16)), (2, .int (bI ((wholeF cn dk 1).isSome))), (1, .int (bI ((wholeF cn dk 0).isSome))), (0, .ref (ad 0))]) hx hb dX3_start_70 hl (by decide) rfl (fun ls hl => ?_)
        exact cont2 (nI 0) _ _ ls (Or.inr ⟨0, by omega, rfl, pkz_sn c3 c4⟩) h (lv_sub hl [5, 0] rfl)
      · skip
        have c4 : (wholeF cn dk 1).isSome = true := bI_ne0.mp c4
        refine lv_iload_n hx hb dX3_start_51 rfl (lv_at hl 1 rfl) ?_
        refine lv_iload hx hb dX3_start_52 (lv_at hl 0 rfl) ?_
        refine lv_icmp_lt (tgt := 61) hx hb dX3_start_54 (by decide) (fun c5 => ?_) (fun c5 => ?_)
        · skip
          refine lv_iload_n hx hb dX3_start_61 rfl (lv_at hl 2 rfl) ?_
          refine lv_if_eq (tgt := 69) hx hb dX3_start_62 (by decide) (fun c9 => ?_) (fun c9 => ?_)
          · skip
            have c9 : (wholeF cn dk 1).isSome = false := bI_eq0.mp c9
            rw [c4] at c9; cases c9
          · skip
            have c9 : (wholeF cn dk 1).isSome = true := bI_ne0.mp c9
            refine lv_iconst (v := nI 1) hx hb dX3_start_65 (by decide) ?_
            refine lv_goto (tgt := 70) hx hb dX3_start_66 (by decide) ?_
            refine lv_istore (lv' := [(5, .int (nI 1)), (4, .int (numB (sec dk 1) 16)), (3, .int (numB (sec dk 0) 16)), (2, .int (bI ((wholeF cn dk 1).isSome))), (1, .int (bI ((wholeF cn dk 0).isSome))), (0, .ref (ad 0))]) hx hb dX3_start_70 hl (by decide) rfl (fun ls hl => ?_)
            exact cont2 (nI 1) _ _ ls (Or.inr ⟨1, by omega, rfl, pkz_ss2 c3 c4 (Int32.not_le.mpr c5)⟩) h (lv_sub hl [5, 0] rfl)
        · skip
          refine lv_iconst (v := nI 0) hx hb dX3_start_57 (by decide) ?_
          refine lv_goto (tgt := 70) hx hb dX3_start_58 (by decide) ?_
          refine lv_istore (lv' := [(5, .int (nI 0)), (4, .int (numB (sec dk 1) 16)), (3, .int (numB (sec dk 0) 16)), (2, .int (bI ((wholeF cn dk 1).isSome))), (1, .int (bI ((wholeF cn dk 0).isSome))), (0, .ref (ad 0))]) hx hb dX3_start_70 hl (by decide) rfl (fun ls hl => ?_)
          exact cont2 (nI 0) _ _ ls (Or.inr ⟨0, by omega, rfl, pkz_ss1 c3 c4 (Int32.not_lt.mp c5)⟩) h (lv_sub hl [5, 0] rfl)
  · skip
    have c1 : ru = true := bI_ne0.mp c1
    refine lv_bipush (v := (-3)) hx hb dX3_start_7 (by decide) ?_
    have eq : opStart (cn, ru, fu, ch, dk, wt, ld, pl, st, kp) = (-3, (cn, ru, fu, ch, dk, wt, ld, pl, st, kp)) := by unfold opStart; dsimp only; rw [if_pos c1]
    exact gr_i C h (ty := .int) rfl (rfl) (by rw [eq]; exact ⟨rfl, hR.mono⟩) (Nat.le_of_ble_eq_true rfl) (Nat.le_of_ble_eq_true rfl) dX3_start_9
