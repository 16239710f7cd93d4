set_option maxRecDepth 100000
theorem plS_skips {dk : Sec} {s : Int64} {j : Nat} : ∀ m, j ≤ m → (∀ i, j ≤ i → i < m → bitL s i = false) → plS dk s m = plS dk s j := by
  intro m
  induction m with
  | zero => intro hm _; rw [show j = 0 by omega]
  | succ m ih =>
    intro hm hb
    by_cases q : j = m + 1
    · rw [q]
    · rw [plS_f (hb m (by omega) (by omega))]
      exact ih (by omega) (fun i h1 h2 => hb i h1 (by omega))
theorem plS_rng {dk : Sec} {s : Int64} : ∀ (j p k : Nat), plS dk s j p = some k → bitL s k = true ∧ k < j
  | 0, p, k, h => by cases h
  | j + 1, p, k, h => by
    by_cases q : bitL s j = true
    · rw [plS_t q] at h
      unfold va_up at h
      split at h
      · cases h; exact ⟨q, by omega⟩
      · have := plS_rng j p k h; exact ⟨this.1, by omega⟩
    · have q : bitL s j = false := by simpa using q
      rw [plS_f q] at h
      have := plS_rng j p k h
      exact ⟨this.1, by omega⟩
theorem sec_16 {dk : Sec} {k : Nat} : sec dk k 16 = dk (32 * k + 16) := sec_at (by omega)
theorem nn_of_b31 {x : Int32} (h : x.toBitVec.getLsbD 31 = false) : 0 ≤ x := by
  rw [Int32.le_iff_toInt_le]
  have : x.toInt = x.toBitVec.toInt := rfl
  rw [this, BitVec.toInt_eq_msb_cond]
  have hm : x.toBitVec.msb = false := by rw [BitVec.msb_eq_getLsbD_last]; exact h
  rw [hm]
  simp
theorem ub_b31 (b : Int8) : (ub b).toBitVec.getLsbD 31 = false ∧ (ub b <<< (nI 16 &&& 31)).toBitVec.getLsbD 31 = false ∧ (ub b <<< (nI 8 &&& 31)).toBitVec.getLsbD 31 = false := by
  obtain ⟨n, hn, e⟩ := ub_lt b
  rw [e]
  exact (by decide +kernel : ∀ n : Fin 256, (nI n.val).toBitVec.getLsbD 31 = false ∧ (nI n.val <<< (nI 16 &&& 31)).toBitVec.getLsbD 31 = false ∧ (nI n.val <<< (nI 8 &&& 31)).toBitVec.getLsbD 31 = false) ⟨n, hn⟩
theorem numB_nn {f : Sec} {k : Nat} (h : f k = 0) : 0 ≤ numB f k := by
  apply nn_of_b31
  unfold numB numI
  dsimp only
  rw [Int32.toBitVec_or, Int32.toBitVec_or, Int32.toBitVec_or, BitVec.getLsbD_or, BitVec.getLsbD_or, BitVec.getLsbD_or, (ub_b31 _).1, (ub_b31 _).2.1, (ub_b31 _).2.2, h]
  decide
theorem pick_nn {cn : Nat} {dk : Sec} (h : dk 16 = 0 ∧ dk 48 = 0) : 0 ≤ ((pickS (wholeF cn dk 0) (wholeF cn dk 1)).getD (0, 0)).1 := by
  have h0 : ∀ x, wholeF cn dk 0 = some x → 0 ≤ x.1 := fun x hx => by
    rw [(whole_some hx).1]; exact numB_nn (by rw [sec_16]; exact h.1)
  have h1 : ∀ x, wholeF cn dk 1 = some x → 0 ≤ x.1 := fun x hx => by
    rw [(whole_some hx).1]; exact numB_nn (by rw [sec_16]; exact h.2)
  cases hA : wholeF cn dk 0 with
  | none =>
    cases hB : wholeF cn dk 1 with
    | none => exact (by decide : (0 : Int32) ≤ 0)
    | some y => exact h1 y hB
  | some x =>
    cases hB : wholeF cn dk 1 with
    | none => exact h0 x hA
    | some y =>
      show 0 ≤ ((if y.1 ≤ x.1 then some x else some y).getD (0, 0)).1
      split
      · exact h0 x hA
      · exact h1 y hB
theorem inv_startJ {cn : Nat} {fu : Bool} {dk : Sec} {j : Nat} (i1 : 8 ≤ cn ∧ cn ≤ 64) (i5 : dk 16 = 0 ∧ dk 48 = 0) (hj : j ≤ 64) : InvK (cn, true, fu, false, dk, [], (fun _ => none), plS dk ((pickS (wholeF cn dk 0) (wholeF cn dk 1)).getD (0, 0)).2 j, [(pickS (wholeF cn dk 0) (wholeF cn dk 1)).getD (0, 0)], []) := by
  have hb : ∀ i, i < 64 → ¬ (1 < i ∧ i < cn) → bitL ((pickS (wholeF cn dk 0) (wholeF cn dk 1)).getD (0, 0)).2 i = false := by
    intro i hi hn
    cases q : bitL ((pickS (wholeF cn dk 0) (wholeF cn dk 1)).getD (0, 0)).2 i with
    | false => rfl
    | true => exact absurd (pick_sec hi q).1 hn
  refine ⟨i1, fun p k _ hk => ?_, (fun k d q => by cases q), (fun x q => by cases q), i5, by simp, fun x hx => ?_, (fun x q => by cases q), by simp⟩
  · have := plS_rng j p k hk
    have := (pick_sec (by omega) this.1).1
    omega
  · rw [List.mem_singleton.mp hx]
    exact ⟨pick_nn i5, hb 0 (by omega) (by omega), hb 1 (by omega) (by omega)⟩
