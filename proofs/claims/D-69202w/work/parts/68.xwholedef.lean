set_option maxRecDepth 100000
/-! the walk over a state's bits -/
theorem whG_skips {cn : Nat} {dk : Sec} {s : Int64} {j : Nat} {r : (Nat → Bool) × Int32} (h : whG cn dk s j = some r) : ∀ m, j ≤ m → (∀ i, j ≤ i → i < m → bitL s i = false) → whG cn dk s m = some r := by
  intro m
  induction m with
  | zero => intro hm _; rw [show (0 : Nat) = j by omega]; exact h
  | succ m ih =>
    intro hm hb
    by_cases q : j = m + 1
    · rw [← q]; exact h
    · obtain ⟨P, a⟩ := r
      exact whG_skip (ih (by omega) (fun i h1 h2 => hb i h1 (by omega))) (hb m (by omega) (by omega))
theorem whG_out {cn : Nat} {dk : Sec} {s : Int64} {j : Nat} (hj : j < 64) (hb : bitL s j = true) (hn : ¬ (1 < j ∧ j < cn)) : whG cn dk s 64 = none := by
  apply whG_none (j := j + 1) _ 64 (by omega)
  cases h : whG cn dk s j with
  | none => exact whG_none h _ (by omega)
  | some r =>
    obtain ⟨P, a⟩ := r
    exact whG_bad h hb (fun q => hn ⟨q.1, q.2.1⟩)
theorem low_bit {x : Int64} (h : ¬ x = 0) : ∃ cb, cb < 64 ∧ bitL x cb = true ∧ ∀ i, i < cb → bitL x i = false := by
  have hl := lf_spec (fun i => !(bitL x i)) 64 0
  have hall : ∀ n i, (∀ k, i ≤ k → k < lf (fun i => !(bitL x i)) n i → bitL x k = false) := by
    intro n
    induction n with
    | zero => intro i k h1 h2; simp [lf] at h2; omega
    | succ n ih =>
      intro i k h1 h2
      unfold lf at h2
      split at h2
      · rename_i q
        by_cases e : k = i
        · rw [e]; simpa using q
        · exact ih (i + 1) k (by omega) h2
      · omega
  by_cases c : lf (fun i => !(bitL x i)) 64 0 < 64
  · have := hl.2.2 (by omega)
    exact ⟨_, c, by simpa using this, fun i hi => hall 64 0 i (by omega) hi⟩
  · exfalso
    apply h
    apply bitL_ext
    intro k hk
    rw [bitL_0 hk]
    exact hall 64 0 k (by omega) (by omega)
theorem bitL_pred {x : Int64} {cb : Nat} (hc : cb < 64) (h1 : bitL x cb = true) (h2 : ∀ i, i < cb → bitL x i = false) {i : Nat} (hi : i < 64) : bitL (x &&& (x - 1)) i = (decide (cb < i) && bitL x i) := by
  rw [bitL_and _ _ hi, bitL_bv (x - 1) hi]
  have e : (x - 1).toBitVec = x.toBitVec - 1#64 := rfl
  rw [e, bv_pred x.toBitVec hc (by rw [← bitL_bv x hc]; exact h1) (fun j hj => by rw [← bitL_bv x (by omega)]; exact h2 j hj) i hi, ← bitL_bv x hi]
  by_cases q : i < cb
  · rw [h2 i q]; simp
  · rw [decide_eq_false q]
    cases bitL x i <;> simp
theorem and3_bits {s : Int64} : (s &&& 3 = 0) ↔ (bitL s 0 = false ∧ bitL s 1 = false) := by
  have e : ∀ k, k < 64 → bitL 3 k = decide (k < 2) := by
    intro k hk
    rw [bitL_bv _ hk]
    exact (by decide +kernel : ∀ k : Fin 64, (3 : Int64).toBitVec.getLsbD k.val = decide (k.val < 2)) ⟨k, hk⟩
  constructor
  · intro h
    have h0 : bitL (s &&& 3) 0 = false := by rw [h]; exact bitL_0 (by omega)
    have h1 : bitL (s &&& 3) 1 = false := by rw [h]; exact bitL_0 (by omega)
    rw [bitL_and _ _ (by omega), e _ (by omega)] at h0 h1
    simp at h0 h1
    exact ⟨h0, h1⟩
  · rintro ⟨h0, h1⟩
    apply bitL_ext
    intro k hk
    rw [bitL_and _ _ hk, e k hk, bitL_0 hk]
    by_cases q : k < 2
    · rcases (show k = 0 ∨ k = 1 by omega) with z | z <;> subst z <;> simp [h0, h1]
    · simp [q]
theorem shr_bits {s : Int64} {cn : Nat} (hc : cn < 64) : ((s.toUInt64 >>> ((nI cn).toInt64.toUInt64 &&& Int64.toUInt64 63)).toInt64 = 0) ↔ ∀ k, cn ≤ k → k < 64 → bitL s k = false := by
  have ek : (((nI cn).toInt64.toUInt64 &&& Int64.toUInt64 63) % 64).toBitVec = BitVec.ofNat 64 cn := (by decide +kernel : ∀ c : Fin 64, (((nI c.val).toInt64.toUInt64 &&& Int64.toUInt64 63) % 64).toBitVec = BitVec.ofNat 64 c.val) ⟨cn, hc⟩
  have e : ∀ k, k < 64 → bitL (s.toUInt64 >>> ((nI cn).toInt64.toUInt64 &&& Int64.toUInt64 63)).toInt64 k = s.toBitVec.getLsbD (cn + k) := by
    intro k hk
    rw [bitL_bv _ hk]
    show (s.toBitVec >>> ((((nI cn).toInt64.toUInt64 &&& Int64.toUInt64 63) % 64).toBitVec)).getLsbD k = _
    rw [ek, BitVec.ushiftRight_eq', BitVec.getLsbD_ushiftRight, BitVec.toNat_ofNat, Nat.mod_eq_of_lt (by omega)]
  constructor
  · intro h k h1 h2
    have := e (k - cn) (by omega)
    rw [h, bitL_0 (by omega), show cn + (k - cn) = k by omega] at this
    rw [bitL_bv _ h2]
    exact this.symm
  · intro h
    apply bitL_ext
    intro k hk
    rw [e k hk, bitL_0 hk]
    by_cases q : cn + k < 64
    · rw [← bitL_bv s q]; exact h _ (by omega) q
    · exact BitVec.getLsbD_of_ge _ _ (by omega)
