set_option maxRecDepth 100000
theorem sh_amt : ∀ k : Fin 64, (((nI k.val).toInt64 &&& 63).toBitVec.smod 64) = BitVec.ofNat 64 k.val := by decide +kernel
theorem sh_amtn {k : Nat} (hk : k < 64) : (((nI k).toInt64 &&& 63).toBitVec.smod 64).toNat = k := by
  rw [sh_amt ⟨k, hk⟩]
  simp
  omega
theorem and1_iff (y : Int64) : (y &&& 1 = 1) ↔ y.toBitVec.getLsbD 0 = true := by
  constructor
  · intro h
    have : (y &&& 1).toBitVec.getLsbD 0 = (1 : Int64).toBitVec.getLsbD 0 := by rw [h]
    rw [Int64.toBitVec_and, BitVec.getLsbD_and] at this
    have e : (1 : Int64).toBitVec.getLsbD 0 = true := by decide
    rw [e, Bool.and_true] at this
    exact this
  · intro h
    rcases and1_cases y with q | q
    · have : (y &&& 1).toBitVec.getLsbD 0 = (0 : Int64).toBitVec.getLsbD 0 := by rw [q]
      rw [Int64.toBitVec_and, BitVec.getLsbD_and, h] at this
      exact absurd this (by decide)
    · exact q
theorem bitL_bv (x : Int64) {k : Nat} (hk : k < 64) : bitL x k = x.toBitVec.getLsbD k := by
  unfold bitL
  rw [Bool.eq_iff_iff, decide_eq_true_iff, and1_iff, Int64.toBitVec_shiftRight, BitVec.sshiftRight_eq', sh_amtn hk, BitVec.getLsbD_sshiftRight]
  rw [if_pos (by omega)]
  simp
theorem bitL_ext {x y : Int64} (h : ∀ k, k < 64 → bitL x k = bitL y k) : x = y := by
  apply Int64.toBitVec_inj.mp
  apply BitVec.eq_of_getLsbD_eq
  intro i hi
  rw [← bitL_bv x hi, ← bitL_bv y hi]
  exact h i hi
theorem bitL_or (x y : Int64) {k : Nat} (hk : k < 64) : bitL (x ||| y) k = (bitL x k || bitL y k) := by
  rw [bitL_bv _ hk, bitL_bv _ hk, bitL_bv _ hk, Int64.toBitVec_or, BitVec.getLsbD_or]
theorem bitL_and (x y : Int64) {k : Nat} (hk : k < 64) : bitL (x &&& y) k = (bitL x k && bitL y k) := by
  rw [bitL_bv _ hk, bitL_bv _ hk, bitL_bv _ hk, Int64.toBitVec_and, BitVec.getLsbD_and]
theorem bitL_xor (x y : Int64) {k : Nat} (hk : k < 64) : bitL (x ^^^ y) k = (bitL x k ^^ bitL y k) := by
  rw [bitL_bv _ hk, bitL_bv _ hk, bitL_bv _ hk, Int64.toBitVec_xor, BitVec.getLsbD_xor]
theorem bitL_0 {k : Nat} (hk : k < 64) : bitL 0 k = false := by
  rw [bitL_bv _ hk]
  exact BitVec.getLsbD_zero
theorem bitL_m1 {k : Nat} (hk : k < 64) : bitL (-1) k = true := by
  rw [bitL_bv _ hk]
  have e : (-1 : Int64).toBitVec = BitVec.allOnes 64 := by decide
  rw [e, BitVec.getLsbD_allOnes]
  simpa using hk
theorem one_shl : ∀ p : Fin 64, ((1 : Int64) <<< ((nI p.val).toInt64 &&& 63)).toBitVec = BitVec.twoPow 64 p.val := by decide +kernel
theorem bitL_shl {p k : Nat} (hp : p < 64) (hk : k < 64) : bitL ((1 : Int64) <<< ((nI p).toInt64 &&& 63)) k = decide (p = k) := by
  rw [bitL_bv _ hk, one_shl ⟨p, hp⟩, BitVec.getLsbD_twoPow]
  simp [hp]
theorem openL_bit {pl : Nat → Option Nat} (n : Nat) (h : ∀ p k, p < n → pl p = some k → k < 64) {k : Nat} (hk : k < 64) : bitL (openL pl n) k = anyB (fun p => decide (pl p = some k)) n := by
  induction n with
  | zero => exact bitL_0 hk
  | succ n ih =>
    show bitL (match pl n with | none => openL pl n | some k => openL pl n ||| ((1 : Int64) <<< ((nI k).toInt64 &&& 63))) k = (anyB _ n || decide (pl n = some k))
    rw [← ih (fun p k hp => h p k (by omega))]
    cases hp : pl n with
    | none => simp
    | some j =>
      dsimp only
      rw [bitL_or _ _ hk, bitL_shl (h n j (by omega) hp) hk]
      simp
/-- the reference's way to the state's sectors -/
def stM (P : Nat → Bool) : Nat → Int64
  | 0 => 0
  | i + 1 => if P (2 + i) then stM P i ||| ((1 : Int64) <<< ((nI (2 + i)).toInt64 &&& 63)) else stM P i
theorem stM_bit {P : Nat → Bool} (i : Nat) (hi : i ≤ 62) {k : Nat} (hk : k < 64) : bitL (stM P i) k = (decide (2 ≤ k ∧ k < 2 + i) && P k) := by
  induction i with
  | zero => rw [show stM P 0 = 0 from rfl, bitL_0 hk, decide_eq_false (by omega)]; rfl
  | succ i ih =>
    have ih := ih (by omega)
    unfold stM
    by_cases c : P (2 + i) = true
    · rw [if_pos c, bitL_or _ _ hk, bitL_shl (by omega) hk, ih]
      by_cases e : 2 + i = k
      · subst e
        rw [decide_eq_true rfl, c, decide_eq_true (show 2 ≤ 2 + i ∧ 2 + i < 2 + (i + 1) by omega)]
        simp
      · rw [decide_eq_false e, Bool.or_false]
        congr 1
        exact decide_eq_decide.mpr (by omega)
    · rw [if_neg c, ih]
      by_cases e : k = 2 + i
      · have c : P (2 + i) = false := by simpa using c
        rw [e, c]
        simp
      · congr 1
        exact decide_eq_decide.mpr (by omega)
theorem stM_open {cn : Nat} {pl : Nat → Option Nat} (hcn : 2 ≤ cn ∧ cn ≤ 64) (hp : ∀ p k, p < 30 → pl p = some k → 2 ≤ k ∧ k < cn) : stM (fun k => anyB (fun p => decide (pl p = some k)) 30) (cn - 2) = openL pl 30 := by
  apply bitL_ext
  intro k hk
  rw [stM_bit _ (by omega) hk, openL_bit 30 (fun p k h1 h2 => by have := hp p k h1 h2; omega) hk]
  by_cases c : anyB (fun p => decide (pl p = some k)) 30 = true
  · obtain ⟨p, h1, h2⟩ := anyB_iff.mp c
    have := hp p k h1 (of_decide_eq_true h2)
    rw [c, decide_eq_true (by omega)]
    rfl
  · have c : anyB (fun p => decide (pl p = some k)) 30 = false := by simpa using c
    rw [c, Bool.and_false]
