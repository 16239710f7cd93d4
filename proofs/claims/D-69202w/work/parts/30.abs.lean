set_option maxRecDepth 100000
/-! pure words of the model's methods -/
def anyB (P : Nat → Bool) : Nat → Bool
  | 0 => false
  | n + 1 => anyB P n || P n
theorem anyB_t {P : Nat → Bool} {n : Nat} (h : anyB P n = true) : anyB P (n + 1) = true := by simp [anyB, h]
theorem anyB_p {P : Nat → Bool} {n : Nat} (h : P n = true) : anyB P (n + 1) = true := by simp [anyB, h]
theorem anyB_f {P : Nat → Bool} {n : Nat} (h : anyB P n = false) (h2 : P n = false) : anyB P (n + 1) = false := by simp [anyB, h, h2]
theorem anyB_iff {P : Nat → Bool} {n : Nat} : anyB P n = true ↔ ∃ i, i < n ∧ P i = true := by
  induction n with
  | zero => simp [anyB]
  | succ n ih =>
    simp only [anyB, Bool.or_eq_true, ih]
    constructor
    · rintro (⟨i, h1, h2⟩ | h)
      · exact ⟨i, by omega, h2⟩
      · exact ⟨n, by omega, h⟩
    · rintro ⟨i, h1, h2⟩
      by_cases h : i = n
      · subst h; exact Or.inr h2
      · exact Or.inl ⟨i, by omega, h2⟩
/-- the first place from i on, in n steps, where P fails -/
def lf (P : Nat → Bool) : Nat → Nat → Nat
  | 0, i => i
  | n + 1, i => if P i then lf P n (i + 1) else i
theorem lf_t {P : Nat → Bool} {n i : Nat} (h : P i = true) : lf P (n + 1) i = lf P n (i + 1) := by simp [lf, h]
theorem lf_f {P : Nat → Bool} {n i : Nat} (h : P i = false) : lf P (n + 1) i = i := by simp [lf, h]
theorem lf_spec (P : Nat → Bool) : ∀ (n i : Nat), i ≤ lf P n i ∧ lf P n i ≤ i + n ∧ (lf P n i < i + n → P (lf P n i) = false) := by
  intro n
  induction n with
  | zero => intro i; simp [lf]
  | succ n ih =>
    intro i
    unfold lf
    split
    · obtain ⟨h1, h2, h3⟩ := ih (i + 1)
      exact ⟨by omega, by omega, fun h => h3 (by omega)⟩
    · refine ⟨Nat.le_refl _, by omega, fun _ => ?_⟩
      simpa using ‹¬P i = true›
theorem lf_congr {P Q : Nat → Bool} : ∀ (n i : Nat), (∀ j, i ≤ j → j < i + n → P j = Q j) → lf P n i = lf Q n i := by
  intro n
  induction n with
  | zero => intro i _; rfl
  | succ n ih =>
    intro i h
    unfold lf
    rw [h i (Nat.le_refl _) (by omega), ih (i + 1) (fun j h1 h2 => h j (by omega) (by omega))]
/-- how many of P's first n places from a on -/
def cntB (P : Nat → Bool) (a : Nat) : Nat → Nat
  | 0 => 0
  | n + 1 => cntB P a n + (if P (a + n) then 1 else 0)
def setKI (f : Nat → Int32) (a : Nat) (v : Int32) (n : Nat) : Nat → Int32 := fun j => if a ≤ j ∧ j < a + n then ub (byV v (j - a)) else f j
def setI (f : Nat → Int32) (a : Nat) (v : Int32) : Nat → Int32 := setKI f a v 4
def setWI (f : Nat → Int32) (a : Nat) (v : Int64) : Nat → Int32 := setI (setI f a (v >>> ((nI 32).toInt64 &&& 63)).toInt32) (a + 4) v.toInt32
def closeI (f : Nat → Int32) (k : Nat) : Nat → Int32 := setI f (32 * k) (sumI (fun i => f (32 * k + i)))
def rightI (f : Nat → Int32) (k : Nat) : Bool := decide (numI f (32 * k) = sumI (fun i => f (32 * k + i)))
theorem ub_byte (x : Int32) : x &&& nI 255 = ub x.toInt8 := by
  have : x.toInt8.toInt32 &&& 255 = x &&& 255 := by
    apply Int32.toBitVec_inj.mp
    rw [Int32.toBitVec_and, Int32.toBitVec_and, Int8.toBitVec_toInt32, Int32.toBitVec_toInt8]
    apply BitVec.eq_of_getLsbD_eq
    intro i hi
    rw [BitVec.getLsbD_and, BitVec.getLsbD_and]
    have hm : ∀ i < 32, 8 ≤ i → (255 : Int32).toBitVec.getLsbD i = false := by decide
    rcases Nat.lt_or_ge i 8 with z | z
    · rw [BitVec.getLsbD_signExtend, BitVec.getLsbD_signExtend, if_pos z, if_pos hi]
      simp only [z, hi, decide_true, Bool.true_and]
    · rw [hm i hi z]; simp
  show x &&& nI 255 = x.toInt8.toInt32 &&& nI 255
  exact this.symm
theorem setKI_0 (f : Nat → Int32) (a : Nat) (v : Int32) : setKI f a v 0 = f := by
  funext j
  simp only [setKI]
  rw [if_neg (by omega)]
theorem setKI_s (f : Nat → Int32) (a : Nat) (v : Int32) (k : Nat) : upd (setKI f a v k) (a + k) ((v >>> (nI (24 - 8 * k) &&& 31)) &&& nI 255) = setKI f a v (k + 1) := by
  funext j
  rw [ub_byte]
  simp only [upd, setKI]
  by_cases h : j = a + k
  · subst h
    rw [if_pos rfl, if_pos (by omega)]
    simp [byV]
  · rw [if_neg h]
    by_cases h2 : a ≤ j ∧ j < a + k
    · rw [if_pos h2, if_pos (by omega)]
    · rw [if_neg h2, if_neg (by omega)]
def turnL (v : Int64) : Int64 := ((v <<< ((nI 9).toInt64 &&& 63)) ||| (v.toUInt64 >>> ((nI 55).toInt64.toUInt64 &&& Int64.toUInt64 63)).toInt64) ^^^ 25214903917
def bitL (x : Int64) (k : Nat) : Bool := decide ((x >>> ((nI k).toInt64 &&& 63)) &&& 1 = 1)
