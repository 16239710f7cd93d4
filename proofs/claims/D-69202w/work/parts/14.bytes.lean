set_option maxRecDepth 100000
/-! bytes: what the sector's methods compute, both sides -/
def ub (b : Int8) : Int32 := b.toInt32 &&& nI 255
def numI (f : Nat → Int32) (a : Nat) : Int32 := ((f a <<< (nI 24 &&& 31) ||| f (a + 1) <<< (nI 16 &&& 31)) ||| f (a + 2) <<< (nI 8 &&& 31)) ||| f (a + 3)
def numB (b : Nat → Int8) (a : Nat) : Int32 := numI (fun j => ub (b j)) a
def wideI (f : Nat → Int32) (a : Nat) : Int64 := (numI f a).toInt64 <<< ((nI 32).toInt64 &&& 63) ||| ((numI f (a + 4)).toInt64 &&& 4294967295)
def wideB (b : Nat → Int8) (a : Nat) : Int64 := wideI (fun j => ub (b j)) a
def stepS (s x : Int32) : Int32 := (((s ^^^ x) <<< (nI 11 &&& 31)) ||| (((s ^^^ x).toUInt32 >>> ((nI 21).toUInt32 &&& Int32.toUInt32 31)).toInt32)) * (-2048144777)
def sumTo (f : Nat → Int32) : Nat → Int32
  | 0 => nI 0
  | k + 1 => stepS (sumTo f k) (f (4 + k))
def sumI (f : Nat → Int32) : Int32 := sumTo f 28
def sumB (b : Nat → Int8) : Int32 := sumI (fun j => ub (b j))
def byV (v : Int32) (k : Nat) : Int8 := (v >>> (nI (24 - 8 * k) &&& 31)).toInt8
def setK (f : Nat → Int8) (a : Nat) (v : Int32) (n : Nat) : Nat → Int8 := fun j => if a ≤ j ∧ j < a + n then byV v (j - a) else f j
def setB (f : Nat → Int8) (a : Nat) (v : Int32) : Nat → Int8 := setK f a v 4
def setWB (f : Nat → Int8) (a : Nat) (v : Int64) : Nat → Int8 := setB (setB f a (v >>> ((nI 32).toInt64 &&& 63)).toInt32) (a + 4) v.toInt32
def closeB (f : Nat → Int8) : Nat → Int8 := setB f 0 (sumB f)
def rightB (f : Nat → Int8) : Bool := decide (numB f 0 = sumB f)
theorem setK_0 (f : Nat → Int8) (a : Nat) (v : Int32) : setK f a v 0 = f := by
  funext j
  simp only [setK]
  rw [if_neg (by omega)]
theorem setK_s (f : Nat → Int8) (a : Nat) (v : Int32) (k : Nat) : va_up (setK f a v k) (a + k) (v >>> (nI (24 - 8 * k) &&& 31)).toInt8.toInt32.toInt8 = setK f a v (k + 1) := by
  funext j
  rw [Int8.toInt8_toInt32]
  simp only [va_up, setK]
  by_cases h : j = a + k
  · subst h
    rw [if_pos rfl, if_pos (by omega)]
    simp [byV]
  · rw [if_neg h]
    by_cases h2 : a ≤ j ∧ j < a + k
    · rw [if_pos h2, if_pos (by omega)]
    · rw [if_neg h2, if_neg (by omega)]
theorem rotl11 (x : Int32) : (x <<< (nI 11 &&& 31)) ||| (x.toUInt32 >>> ((-nI 11).toUInt32 &&& Int32.toUInt32 31)).toInt32 = (x <<< (nI 11 &&& 31)) ||| (x.toUInt32 >>> ((nI 21).toUInt32 &&& Int32.toUInt32 31)).toInt32 := by
  have : ((-nI 11).toUInt32 &&& Int32.toUInt32 31) = ((nI 21).toUInt32 &&& Int32.toUInt32 31) := by decide
  rw [this]
/-- a sector as it is laid, before its sum -/
def ofB (k pg so : Int32) (x : Int64) (tr : Int32) : Nat → Int8 := setB (setWB (va_up (va_up (va_up (fun _ => 0) 4 k.toInt8) 5 pg.toInt8) 6 so.toInt8) 8 x) 16 tr
