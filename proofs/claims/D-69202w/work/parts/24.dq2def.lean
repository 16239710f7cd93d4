set_option maxRecDepth 100000
theorem cap_small : ∀ k, k < 401 → nI k - 2147483639 ≤ 0 := by decide +kernel
theorem cap_lt {n : Nat} (h0 : 0 < n) (h : n ≤ 66) : n < cap n ∧ cap n ≤ 134 := by
  unfold cap
  split <;> omega
/-- the array of a grown deque -/
def grF (f : Nat → Option Nat) (hd n : Nat) (i : Nat) : Nat → Option Nat := fun j => if hd ≤ j ∧ j < hd + i then none else va_cpy (va_cpy f (fun _ => none) 0 0 n) (va_cpy f (fun _ => none) 0 0 n) hd (hd + (cap n - n)) (n - hd) j
theorem grF_0 (f : Nat → Option Nat) (hd n : Nat) : grF f hd n 0 = va_cpy (va_cpy f (fun _ => none) 0 0 n) (va_cpy f (fun _ => none) 0 0 n) hd (hd + (cap n - n)) (n - hd) := by
  funext j
  unfold grF
  rw [if_neg (by omega)]
theorem grF_s (f : Nat → Option Nat) (hd n i : Nat) : va_up (grF f hd n i) (hd + i) none = grF f hd n (i + 1) := by
  funext j
  unfold grF va_up
  by_cases h : j = hd + i
  · rw [if_pos h, if_pos (by omega)]
  · rw [if_neg h]
    dsimp only
    by_cases h2 : hd ≤ j ∧ j < hd + i
    · rw [if_pos h2, if_pos (by omega)]
    · rw [if_neg h2, if_neg (by omega)]
theorem grF_at {f : Nat → Option Nat} {hd n : Nat} {xs : List Nat} (hl : xs.length = n) (hd1 : hd < n) (h0 : 0 < n) (hn : n ≤ 66) (hf : ∀ (i x : Nat), xs[i]? = some x → f (wr n (hd + i)) = some x) : ∀ (i x : Nat), xs[i]? = some x → grF f hd n (cap n - n) (wr (cap n) (hd + (cap n - n) + i)) = some x := by
  intro i x hx
  have hc := cap_lt h0 hn
  have hi : i < n := by rw [← hl]; exact (List.getElem?_eq_some_iff.mp hx).1
  have q := hf i x hx
  unfold wr at q ⊢
  by_cases c : hd + i < n
  · rw [if_pos c] at q
    rw [if_pos (by omega)]
    unfold grF va_cpy
    rw [if_neg (by omega), if_pos (by omega), if_pos (by omega)]
    have : 0 + (hd + (hd + (cap n - n) + i - (hd + (cap n - n))) - 0) = hd + i := by omega
    rw [this]
    exact q
  · rw [if_neg c] at q
    rw [if_neg (by omega)]
    unfold grF va_cpy
    rw [if_neg (by omega), if_neg (by omega), if_pos (by omega)]
    have : 0 + (hd + (cap n - n) + i - cap n - 0) = hd + i - n := by omega
    rw [this]
    exact q
