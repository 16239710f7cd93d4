set_option maxRecDepth 100000
theorem wr_inc {n i : Nat} (h : i < n + n) (hn : 0 < n) : wr n (wr n i + 1) = wr n (i + 1) ∨ i + 1 = n + n := by
  unfold wr
  split <;> split <;> (try split) <;> omega
/-- one more at the end, room left -/
theorem DQ.add {g : GG} {w w' : GW} {a E n hd : Nat} {f : Nat → Option Nat} {xs : List Nat} (h : DQ g w a E n f hd xs) {x : Nat} (hl : xs.length + 1 < n) (h1 : w' a = some (ob 5 [.ref E, .int (nI hd), .int (nI (wr n (wr n (hd + xs.length) + 1)))])) (h2 : w' E = some (eO g n (va_up f (wr n (hd + xs.length)) (some x)))) : DQ g w' a E n (va_up f (wr n (hd + xs.length)) (some x)) hd (xs ++ [x]) := by
  obtain ⟨k1, k2, k3, k4, k5, k6⟩ := h
  refine ⟨?_, h2, k3, by simp; omega, k5, ?_⟩
  · have e : wr n (wr n (hd + xs.length) + 1) = wr n (hd + (xs ++ [x]).length) := by
      rw [List.length_append, List.length_singleton]
      unfold wr
      repeat' split
      all_goals omega
    rw [h1, e]
  · intro i y hy
    by_cases hi : i < xs.length
    · rw [List.getElem?_append_left hi] at hy
      unfold va_up
      rw [if_neg]
      · exact k6 i y hy
      · intro q
        have := wr_inj q (by omega) (by omega)
        omega
    · rw [List.getElem?_append_right (by omega)] at hy
      have hz : i - xs.length < 1 := (List.getElem?_eq_some_iff.mp hy).1
      have hi2 : i = xs.length := by omega
      subst hi2
      rw [Nat.sub_self] at hy
      cases hy
      simp [va_up]
/-- the first one taken -/
theorem DQ.poll {g : GG} {w w' : GW} {a E n hd : Nat} {f : Nat → Option Nat} {x : Nat} {xs : List Nat} (h : DQ g w a E n f hd (x :: xs)) (h1 : w' a = some (ob 5 [.ref E, .int (nI (wr n (hd + 1))), .int (nI (wr n (hd + (x :: xs).length)))])) (h2 : w' E = some (eO g n (va_up f hd none))) : DQ g w' a E n (va_up f hd none) (wr n (hd + 1)) xs := by
  obtain ⟨k1, k2, k3, k4, k5, k6⟩ := h
  simp only [List.length_cons] at k4 h1
  refine ⟨?_, h2, wr_lt (by omega), by omega, k5, ?_⟩
  · have e : wr n (hd + (xs.length + 1)) = wr n (wr n (hd + 1) + xs.length) := by
      unfold wr
      repeat' split
      all_goals omega
    rw [h1, e]
  · intro i y hy
    have q := k6 (i + 1) y (by simpa using hy)
    have hi : i < xs.length := (List.getElem?_eq_some_iff.mp hy).1
    have e1 : wr n (wr n (hd + 1) + i) = wr n (hd + (i + 1)) := by
      unfold wr
      repeat' split
      all_goals omega
    rw [e1]
    unfold va_up
    rw [if_neg]
    · exact q
    · intro z
      unfold wr at z
      split at z <;> omega
/-- an ArrayList at a that holds the references xs -/
def AL (g : GG) (w : GW) (a E n : Nat) (f : Nat → Option Nat) (mc : Int32) (xs : List Nat) : Prop :=
  w a = some (ob 6 [.int mc, .ref E, .int (nI xs.length)]) ∧ w E = some (eO g n f) ∧ xs.length ≤ n ∧ (∀ (i x : Nat), xs[i]? = some x → f i = some x) ∧ ((n = 0 ∧ E = g.2.2.2.1) ∨ n = 10)
theorem AL.kept {g : GG} {w w' : GW} {a E n : Nat} {f : Nat → Option Nat} {mc : Int32} {xs : List Nat} (h : AL g w a E n f mc xs) (h1 : w' a = w a) (h2 : w' E = w E) : AL g w' a E n f mc xs := ⟨h1.trans h.1, h2.trans h.2.1, h.2.2⟩
theorem AL.n_le {g : GG} {w : GW} {a E n : Nat} {f : Nat → Option Nat} {mc : Int32} {xs : List Nat} (h : AL g w a E n f mc xs) : n ≤ 10 := by
  obtain ⟨-, -, -, -, h | h⟩ := h <;> omega
def rmF (f : Nat → Option Nat) (i m : Nat) : Nat → Option Nat := va_up (if i < m then va_cpy f f (i + 1) i (m - i) else f) m none
theorem AL.rm {g : GG} {w w' : GW} {a E : Nat} {f : Nat → Option Nat} {mc mc' : Int32} {xs : List Nat} (h : AL g w a E 10 f mc xs) {i : Nat} (hi : i < xs.length) (h1 : w' a = some (ob 6 [.int mc', .ref E, .int (nI (xs.length - 1))])) (h2 : w' E = some (eO g 10 (rmF f i (xs.length - 1)))) : AL g w' a E 10 (rmF f i (xs.length - 1)) mc' (xs.eraseIdx i) := by
  obtain ⟨k1, k2, k3, k4, k5⟩ := h
  have hlen : (xs.eraseIdx i).length = xs.length - 1 := by rw [List.length_eraseIdx, if_pos hi]
  refine ⟨by rw [hlen]; exact h1, h2, by omega, ?_, k5⟩
  intro j x hj
  have hjl : j < xs.length - 1 := by rw [← hlen]; exact (List.getElem?_eq_some_iff.mp hj).1
  rw [List.getElem?_eraseIdx] at hj
  unfold rmF va_up
  rw [if_neg (by omega)]
  by_cases c : j < i
  · rw [if_pos c] at hj
    have q := k4 j x hj
    split
    · unfold va_cpy
      rw [if_neg (by omega)]
      exact q
    · exact q
  · rw [if_neg c] at hj
    have q := k4 (j + 1) x hj
    rw [if_pos (by omega)]
    unfold va_cpy
    rw [if_pos (by omega)]
    have : i + 1 + (j - i) = j + 1 := by omega
    rw [this]
    exact q
