set_option maxRecDepth 100000
/-- the reference's cells -/
def MW (g : GG) (w : GW) (ad : Nat → Nat) (cn : Nat) (ru fu ch th : Bool) (fi be ne ke : Nat) (fD fL fO : Nat → Int32) (z : Nat → Bool) (fP fT fY fN : Nat → Int32) (fS : Nat → Int64) (fKn : Nat → Int32) (fK : Nat → Int64) (fH : Nat → Int32) : Prop :=
  (∀ i j, i ≤ 12 → j ≤ 12 → ad i = ad j → i = j) ∧ w (ad 0) = some (mo ad cn ru fu ch th fi be ne ke) ∧ w (ad 1) = some (eI g 2048 fD) ∧ w (ad 2) = some (eI g 2048 fL) ∧ w (ad 3) = some (eI g 2048 fO) ∧ w (ad 4) = some (eZ g 64 z) ∧ w (ad 5) = some (eI g 30 fP) ∧ w (ad 6) = some (eI g 1200 fT) ∧ w (ad 7) = some (eI g 38400 fY) ∧ w (ad 8) = some (eI g 1200 fN) ∧ w (ad 9) = some (eL g 1200 fS) ∧ w (ad 10) = some (eI g 4 fKn) ∧ w (ad 11) = some (eL g 4 fK) ∧ w (ad 12) = some (eI g 32 fH)
theorem cpy_0 {α : Type} (f h : Nat → α) (sp dp : Nat) : va_cpy f h sp dp 0 = h := by
  funext j
  unfold va_cpy
  rw [if_neg (by omega)]
theorem cpy_s (f h : Nat → Int32) (sp dp i : Nat) : upd (va_cpy f h sp dp i) (dp + i) (f (sp + i)) = va_cpy f h sp dp (i + 1) := by
  funext j
  unfold upd va_cpy
  by_cases c : j = dp + i
  · subst c
    rw [if_pos rfl, if_pos (by omega)]
    congr 1
    omega
  · rw [if_neg c]
    by_cases c2 : dp ≤ j ∧ j < dp + i
    · rw [if_pos c2, if_pos (by omega)]
    · rw [if_neg c2, if_neg (by omega)]
/-- a laid sector's bytes in the open row -/
def layO (fO : Nat → Int32) (k kd pg so : Nat) (x : Int64) : Nat → Int32 := closeI (setWI (upd (upd (upd (va_cpy (fun _ => 0) fO 0 (32 * k) 32) (32 * k + 4) (nI kd)) (32 * k + 5) (nI pg)) (32 * k + 6) (nI so)) (32 * k + 8) x) k
