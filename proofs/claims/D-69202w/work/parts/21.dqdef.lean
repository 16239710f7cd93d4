set_option maxRecDepth 100000
def wr (n i : Nat) : Nat := if i < n then i else i - n
theorem wr_lt {n i : Nat} (h : i < n + n) : wr n i < n := by
  unfold wr
  split <;> omega
theorem wr_inj {n i j : Nat} (h1 : wr n i = wr n j) (h2 : i < j + n) (h3 : j < i + n) : i = j := by
  unfold wr at h1
  split at h1 <;> split at h1 <;> omega
/-- an ArrayDeque at a that holds the references xs -/
def DQ (g : GG) (w : GW) (a E n : Nat) (f : Nat → Option Nat) (hd : Nat) (xs : List Nat) : Prop :=
  w a = some (ob 5 [.ref E, .int (nI hd), .int (nI (wr n (hd + xs.length)))]) ∧ w E = some (eO g n f) ∧ hd < n ∧ xs.length < n ∧ n ≤ 200 ∧ ∀ (i x : Nat), xs[i]? = some x → f (wr n (hd + i)) = some x
theorem DQ.size_eq {g : GG} {w : GW} {a E n hd : Nat} {f : Nat → Option Nat} {xs : List Nat} (h : DQ g w a E n f hd xs) : (if hd ≤ wr n (hd + xs.length) then wr n (hd + xs.length) - hd else wr n (hd + xs.length) + n - hd) = xs.length := by
  obtain ⟨-, -, h1, h2, -⟩ := h
  unfold wr
  split <;> split <;> omega
theorem DQ.kept {g : GG} {w w' : GW} {a E n hd : Nat} {f : Nat → Option Nat} {xs : List Nat} (h : DQ g w a E n f hd xs) (h1 : w' a = w a) (h2 : w' E = w E) : DQ g w' a E n f hd xs := ⟨h1.trans h.1, h2.trans h.2.1, h.2.2⟩
/-- the capacity behind a growth -/
def cap (n : Nat) : Nat := if n < 64 then n + (n + 2) else n + n / 2
