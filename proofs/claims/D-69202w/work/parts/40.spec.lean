set_option maxRecDepth 100000
/-! THE ABSTRACT DISK: both programs are tied to it -/
abbrev Sec : Type := Nat → Int8
/-- count, runs, full, changed, disk, waiting, laid, places, states, kept -/
abbrev KS : Type := Nat × Bool × Bool × Bool × Sec × List (Nat × Sec) × (Nat → Option Sec) × (Nat → Option Nat) × List (Int32 × Int64) × List (Int32 × Int64)
def sec (dk : Sec) (k : Nat) : Sec := va_cpy dk (fun _ => 0) (32 * k) 0 32
def lat (dk : Sec) (wt : List (Nat × Sec)) (k : Nat) : Sec := wt.foldl (fun s x => if x.1 = k then x.2 else s) (sec dk k)
def cur (dk : Sec) (wt : List (Nat × Sec)) (ld : Nat → Option Sec) (k : Nat) : Sec := match ld k with
  | some c => c
  | none => lat dk wt k
def wrD (dk : Sec) (x : Nat × Sec) (n : Nat) : Sec := va_cpy x.2 dk 0 (32 * x.1) n
def plI (o : Option Nat) : Int32 := match o with
  | none => -1
  | some k => nI k
/-- the sector of page x, if there is that page -/
def pgOf (pl : Nat → Option Nat) (x : Int32) : Option Nat := if ¬ x < 0 ∧ ¬ nI 30 ≤ x then pl x.toNatClampNeg else none
def hel (wt : List (Nat × Sec)) (pl : Nat → Option Nat) (st kp : List (Int32 × Int64)) (k : Nat) : Bool := ((anyB (fun p => decide (pl p = some k)) 30 || wt.any (fun x => decide (x.1 = k))) || st.any (fun s => bitL s.2 k)) || kp.any (fun s => bitL s.2 k)
def frS (cn : Nat) (wt : List (Nat × Sec)) (pl : Nat → Option Nat) (st kp : List (Int32 × Int64)) : Nat := lf (hel wt pl st kp) (cn - 2) 2
def frP (pl : Nat → Option Nat) : Nat := lf (fun p => (pl p).isSome) 30 0
def frPo (pl : Nat → Option Nat) : Option Nat := if frP pl < 30 then some (frP pl) else none
def layC (kd : Int32) (p : Nat) (so : Int32) (x : Int64) : Sec := closeB (ofB kd (nI p) so x 0)
def layF (σ : KS) (kd : Int32) (pg : Option Nat) (so : Int32) (x : Int64) : Int32 × KS := match σ with
  | (cn, ru, fu, ch, dk, wt, ld, pl, st, kp) => match pg with
    | none => (-4, (cn, ru, fu, ch, dk, wt, ld, pl, st, kp))
    | some p => if frS cn wt pl st kp < cn ∧ fu = false then (nI p, (cn, ru, fu, true, dk, wt, fun j => if j = frS cn wt pl st kp then some (layC kd p so x) else if pl p = some j then none else ld j, va_up pl p (some (frS cn wt pl st kp)), st, kp)) else (-4, (cn, ru, fu, ch, dk, wt, ld, pl, st, kp))
def opPage (σ : KS) (kd x : Int32) (y : Int64) : Int32 × KS := match σ with
  | (cn, ru, fu, ch, dk, wt, ld, pl, st, kp) =>
    if ru = false then (-3, σ)
    else if kd < 0 ∨ nI 3 < kd then (-2, σ)
    else if x = -1 ∧ 0 < kd ∧ kd < nI 3 then layF σ kd (frPo pl) (nI 255) y
    else match pgOf pl x with
      | none => (-1, σ)
      | some k => if kd = nI 3 then (if (cur dk wt ld k 4).toInt32 = nI 3 then (-1, σ) else layF σ (nI 3) (frPo pl) x (turnL (wideB (cur dk wt ld k) 8)))
        else if 0 < kd then layF σ kd (some x.toNatClampNeg) (nI 255) y
        else (x, (cn, ru, fu, true, dk, wt, va_up ld k none, va_up pl x.toNatClampNeg none, st, kp))
def opDerived (σ : KS) (x : Int32) : Int32 × KS := match σ with
  | (cn, ru, fu, ch, dk, wt, ld, pl, st, kp) =>
    if ru = false then (-3, σ)
    else match pgOf pl x with
      | none => (-1, σ)
      | some k => if (cur dk wt ld k 4).toInt32 = nI 3 then
          (match pgOf pl (ub (cur dk wt ld k 6)) with
            | none => (0, σ)
            | some k2 => if ((ld k).isSome = true ∨ rightB (lat dk wt k) = true) ∧ wideB (cur dk wt ld k) 8 = turnL (wideB (cur dk wt ld k2) 8) then (0, σ)
              else (if (layF σ (nI 3) (some x.toNatClampNeg) (ub (cur dk wt ld k 6)) (turnL (wideB (cur dk wt ld k2) 8))).1 = -4 then -4 else 1, (layF σ (nI 3) (some x.toNatClampNeg) (ub (cur dk wt ld k 6)) (turnL (wideB (cur dk wt ld k2) 8))).2))
        else (-1, σ)
def opFull (σ : KS) (b : Bool) : Int32 × KS := match σ with
  | (cn, ru, fu, ch, dk, wt, ld, pl, st, kp) => (bI fu, (cn, ru, b, ch, dk, wt, ld, pl, st, kp))
def opPoke (σ : KS) (x i m : Int32) : Int32 × KS := match σ with
  | (cn, ru, fu, ch, dk, wt, ld, pl, st, kp) =>
    if ru = false then (-3, σ)
    else match pgOf pl x with
      | none => (-1, σ)
      | some k => if i < 0 ∨ nI 32 ≤ i ∨ m < nI 1 ∨ nI 255 < m then (-2, σ)
        else if (ld k).isSome = true ∨ wt.any (fun x => decide (x.1 = k)) = true then (-3, σ)
        else (ub (dk (32 * k + i.toNatClampNeg) ^^^ m.toInt8), (cn, ru, fu, ch, va_up dk (32 * k + i.toNatClampNeg) (dk (32 * k + i.toNatClampNeg) ^^^ m.toInt8), wt, ld, pl, st, kp))
/-- a page that isn't right on the disk -/
def bad (dk : Sec) (wt : List (Nat × Sec)) (ld : Nat → Option Sec) (pl : Nat → Option Nat) (p : Nat) : Bool := match pl p with
  | none => false
  | some k => (ld k).isNone && !(rightB (lat dk wt k))
def opWrong (σ : KS) (x : Int32) : Int32 × KS := match σ with
  | (cn, ru, fu, ch, dk, wt, ld, pl, st, kp) =>
    if ru = false then (-3, σ)
    else if x < 0 ∨ nI 2 < x then (-2, σ)
    else if x = 0 then (nI (cntB (bad dk wt ld pl) 0 30), σ)
    else if lf (fun p => !(bad dk wt ld pl p)) 30 0 < 30 then (if x = nI 1 then (nI (lf (fun p => !(bad dk wt ld pl p)) 30 0), σ) else (plI (pl (lf (fun p => !(bad dk wt ld pl p)) 30 0)), σ))
    else (-1, σ)
def lastS (st : List (Int32 × Int64)) : Int32 × Int64 := st.getD (st.length - 1) (0, 0)
def opBackup (σ : KS) (n : Int32) : Int32 × KS := match σ with
  | (cn, ru, fu, ch, dk, wt, ld, pl, st, kp) =>
    if ru = false then (-3, σ)
    else if (lastS st).1 = n then (if kp.length = 4 then (-4, σ) else (nI (cntB (bitL (lastS st).2) 0 64), (cn, ru, fu, ch, dk, wt, ld, pl, st, kp ++ [lastS st])))
    else (-1, σ)
def keptAt (kp : List (Int32 × Int64)) (n : Int32) : Nat := lf (fun i => decide (¬ (kp.getD i (0, 0)).1 = n)) kp.length 0
def opDrop (σ : KS) (n : Int32) : Int32 × KS := match σ with
  | (cn, ru, fu, ch, dk, wt, ld, pl, st, kp) =>
    if ru = false then (-3, σ)
    else if keptAt kp n < kp.length then (nI (cntB (hel wt pl st kp) 2 62) - nI (cntB (hel wt pl st (kp.eraseIdx (keptAt kp n))) 2 62), (cn, ru, fu, ch, dk, wt, ld, pl, st, kp.eraseIdx (keptAt kp n)))
    else (-1, σ)
/-- the sectors that pages have -/
def openL (pl : Nat → Option Nat) : Nat → Int64
  | 0 => 0
  | n + 1 => match pl n with
    | none => openL pl n
    | some k => openL pl n ||| ((1 : Int64) <<< ((nI k).toInt64 &&& 63))
def com1 (ld : Nat → Option Sec) (n : Int32) (k : Nat) : List (Nat × Sec) := match ld k with
  | none => []
  | some c => [(k, closeB (setB c 16 n))]
def comW (ld : Nat → Option Sec) (n : Int32) : Nat → List (Nat × Sec)
  | 0 => []
  | i + 1 => comW ld n i ++ com1 ld n (2 + i)
def comX (dk : Sec) (wt : List (Nat × Sec)) (s : Int64) : Nat → Int32
  | 0 => nI 0
  | i + 1 => if bitL s (2 + i) then comX dk wt s i ^^^ numB (lat dk wt (2 + i)) 0 else comX dk wt s i
def headC (s : Int64) (n all : Int32) : Sec := closeB (setB (setB (setWB (va_up (fun _ => 0) 4 9) 8 s) 16 n) 20 all)
def opCommit (σ : KS) (n : Int32) : Int32 × KS := match σ with
  | (cn, ru, fu, ch, dk, wt, ld, pl, st, kp) =>
    if ru = false ∨ ch = false then (-3, σ)
    else if n ≤ (lastS st).1 ∨ 1000000 < n then (-2, σ)
    else (nI ((comW ld n (cn - 2)).length + 1), (cn, ru, fu, false, dk, (wt ++ comW ld n (cn - 2)) ++ [(n.toNatClampNeg % 2, headC (openL pl 30) n (comX dk (wt ++ comW ld n (cn - 2)) (openL pl 30) (cn - 2)))], fun _ => none, pl, st ++ [(n, openL pl 30)], kp))
def wrAll (dk : Sec) (wt : List (Nat × Sec)) : Sec := wt.foldl (fun d x => wrD d x 32) dk
def opSync (σ : KS) : Int32 × KS := match σ with
  | (cn, ru, fu, ch, dk, wt, ld, pl, st, kp) => if ru = false then (-3, σ) else ((lastS st).1, (cn, ru, fu, ch, wrAll dk wt, [], ld, pl, [lastS st], kp))
def beginK (cn : Nat) (ru fu : Bool) (dk : Sec) (s : Int32 × Int64) : KS := (cn, ru, fu, false, dk, [], fun _ => none, fun _ => none, [s], [])
def tearN (t : Int32) : Nat := if t < 0 then 0 else if nI 32 < t then 32 else t.toNatClampNeg
def cutD (dk : Sec) : List (Nat × Sec) → Nat → Int32 → Sec
  | [], _, _ => dk
  | x :: wt, 0, t => wrD dk x (tearN t)
  | x :: wt, n + 1, t => cutD (wrD dk x 32) wt n t
def opCut (σ : KS) (k t : Int32) : KS := match σ with
  | (cn, ru, fu, ch, dk, wt, ld, pl, st, kp) => if ru = false then σ else beginK cn false fu (cutD dk wt k.toNatClampNeg t) (0, 0)
/-- the pages of a state's sectors so far, and their sums; none: something isn't right -/
def whG (cn : Nat) (dk : Sec) (s : Int64) : Nat → Option ((Nat → Bool) × Int32)
  | 0 => some (fun _ => false, nI 0)
  | j + 1 => match whG cn dk s j with
    | none => none
    | some (P, a) => if bitL s j = false then some (P, a)
      else if 1 < j ∧ j < cn ∧ rightB (sec dk j) = true ∧ 0 < (sec dk j 4).toInt32 ∧ (sec dk j 4).toInt32 < nI 4 ∧ ub (sec dk j 5) < nI 30 ∧ P (ub (sec dk j 5)).toNatClampNeg = false then some (va_up P (ub (sec dk j 5)).toNatClampNeg true, a ^^^ numB (sec dk j) 0)
      else none
def wholeF (cn : Nat) (dk : Sec) (k : Nat) : Option (Int32 × Int64) :=
  if (sec dk k 4).toInt32 = nI 9 ∧ rightB (sec dk k) = true then
    (match whG cn dk (wideB (sec dk k) 8) 64 with
      | none => none
      | some (P, a) => if a = numB (sec dk k) 20 then some (numB (sec dk k) 16, wideB (sec dk k) 8) else none)
  else none
def pickS (a b : Option (Int32 × Int64)) : Option (Int32 × Int64) := match a with
  | none => b
  | some x => match b with
    | none => some x
    | some y => if y.1 ≤ x.1 then some x else some y
def plS (dk : Sec) (s : Int64) : Nat → (Nat → Option Nat)
  | 0 => fun _ => none
  | j + 1 => if bitL s j then va_up (plS dk s j) (ub (sec dk j 5)).toNatClampNeg (some j) else plS dk s j
def opStart (σ : KS) : Int32 × KS := match σ with
  | (cn, ru, fu, ch, dk, wt, ld, pl, st, kp) =>
    if ru = true then (-3, σ)
    else (((pickS (wholeF cn dk 0) (wholeF cn dk 1)).getD (0, 0)).1, (cn, true, fu, false, dk, [], fun _ => none, plS dk ((pickS (wholeF cn dk 0) (wholeF cn dk 1)).getD (0, 0)).2 64, [(pickS (wholeF cn dk 0) (wholeF cn dk 1)).getD (0, 0)], []))
/-- byte i of page x, if there is one -/
def opAt (σ : KS) (x i : Int32) : Option Int8 := match σ with
  | (cn, ru, fu, ch, dk, wt, ld, pl, st, kp) => match pgOf pl x with
    | none => none
    | some k => if i < 0 ∨ nI 32 ≤ i then none else some (cur dk wt ld k i.toNatClampNeg)
def cntL (ld : Nat → Option Sec) : Nat := cntB (fun k => (ld k).isSome) 0 64
/-- what holds of the abstract disk behind any calls -/
def InvK (σ : KS) : Prop := match σ with
  | (cn, ru, fu, ch, dk, wt, ld, pl, st, kp) => (8 ≤ cn ∧ cn ≤ 64) ∧ (∀ p k, p < 30 → pl p = some k → 2 ≤ k ∧ k < cn) ∧ (∀ k c, ld k = some c → (2 ≤ k ∧ k < cn) ∧ closeB c = c) ∧ (∀ x, x ∈ wt → x.1 < cn ∧ (x.1 < 2 → x.2 16 = 0)) ∧ (dk 16 = 0 ∧ dk 48 = 0) ∧ st ≠ [] ∧ (∀ x, x ∈ st → 0 ≤ x.1 ∧ bitL x.2 0 = false ∧ bitL x.2 1 = false) ∧ (∀ x, x ∈ kp → bitL x.2 0 = false ∧ bitL x.2 1 = false) ∧ kp.length ≤ 4
/-- the reference holds the abstract disk, behind N calls -/
def RM (g : GG) (w : GW) (ad : Nat → Nat) (N : Nat) (σ : KS) : Prop := match σ with
  | (cn, ru, fu, ch, dk, wt, ld, pl, st, kp) => ∃ (th : Bool) (fi be ne ke : Nat) (fD fL fO : Nat → Int32) (z : Nat → Bool) (fP fT fY fN : Nat → Int32) (fS : Nat → Int64) (fKn : Nat → Int32) (fK : Nat → Int64) (fH : Nat → Int32),
    MW g w ad cn ru fu ch th fi be ne ke fD fL fO z fP fT fY fN fS fKn fK fH ∧ (∀ j, j < 2048 → fD j = ub (dk j)) ∧ (∀ k i, k < 64 → i < 32 → fL (32 * k + i) = ub (lat dk wt k i)) ∧ (∀ k c i, k < 64 → ld k = some c → i < 32 → fO (32 * k + i) = ub (c i)) ∧ (∀ k, k < 64 → z k = (ld k).isSome) ∧ (∀ p, p < 30 → fP p = plI (pl p)) ∧ fi + wt.length = be ∧ (∀ (i : Nat) (x : Nat × Sec), wt[i]? = some x → fT (fi + i) = nI x.1 ∧ ∀ j, j < 32 → fY (32 * (fi + i) + j) = ub (x.2 j)) ∧ ne + 1 = st.length ∧ (∀ (i : Nat) (x : Int32 × Int64), st[i]? = some x → fN i = x.1 ∧ fS i = x.2) ∧ ke = kp.length ∧ (∀ (i : Nat) (x : Int32 × Int64), kp[i]? = some x → fKn i = x.1 ∧ fK i = x.2) ∧ be + cntL ld ≤ N ∧ st.length ≤ N + 1
