set_option maxRecDepth 100000
/-- the reference's object: ad 1.. are its arrays (disk later open laid places targets bytes numbers sectors keptNumbers keptSectors head) -/
abbrev mo (ad : Nat → Nat) (cn : Nat) (ru fu ch th : Bool) (fi be ne ke : Nat) : va_E := ob 4 [.int (nI cn), .int (bI ru), .int (bI fu), .ref (ad 1), .ref (ad 2), .ref (ad 3), .ref (ad 4), .ref (ad 5), .int (bI ch), .ref (ad 6), .ref (ad 7), .int (nI fi), .int (nI be), .ref (ad 8), .ref (ad 9), .int (nI 0), .int (nI ne), .ref (ad 10), .ref (ad 11), .int (nI ke), .int (bI th), .ref (ad 12)]
def isPgI (fP : Nat → Int32) (p : Int32) : Bool := decide (¬ p < 0 ∧ ¬ nI 30 ≤ p ∧ ¬ fP p.toNatClampNeg = -1)
def opM (fP : Nat → Int32) (k : Nat) : Bool := anyB (fun p => decide (fP p = nI k)) 30
def waM (fT : Nat → Int32) (fi be k : Nat) : Bool := anyB (fun i => decide (fT (fi + i) = nI k)) (be - fi)
def heM (fP fT : Nat → Int32) (fS fK : Nat → Int64) (fi be ne ke k : Nat) : Bool := ((opM fP k || waM fT fi be k) || anyB (fun s => bitL (fS s) k) (ne + 1)) || anyB (fun s => bitL (fK s) k) ke
