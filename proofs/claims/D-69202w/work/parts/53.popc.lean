set_option maxRecDepth 100000
/-! Long.bitCount counts -/
theorem land_split (b m e d : Nat) (hb : b < 256) (he : e < 256) : (b + 256 * m) &&& (e + 256 * d) = (b &&& e) + 256 * (m &&& d) := by
  apply Nat.eq_of_testBit_eq
  intro j
  have h : b &&& e < 256 := Nat.lt_of_le_of_lt Nat.and_le_left hb
  rw [Nat.testBit_and, show b + 256 * m = 2 ^ 8 * m + b by omega, show e + 256 * d = 2 ^ 8 * d + e by omega, show (b &&& e) + 256 * (m &&& d) = 2 ^ 8 * (m &&& d) + (b &&& e) by omega, Nat.testBit_two_pow_mul_add _ (by omega), Nat.testBit_two_pow_mul_add _ (by omega), Nat.testBit_two_pow_mul_add _ (by omega)]
  split
  · rw [Nat.testBit_and]
  · rw [Nat.testBit_and]
def q1 (b : Nat) : Nat := b - ((b / 2) &&& 85)
def q2 (b : Nat) : Nat := (b &&& 51) + ((b / 4) &&& 51)
def q3 (b : Nat) : Nat := (b + b / 16) &&& 15
def p8 (b : Nat) : Nat := q3 (q2 (q1 b))
def S1 (M N : Nat) : Nat := N - ((N / 2) &&& M)
def S2 (M N : Nat) : Nat := (N &&& M) + ((N / 4) &&& M)
def S3 (M N : Nat) : Nat := (N + N / 16) &&& M
theorem k1 : ∀ b : Fin 256, ∀ t : Fin 2, (b.val / 2 + 128 * t.val) &&& 85 = (b.val / 2) &&& 85 := by decide +kernel
theorem k2 : ∀ b : Fin 256, ∀ t : Fin 4, (b.val / 4 + 64 * t.val) &&& 51 = (b.val / 4) &&& 51 := by decide +kernel
theorem half_le (N M : Nat) : (N / 2) &&& M ≤ N := Nat.le_trans Nat.and_le_left (Nat.div_le_self _ _)
theorem S1_s (b m M : Nat) (hb : b < 256) : S1 (85 + 256 * M) (b + 256 * m) = q1 b + 256 * S1 M m := by
  unfold S1 q1
  have e : (b + 256 * m) / 2 = (b / 2 + 128 * (m % 2)) + 256 * (m / 2) := by omega
  have hk := k1 ⟨b, hb⟩ ⟨m % 2, by omega⟩
  simp only at hk
  rw [e, land_split _ _ _ _ (by omega) (by omega), hk]
  have h1 := half_le b 85
  have h2 := half_le m M
  omega
theorem S2_s (b m M : Nat) (hb : b < 256) : S2 (51 + 256 * M) (b + 256 * m) = q2 b + 256 * S2 M m := by
  unfold S2 q2
  have e : (b + 256 * m) / 4 = (b / 4 + 64 * (m % 4)) + 256 * (m / 4) := by omega
  have hk := k2 ⟨b, hb⟩ ⟨m % 4, by omega⟩
  simp only at hk
  rw [e, land_split _ _ _ _ hb (by omega), land_split _ _ _ _ (by omega) (by omega), hk]
  omega
theorem and15 (n : Nat) : n &&& 15 = n % 16 := Nat.and_two_pow_sub_one_eq_mod n 4
theorem S3_s (b m M : Nat) (hb : b < 256) (h1 : b ≤ 68) (h3 : m % 16 ≤ 4) : S3 (15 + 256 * M) (b + 256 * m) = q3 b + 256 * S3 M m := by
  unfold S3 q3
  have e : b + 256 * m + (b + 256 * m) / 16 = (b + b / 16 + 16 * (m % 16)) + 256 * (m + m / 16) := by omega
  rw [e, land_split _ _ _ _ (by omega) (by omega), and15, and15]
  omega
theorem q1_lt : ∀ b : Fin 256, q1 b.val < 256 := by decide +kernel
theorem q2_le : ∀ b : Fin 256, q2 (q1 b.val) ≤ 68 ∧ q2 (q1 b.val) % 16 ≤ 4 := by decide +kernel
theorem p8_le : ∀ b : Fin 256, p8 b.val ≤ 8 := by decide +kernel
def B8 (b0 b1 b2 b3 b4 b5 b6 b7 : Nat) : Nat := b0 + 256 * (b1 + 256 * (b2 + 256 * (b3 + 256 * (b4 + 256 * (b5 + 256 * (b6 + 256 * (b7 + 256 * 0)))))))
theorem S1_8 (b0 b1 b2 b3 b4 b5 b6 b7 : Nat) (h0 : b0 < 256) (h1 : b1 < 256) (h2 : b2 < 256) (h3 : b3 < 256) (h4 : b4 < 256) (h5 : b5 < 256) (h6 : b6 < 256) (h7 : b7 < 256) : S1 6148914691236517205 (B8 b0 b1 b2 b3 b4 b5 b6 b7) = B8 (q1 b0) (q1 b1) (q1 b2) (q1 b3) (q1 b4) (q1 b5) (q1 b6) (q1 b7) := by
  unfold B8
  rw [show (6148914691236517205 : Nat) = 85 + 256 * (85 + 256 * (85 + 256 * (85 + 256 * (85 + 256 * (85 + 256 * (85 + 256 * (85 + 256 * 0))))))) by decide +kernel, S1_s _ _ _ h0, S1_s _ _ _ h1, S1_s _ _ _ h2, S1_s _ _ _ h3, S1_s _ _ _ h4, S1_s _ _ _ h5, S1_s _ _ _ h6, S1_s _ _ _ h7]
  rfl
theorem S2_8 (b0 b1 b2 b3 b4 b5 b6 b7 : Nat) (h0 : b0 < 256) (h1 : b1 < 256) (h2 : b2 < 256) (h3 : b3 < 256) (h4 : b4 < 256) (h5 : b5 < 256) (h6 : b6 < 256) (h7 : b7 < 256) : S2 3689348814741910323 (B8 b0 b1 b2 b3 b4 b5 b6 b7) = B8 (q2 b0) (q2 b1) (q2 b2) (q2 b3) (q2 b4) (q2 b5) (q2 b6) (q2 b7) := by
  unfold B8
  rw [show (3689348814741910323 : Nat) = 51 + 256 * (51 + 256 * (51 + 256 * (51 + 256 * (51 + 256 * (51 + 256 * (51 + 256 * (51 + 256 * 0))))))) by decide +kernel, S2_s _ _ _ h0, S2_s _ _ _ h1, S2_s _ _ _ h2, S2_s _ _ _ h3, S2_s _ _ _ h4, S2_s _ _ _ h5, S2_s _ _ _ h6, S2_s _ _ _ h7]
  rfl
theorem S3_8 (b0 b1 b2 b3 b4 b5 b6 b7 : Nat) (h0 : b0 ≤ 68 ∧ b0 % 16 ≤ 4) (h1 : b1 ≤ 68 ∧ b1 % 16 ≤ 4) (h2 : b2 ≤ 68 ∧ b2 % 16 ≤ 4) (h3 : b3 ≤ 68 ∧ b3 % 16 ≤ 4) (h4 : b4 ≤ 68 ∧ b4 % 16 ≤ 4) (h5 : b5 ≤ 68 ∧ b5 % 16 ≤ 4) (h6 : b6 ≤ 68 ∧ b6 % 16 ≤ 4) (h7 : b7 ≤ 68 ∧ b7 % 16 ≤ 4) : S3 1085102592571150095 (B8 b0 b1 b2 b3 b4 b5 b6 b7) = B8 (q3 b0) (q3 b1) (q3 b2) (q3 b3) (q3 b4) (q3 b5) (q3 b6) (q3 b7) := by
  unfold B8
  rw [show (1085102592571150095 : Nat) = 15 + 256 * (15 + 256 * (15 + 256 * (15 + 256 * (15 + 256 * (15 + 256 * (15 + 256 * (15 + 256 * 0))))))) by decide +kernel, S3_s _ _ _ (by omega) (by omega) (by omega), S3_s _ _ _ (by omega) (by omega) (by omega), S3_s _ _ _ (by omega) (by omega) (by omega), S3_s _ _ _ (by omega) (by omega) (by omega), S3_s _ _ _ (by omega) (by omega) (by omega), S3_s _ _ _ (by omega) (by omega) (by omega), S3_s _ _ _ (by omega) (by omega) (by omega), S3_s _ _ _ (by omega) (by omega) (by omega)]
  rfl
theorem sum8 (c0 c1 c2 c3 c4 c5 c6 c7 : Nat) (h0 : c0 ≤ 8) (h1 : c1 ≤ 8) (h2 : c2 ≤ 8) (h3 : c3 ≤ 8) (h4 : c4 ≤ 8) (h5 : c5 ≤ 8) (h6 : c6 ≤ 8) (h7 : c7 ≤ 8) (N4 N5 : Nat) (e4 : N4 = B8 c0 c1 c2 c3 c4 c5 c6 c7 + B8 c0 c1 c2 c3 c4 c5 c6 c7 / 256) (e5 : N5 = N4 + N4 / 65536) :
    N4 < 2 ^ 62 ∧ N5 < 2 ^ 62 ∧ (N5 + N5 / 4294967296) < 2 ^ 63 ∧ (N5 + N5 / 4294967296) % 128 = c0 + c1 + c2 + c3 + c4 + c5 + c6 + c7 := by
  have f4 : N4 = B8 (c0 + c1) (c1 + c2) (c2 + c3) (c3 + c4) (c4 + c5) (c5 + c6) (c6 + c7) c7 := by
    rw [e4]; unfold B8; omega
  have f5 : N5 = B8 (c0 + c1 + (c2 + c3)) (c1 + c2 + (c3 + c4)) (c2 + c3 + (c4 + c5)) (c3 + c4 + (c5 + c6)) (c4 + c5 + (c6 + c7)) (c5 + c6 + c7) (c6 + c7) c7 := by
    rw [e5, f4]; unfold B8; omega
  refine ⟨?_, ?_, ?_, ?_⟩
  · rw [f4]; unfold B8; omega
  · rw [f5]; unfold B8; omega
  · rw [f5]; unfold B8; omega
  · have f6 : N5 / 4294967296 = (c4 + c5 + (c6 + c7)) + 256 * ((c5 + c6 + c7) + 256 * ((c6 + c7) + 256 * c7)) := by
      rw [f5]; unfold B8; omega
    rw [f6, f5]; unfold B8; omega
/-! from Int64 to Nat -/
def nL (x : Int64) : Nat := x.toBitVec.toNat
theorem nL_lt (x : Int64) : nL x < 2 ^ 64 := x.toBitVec.isLt
theorem nL_and (x y : Int64) : nL (x &&& y) = nL x &&& nL y := by
  show (x &&& y).toBitVec.toNat = _
  rw [Int64.toBitVec_and, BitVec.toNat_and]; rfl
theorem nL_add (x y : Int64) (h : nL x + nL y < 2 ^ 64) : nL (x + y) = nL x + nL y := by
  show (x.toBitVec + y.toBitVec).toNat = _
  rw [BitVec.toNat_add]
  exact Nat.mod_eq_of_lt h
theorem nL_sub (x y : Int64) (h : nL y ≤ nL x) : nL (x - y) = nL x - nL y := by
  show (x.toBitVec - y.toBitVec).toNat = _
  rw [BitVec.toNat_sub_of_le (by exact h)]; rfl
theorem nL_shr (x : Int64) (k : UInt64) (n : Nat) (hk : (k % 64).toBitVec = BitVec.ofNat 64 n) (hn : n < 64) : nL (x.toUInt64 >>> k).toInt64 = nL x / 2 ^ n := by
  show (x.toBitVec >>> ((k % 64).toBitVec)).toNat = _
  rw [hk, BitVec.ushiftRight_eq', BitVec.toNat_ushiftRight, BitVec.toNat_ofNat, Nat.mod_eq_of_lt (by omega), Nat.shiftRight_eq_div_pow]
  rfl
theorem nL_byte (N : Nat) (h : N < 2 ^ 64) : N = B8 (N % 256) (N / 256 % 256) (N / 65536 % 256) (N / 16777216 % 256) (N / 4294967296 % 256) (N / 1099511627776 % 256) (N / 281474976710656 % 256) (N / 72057594037927936 % 256) := by
  unfold B8
  omega
theorem p8_bits : ∀ b : Fin 256, p8 b.val = cntB (fun i => b.val.testBit i) 0 8 := by decide +kernel
theorem cntB_add (P : Nat → Bool) (a : Nat) (n : Nat) : ∀ m, cntB P a (n + m) = cntB P a n + cntB P (a + n) m
  | 0 => rfl
  | m + 1 => by
    show cntB P a (n + m) + (if P (a + (n + m)) then 1 else 0) = cntB P a n + (cntB P (a + n) m + (if P (a + n + m) then 1 else 0))
    rw [cntB_add P a n m, Nat.add_assoc, Nat.add_assoc a n m]
theorem p8_at (x : Int64) (k : Nat) (hk : k < 8) : p8 (nL x / 2 ^ (8 * k) % 256) = cntB (bitL x) (8 * k) 8 := by
  rw [p8_bits ⟨_, Nat.mod_lt _ (by decide)⟩]
  have : ∀ i, i < 8 → (nL x / 2 ^ (8 * k) % 256).testBit i = bitL x (8 * k + i) := by
    intro i hi
    rw [bitL_bv x (by omega), show (256 : Nat) = 2 ^ 8 by rfl, Nat.testBit_mod_two_pow, Nat.testBit_div_two_pow, decide_eq_true hi, Bool.true_and]
    show _ = x.toBitVec.toNat.testBit _
    rw [Nat.add_comm]; rfl
  have h2 : ∀ n, n ≤ 8 → cntB (fun i => (nL x / 2 ^ (8 * k) % 256).testBit i) 0 n = cntB (bitL x) (8 * k) n := by
    intro n
    induction n with
    | zero => intro _; rfl
    | succ n ih =>
      intro hn
      show cntB _ 0 n + (if (nL x / 2 ^ (8 * k) % 256).testBit (0 + n) then 1 else 0) = _
      rw [ih (by omega), Nat.zero_add, this n (by omega)]
      rfl
  exact h2 8 (Nat.le_refl _)
theorem bc_eq (x : Int64) : bcF x = nI (cntB (bitL x) 0 64) := by
  have hN := nL_byte (nL x) (nL_lt x)
  have hb : ∀ n, n % 256 < 256 := fun n => Nat.mod_lt _ (by decide)
  have c0 := p8_at x 0 (by omega)
  have c1 := p8_at x 1 (by omega)
  have c2 := p8_at x 2 (by omega)
  have c3 := p8_at x 3 (by omega)
  have c4 := p8_at x 4 (by omega)
  have c5 := p8_at x 5 (by omega)
  have c6 := p8_at x 6 (by omega)
  have c7 := p8_at x 7 (by omega)
  have hsum : cntB (bitL x) 0 64 = p8 (nL x % 256) + p8 (nL x / 256 % 256) + p8 (nL x / 65536 % 256) + p8 (nL x / 16777216 % 256) + p8 (nL x / 4294967296 % 256) + p8 (nL x / 1099511627776 % 256) + p8 (nL x / 281474976710656 % 256) + p8 (nL x / 72057594037927936 % 256) := by
    rw [show 2 ^ (8 * 0) = 1 by rfl, Nat.div_one] at c0
    rw [show 2 ^ (8 * 1) = 256 by rfl] at c1
    rw [show 2 ^ (8 * 2) = 65536 by rfl] at c2
    rw [show 2 ^ (8 * 3) = 16777216 by rfl] at c3
    rw [show 2 ^ (8 * 4) = 4294967296 by rfl] at c4
    rw [show 2 ^ (8 * 5) = 1099511627776 by rfl] at c5
    rw [show 2 ^ (8 * 6) = 281474976710656 by rfl] at c6
    rw [show 2 ^ (8 * 7) = 72057594037927936 by rfl] at c7
    rw [c0, c1, c2, c3, c4, c5, c6, c7, show (64 : Nat) = 8 + 8 + 8 + 8 + 8 + 8 + 8 + 8 by rfl, cntB_add, cntB_add, cntB_add, cntB_add, cntB_add, cntB_add, cntB_add]
  have e1 : nL (bc1 x) = S1 6148914691236517205 (nL x) := by
    have a1 : nL ((x.toUInt64 >>> ((nI 1).toInt64.toUInt64 &&& Int64.toUInt64 63)).toInt64 &&& 6148914691236517205) = (nL x / 2) &&& 6148914691236517205 := by
      rw [nL_and, nL_shr x _ 1 (by decide) (by omega)]; rfl
    unfold bc1
    rw [nL_sub _ _ (by rw [a1]; exact half_le _ _), a1]
    rfl
  have hq1 := fun b => q1_lt ⟨b % 256, hb b⟩
  have hq2 := fun b => q2_le ⟨b % 256, hb b⟩
  have hq3 := fun b => p8_le ⟨b % 256, hb b⟩
  simp only at hq1 hq2 hq3
  rw [hN, S1_8 _ _ _ _ _ _ _ _ (hb _) (hb _) (hb _) (hb _) (hb _) (hb _) (hb _) (hb _)] at e1
  generalize bc1x : bc1 x = y1 at *
  have e2 : nL (bc2 y1) = S2 3689348814741910323 (nL y1) := by
    have a1 : nL (y1 &&& 3689348814741910323) = nL y1 &&& 3689348814741910323 := by rw [nL_and]; rfl
    have a2 : nL ((y1.toUInt64 >>> ((nI 2).toInt64.toUInt64 &&& Int64.toUInt64 63)).toInt64 &&& 3689348814741910323) = (nL y1 / 4) &&& 3689348814741910323 := by
      rw [nL_and, nL_shr y1 _ 2 (by decide) (by omega)]; rfl
    unfold bc2
    rw [nL_add, a1, a2]
    · rfl
    · rw [a1, a2]
      have h1 : nL y1 &&& 3689348814741910323 ≤ 3689348814741910323 := Nat.and_le_right
      have h2 : nL y1 / 4 &&& 3689348814741910323 ≤ 3689348814741910323 := Nat.and_le_right
      omega
  rw [e1, S2_8 _ _ _ _ _ _ _ _ (hq1 _) (hq1 _) (hq1 _) (hq1 _) (hq1 _) (hq1 _) (hq1 _) (hq1 _)] at e2
  have e3 : nL (bc3 (bc2 y1)) = S3 1085102592571150095 (nL (bc2 y1)) := by
    have a1 : nL ((bc2 y1).toUInt64 >>> ((nI 4).toInt64.toUInt64 &&& Int64.toUInt64 63)).toInt64 = nL (bc2 y1) / 16 := by
      rw [nL_shr _ _ 4 (by decide) (by omega)]
    unfold bc3
    rw [nL_and, nL_add, a1]
    · rfl
    · rw [a1, e2]
      have z0 := (hq2 (nL x)).1
      have z1 := (hq2 (nL x / 256)).1
      have z2 := (hq2 (nL x / 65536)).1
      have z3 := (hq2 (nL x / 16777216)).1
      have z4 := (hq2 (nL x / 4294967296)).1
      have z5 := (hq2 (nL x / 1099511627776)).1
      have z6 := (hq2 (nL x / 281474976710656)).1
      have z7 := (hq2 (nL x / 72057594037927936)).1
      unfold B8
      omega
  rw [e2, S3_8 _ _ _ _ _ _ _ _ (hq2 _) (hq2 _) (hq2 _) (hq2 _) (hq2 _) (hq2 _) (hq2 _) (hq2 _)] at e3
  unfold bcF
  rw [bc1x]
  generalize bc3 (bc2 y1) = y3 at *
  have hs := sum8 (p8 (nL x % 256)) (p8 (nL x / 256 % 256)) (p8 (nL x / 65536 % 256)) (p8 (nL x / 16777216 % 256)) (p8 (nL x / 4294967296 % 256)) (p8 (nL x / 1099511627776 % 256)) (p8 (nL x / 281474976710656 % 256)) (p8 (nL x / 72057594037927936 % 256)) (hq3 _) (hq3 _) (hq3 _) (hq3 _) (hq3 _) (hq3 _) (hq3 _) (hq3 _) _ _ rfl rfl
  have e3' : nL y3 = B8 (p8 (nL x % 256)) (p8 (nL x / 256 % 256)) (p8 (nL x / 65536 % 256)) (p8 (nL x / 16777216 % 256)) (p8 (nL x / 4294967296 % 256)) (p8 (nL x / 1099511627776 % 256)) (p8 (nL x / 281474976710656 % 256)) (p8 (nL x / 72057594037927936 % 256)) := e3
  rw [← hsum, ← e3'] at hs
  obtain ⟨s1, s2, s3, s4⟩ := hs
  have g4 : nL (bc4 y3) = nL y3 + nL y3 / 256 := by
    have a1 : nL (y3.toUInt64 >>> ((nI 8).toInt64.toUInt64 &&& Int64.toUInt64 63)).toInt64 = nL y3 / 256 := nL_shr _ _ 8 (by decide) (by omega)
    unfold bc4
    rw [nL_add _ _ (by rw [a1]; omega), a1]
  have g5 : nL (bc5 (bc4 y3)) = nL (bc4 y3) + nL (bc4 y3) / 65536 := by
    have a1 : nL ((bc4 y3).toUInt64 >>> ((nI 16).toInt64.toUInt64 &&& Int64.toUInt64 63)).toInt64 = nL (bc4 y3) / 65536 := nL_shr _ _ 16 (by decide) (by omega)
    unfold bc5
    rw [nL_add _ _ (by rw [a1, g4]; omega), a1]
  rw [g4] at g5
  rw [← g5] at s2 s3 s4
  have g6 : nL (bc6 (bc5 (bc4 y3))) = nL (bc5 (bc4 y3)) + nL (bc5 (bc4 y3)) / 4294967296 := by
    have a1 : nL ((bc5 (bc4 y3)).toUInt64 >>> ((nI 32).toInt64.toUInt64 &&& Int64.toUInt64 63)).toInt64 = nL (bc5 (bc4 y3)) / 4294967296 := nL_shr _ _ 32 (by decide) (by omega)
    unfold bc6
    rw [nL_add _ _ (by rw [a1]; omega), a1]
  rw [← g6] at s4
  rw [← s4]
  apply Int32.toBitVec_inj.mp
  apply BitVec.eq_of_toNat_eq
  rw [Int32.toBitVec_and, BitVec.toNat_and, Int64.toBitVec_toInt32]
  show _ = (BitVec.ofNat 32 (nL _ % 128)).toNat
  rw [BitVec.toNat_ofNat, Nat.mod_eq_of_lt (by omega), show (nI 127).toBitVec.toNat = 2 ^ 7 - 1 by decide, Nat.and_two_pow_sub_one_eq_mod, BitVec.signExtend_eq_setWidth_of_le _ (by omega), BitVec.toNat_setWidth]
  show nL _ % 2 ^ 32 % 2 ^ 7 = nL _ % 128
  omega
