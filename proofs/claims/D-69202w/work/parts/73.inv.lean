set_option maxRecDepth 100000
/-! what holds of the abstract disk is kept by every call -/
theorem inv_lay {σ : KS} (h : InvK σ) (kd : Int32) (pg : Option Nat) (so : Int32) (x : Int64) : InvK (layF σ kd pg so x).2 := by
  obtain ⟨cn, ru, fu, ch, dk, wt, ld, pl, st, kp⟩ := σ
  obtain ⟨i1, i2, i3, i4, i5, i6, i7, i8, i9⟩ := id h
  cases pg with
  | none => exact h
  | some p =>
    unfold layF
    dsimp only
    split
    · rename_i c
      obtain ⟨l1, l2, l3⟩ := lf_spec (hel wt pl st kp) (cn - 2) 2
      have l1 : 2 ≤ frS cn wt pl st kp := l1
      refine ⟨i1, fun q k hq hk => ?_, fun k d hk => ?_, i4, i5, i6, i7, i8, i9⟩
      · unfold va_up at hk
        split at hk
        · cases hk; exact ⟨l1, c.1⟩
        · exact i2 q k hq hk
      · dsimp only at hk
        split at hk
        · rename_i e
          cases hk
          rw [e]
          exact ⟨⟨l1, c.1⟩, closeB_i _⟩
        · split at hk
          · cases hk
          · exact i3 k d hk
    · exact h
theorem inv_page {σ : KS} (h : InvK σ) (kd x : Int32) (y : Int64) : InvK (opPage σ kd x y).2 := by
  obtain ⟨cn, ru, fu, ch, dk, wt, ld, pl, st, kp⟩ := σ
  obtain ⟨i1, i2, i3, i4, i5, i6, i7, i8, i9⟩ := id h
  unfold opPage
  dsimp only
  split
  · exact h
  · split
    · exact h
    · split
      · exact inv_lay h _ _ _ _
      · cases hp : pgOf pl x with
        | none => exact h
        | some k =>
          dsimp only
          split
          · split
            · exact h
            · exact inv_lay h _ _ _ _
          · split
            · exact inv_lay h _ _ _ _
            · refine ⟨i1, fun q k hq hk => ?_, fun k d hk => ?_, i4, i5, i6, i7, i8, i9⟩
              · unfold va_up at hk
                split at hk
                · cases hk
                · exact i2 q k hq hk
              · unfold va_up at hk
                split at hk
                · cases hk
                · exact i3 k d hk
theorem inv_derived {σ : KS} (h : InvK σ) (x : Int32) : InvK (opDerived σ x).2 := by
  obtain ⟨cn, ru, fu, ch, dk, wt, ld, pl, st, kp⟩ := σ
  unfold opDerived
  dsimp only
  split
  · exact h
  · cases hp : pgOf pl x with
    | none => exact h
    | some k =>
      dsimp only
      split
      · cases hq : pgOf pl (ub (cur dk wt ld k 6)) with
        | none => exact h
        | some k2 =>
          dsimp only
          split
          · exact h
          · exact inv_lay h _ _ _ _
      · exact h
theorem inv_full {σ : KS} (h : InvK σ) (b : Bool) : InvK (opFull σ b).2 := by
  obtain ⟨cn, ru, fu, ch, dk, wt, ld, pl, st, kp⟩ := σ
  exact h
theorem inv_poke {σ : KS} (h : InvK σ) (x i m : Int32) : InvK (opPoke σ x i m).2 := by
  obtain ⟨cn, ru, fu, ch, dk, wt, ld, pl, st, kp⟩ := σ
  obtain ⟨i1, i2, i3, i4, i5, i6, i7, i8, i9⟩ := id h
  unfold opPoke
  dsimp only
  split
  · exact h
  · cases hp : pgOf pl x with
    | none => exact h
    | some k =>
      dsimp only
      obtain ⟨j, j1, j2, j3, j4⟩ := pgOf_some hp
      have hk := i2 j k j1 j4
      split
      · exact h
      · split
        · exact h
        · refine ⟨i1, i2, i3, i4, ?_, i6, i7, i8, i9⟩
          unfold va_up
          rw [if_neg (by omega), if_neg (by omega)]
          exact i5
theorem inv_wrong {σ : KS} (h : InvK σ) (x : Int32) : InvK (opWrong σ x).2 := by
  obtain ⟨cn, ru, fu, ch, dk, wt, ld, pl, st, kp⟩ := σ
  unfold opWrong
  dsimp only
  split
  · exact h
  · split
    · exact h
    · split
      · exact h
      · split
        · split <;> exact h
        · exact h
theorem lastS_mem {st : List (Int32 × Int64)} (h : st ≠ []) : lastS st ∈ st := by
  unfold lastS
  have hl : st.length - 1 < st.length := by
    have := List.length_pos_iff.mpr h
    omega
  rw [List.getD_eq_getElem?_getD, List.getElem?_eq_getElem hl]
  exact List.getElem_mem hl
theorem inv_backup {σ : KS} (h : InvK σ) (n : Int32) : InvK (opBackup σ n).2 := by
  obtain ⟨cn, ru, fu, ch, dk, wt, ld, pl, st, kp⟩ := σ
  obtain ⟨i1, i2, i3, i4, i5, i6, i7, i8, i9⟩ := id h
  unfold opBackup
  dsimp only
  split
  · exact h
  · split
    · split
      · exact h
      · refine ⟨i1, i2, i3, i4, i5, i6, i7, fun x hx => ?_, ?_⟩
        · rcases List.mem_append.mp hx with q | q
          · exact i8 x q
          · rw [List.mem_singleton.mp q]
            exact (i7 _ (lastS_mem i6)).2
        · rw [List.length_append]
          show kp.length + 1 ≤ 4
          omega
    · exact h
theorem inv_drop {σ : KS} (h : InvK σ) (n : Int32) : InvK (opDrop σ n).2 := by
  obtain ⟨cn, ru, fu, ch, dk, wt, ld, pl, st, kp⟩ := σ
  obtain ⟨i1, i2, i3, i4, i5, i6, i7, i8, i9⟩ := id h
  unfold opDrop
  dsimp only
  split
  · exact h
  · split
    · refine ⟨i1, i2, i3, i4, i5, i6, i7, fun x hx => i8 x (List.mem_of_mem_eraseIdx hx), ?_⟩
      have := List.length_eraseIdx_le kp (keptAt kp n)
      omega
    · exact h
theorem byV_0 {n : Int32} (h0 : 0 ≤ n) (h1 : n ≤ 1000000) : byV n 0 = 0 := by
  have h0 : (0 : Int) ≤ n.toInt := Int32.le_iff_toInt_le.mp h0
  have h1 : n.toInt ≤ 1000000 := Int32.le_iff_toInt_le.mp h1
  have hz : n >>> (nI 24 &&& 31) = 0 := by
    apply Int32.toBitVec_inj.mp
    rw [Int32.toBitVec_shiftRight, show ((nI 24 &&& 31).toBitVec.smod 32) = 24#32 by decide]
    apply BitVec.eq_of_toInt_eq
    rw [show n.toBitVec.sshiftRight' 24#32 = n.toBitVec.sshiftRight 24 from rfl, BitVec.toInt_sshiftRight]
    show n.toInt >>> 24 = 0
    rw [Int.shiftRight_eq_div_pow]
    omega
  show (n >>> (nI (24 - 8 * 0) &&& 31)).toInt8 = 0
  rw [show (24 - 8 * 0 : Nat) = 24 from rfl, hz]
  decide
theorem headC_16 {s : Int64} {n all : Int32} (h0 : 0 ≤ n) (h1 : n ≤ 1000000) : headC s n all 16 = 0 := by
  unfold headC
  rw [closeB_4 _ (by omega)]
  unfold setB
  simp only [setK]
  rw [if_neg (by omega), if_pos (by omega)]
  exact byV_0 h0 h1
theorem inv_commit {σ : KS} (h : InvK σ) (n : Int32) : InvK (opCommit σ n).2 := by
  obtain ⟨cn, ru, fu, ch, dk, wt, ld, pl, st, kp⟩ := σ
  obtain ⟨i1, i2, i3, i4, i5, i6, i7, i8, i9⟩ := id h
  unfold opCommit
  dsimp only
  split
  · exact h
  · split
    · exact h
    · rename_i c
      have h1 : n ≤ 1000000 := Int32.not_lt.mp (fun q => c (Or.inr q))
      have h0 : 0 ≤ n := by
        have a := (i7 _ (lastS_mem i6)).1
        have b : ¬ n ≤ (lastS st).1 := fun q => c (Or.inl q)
        rw [Int32.le_iff_toInt_le] at a b ⊢
        omega
      refine ⟨i1, i2, (fun k d q => by cases q), fun x hx => ?_, i5, by simp, fun x hx => ?_, i8, i9⟩
      · rcases List.mem_append.mp hx with q | q
        · rcases List.mem_append.mp q with q | q
          · exact i4 x q
          · have := comW_mem _ q
            exact ⟨by omega, fun z => by omega⟩
        · rw [List.mem_singleton.mp q]
          exact ⟨by show n.toNatClampNeg % 2 < cn; omega, fun _ => headC_16 (s := openL pl 30) (all := comX dk (wt ++ comW ld n (cn - 2)) (openL pl 30) (cn - 2)) h0 h1⟩
      · rcases List.mem_append.mp hx with q | q
        · exact i7 x q
        · rw [List.mem_singleton.mp q]
          have hb : ∀ k, k < 2 → bitL (openL pl 30) k = false := by
            intro k hk
            rw [openL_bit 30 (fun p k hp hq => by have := i2 p k hp hq; omega) (by omega)]
            cases z : anyB (fun p => decide (pl p = some k)) 30 with
            | false => rfl
            | true =>
              obtain ⟨p, p1, p2⟩ := anyB_iff.mp z
              have := i2 p k p1 (of_decide_eq_true p2)
              omega
          exact ⟨h0, hb 0 (by omega), hb 1 (by omega)⟩
theorem wrD_16 {d : Sec} {x : Nat × Sec} {n : Nat} (hn : n ≤ 32) (h : d 16 = 0 ∧ d 48 = 0) (hx : x.1 < 2 → x.2 16 = 0) : wrD d x n 16 = 0 ∧ wrD d x n 48 = 0 := by
  unfold wrD va_cpy
  constructor
  · split
    · rename_i c
      rw [show 0 + (16 - 32 * x.1) = 16 by omega]
      exact hx (by omega)
    · exact h.1
  · split
    · rename_i c
      rw [show 0 + (48 - 32 * x.1) = 16 by omega]
      exact hx (by omega)
    · exact h.2
theorem wrAll_16 : ∀ (wt : List (Nat × Sec)) (d : Sec), (d 16 = 0 ∧ d 48 = 0) → (∀ x, x ∈ wt → x.1 < 2 → x.2 16 = 0) → wrAll d wt 16 = 0 ∧ wrAll d wt 48 = 0
  | [], d, h, _ => h
  | x :: wt, d, h, hx => wrAll_16 wt (wrD d x 32) (wrD_16 (Nat.le_refl _) h (hx x (List.mem_cons_self ..))) (fun y hy => hx y (List.mem_cons_of_mem _ hy))
theorem cutD_16 : ∀ (wt : List (Nat × Sec)) (d : Sec) (k : Nat) (t : Int32), (d 16 = 0 ∧ d 48 = 0) → (∀ x, x ∈ wt → x.1 < 2 → x.2 16 = 0) → cutD d wt k t 16 = 0 ∧ cutD d wt k t 48 = 0
  | [], d, k, t, h, _ => h
  | x :: wt, d, 0, t, h, hx => wrD_16 (tearN_le t) h (hx x (List.mem_cons_self ..))
  | x :: wt, d, k + 1, t, h, hx => cutD_16 wt (wrD d x 32) k t (wrD_16 (Nat.le_refl _) h (hx x (List.mem_cons_self ..))) (fun y hy => hx y (List.mem_cons_of_mem _ hy))
theorem inv_sync {σ : KS} (h : InvK σ) : InvK (opSync σ).2 := by
  obtain ⟨cn, ru, fu, ch, dk, wt, ld, pl, st, kp⟩ := σ
  obtain ⟨i1, i2, i3, i4, i5, i6, i7, i8, i9⟩ := id h
  unfold opSync
  dsimp only
  split
  · exact h
  · refine ⟨i1, i2, i3, (fun x q => by cases q), wrAll_16 wt dk i5 (fun x hx => (i4 x hx).2), by simp, fun x hx => ?_, i8, i9⟩
    rw [List.mem_singleton.mp hx]
    exact i7 _ (lastS_mem i6)
theorem inv_begin {cn : Nat} {ru fu : Bool} {dk : Sec} (i1 : 8 ≤ cn ∧ cn ≤ 64) (i5 : dk 16 = 0 ∧ dk 48 = 0) : InvK (beginK cn ru fu dk (0, 0)) := by
  refine ⟨i1, (fun p k _ q => by cases q), (fun k d q => by cases q), (fun x q => by cases q), i5, by simp, fun x hx => ?_, (fun x q => by cases q), by simp⟩
  rw [List.mem_singleton.mp hx]
  exact ⟨by decide, bitL_0 (by omega), bitL_0 (by omega)⟩
theorem inv_cut {σ : KS} (h : InvK σ) (k t : Int32) : InvK (opCut σ k t) := by
  obtain ⟨cn, ru, fu, ch, dk, wt, ld, pl, st, kp⟩ := σ
  obtain ⟨i1, i2, i3, i4, i5, i6, i7, i8, i9⟩ := id h
  unfold opCut
  dsimp only
  split
  · exact h
  · exact inv_begin i1 (cutD_16 wt dk _ t i5 (fun x hx => (i4 x hx).2))
theorem inv_start {σ : KS} (h : InvK σ) : InvK (opStart σ).2 := by
  obtain ⟨cn, ru, fu, ch, dk, wt, ld, pl, st, kp⟩ := σ
  obtain ⟨i1, i2, i3, i4, i5, i6, i7, i8, i9⟩ := id h
  unfold opStart
  dsimp only
  split
  · exact h
  · exact inv_startJ i1 i5 (Nat.le_refl _)
theorem inv_init (x : Int32) : InvK (initK x) := inv_begin (cnOf_le x) ⟨rfl, rfl⟩
