set_option maxRecDepth 100000
theorem nm1 {k : Nat} (h : k < 2 ^ 31) : ¬ nI k = -1 := nI_nm1 h
theorem plI_m1 {o : Option Nat} (h : ∀ k, o = some k → k < 64) : plI o = -1 ↔ o = none := by
  cases o with
  | none => simp [plI]
  | some k =>
    have := h k rfl
    simp only [plI]
    constructor
    · intro q; exact absurd q (nm1 (by omega))
    · intro q; cases q
theorem plI_eq {o : Option Nat} {k : Nat} (h : ∀ k, o = some k → k < 64) (hk : k < 64) : plI o = nI k ↔ o = some k := by
  cases o with
  | none =>
    simp only [plI]
    constructor
    · intro q; exact absurd q.symm (nm1 (by omega))
    · intro q; cases q
  | some j =>
    have := h j rfl
    simp only [plI, Option.some.injEq]
    exact nI_eq (by omega) (by omega)
theorem pg_ix {x : Int32} (h : ¬ x < 0 ∧ ¬ nI 30 ≤ x) : ∃ j : Nat, j < 30 ∧ x = nI j ∧ x.toNatClampNeg = j := by
  obtain ⟨j, hj, hx⟩ : ∃ j : Nat, j < 30 ∧ x = nI j := (pk_ix x (n := 30) (by omega)).elim (fun q => absurd q h.1) (fun q => q.elim (fun q => absurd q h.2) id)
  exact ⟨j, hj, hx, by rw [hx]; exact nI_clamp (by omega)⟩
theorem pgOf_some {pl : Nat → Option Nat} {x : Int32} {k : Nat} (h : pgOf pl x = some k) : ∃ j : Nat, j < 30 ∧ x = nI j ∧ x.toNatClampNeg = j ∧ pl j = some k := by
  unfold pgOf at h
  by_cases c : ¬ x < 0 ∧ ¬ nI 30 ≤ x
  · rw [if_pos c] at h
    obtain ⟨j, h1, h2, h3⟩ := pg_ix c
    exact ⟨j, h1, h2, h3, by rw [← h3]; exact h⟩
  · rw [if_neg c] at h; cases h
theorem pgOf_nI {pl : Nat → Option Nat} {j : Nat} (hj : j < 30) : pgOf pl (nI j) = pl j := by
  unfold pgOf
  rw [if_pos ⟨nI_pos (by omega), fun q => by have := (nI_leI (by omega) (by omega)).mp q; omega⟩, nI_clamp (by omega)]
section BR
variable {cn fi be ne ke : Nat} {dk : Sec} {wt : List (Nat × Sec)} {ld : Nat → Option Sec} {pl : Nat → Option Nat} {st kp : List (Int32 × Int64)} {fD fL fO : Nat → Int32} {z : Nat → Bool} {fP fT fY fN : Nat → Int32} {fS : Nat → Int64} {fKn : Nat → Int32} {fK : Nat → Int64}
theorem br_pl (hcn : cn ≤ 64) (hp : ∀ p k, p < 30 → pl p = some k → 2 ≤ k ∧ k < cn) {p : Nat} (h : p < 30) : ∀ k, pl p = some k → k < 64 := fun k q => by have := hp p k h q; omega
theorem br_pg (hcn : cn ≤ 64) (hp : ∀ p k, p < 30 → pl p = some k → 2 ≤ k ∧ k < cn) (r5 : ∀ p, p < 30 → fP p = plI (pl p)) (x : Int32) : isPgI fP x = (pgOf pl x).isSome := by
  unfold isPgI pgOf
  by_cases c : ¬ x < 0 ∧ ¬ nI 30 ≤ x
  · obtain ⟨j, h1, h2, h3⟩ := pg_ix c
    rw [if_pos c, h3, r5 j h1]
    cases hj : pl j with
    | none => simp [plI]
    | some k =>
      have hk := br_pl hcn hp h1 k hj
      rw [decide_eq_true]
      · rfl
      · exact ⟨c.1, c.2, nm1 (by omega)⟩
  · rw [if_neg c, decide_eq_false]
    · rfl
    · exact fun q => c ⟨q.1, q.2.1⟩
theorem br_op (hcn : cn ≤ 64) (hp : ∀ p k, p < 30 → pl p = some k → 2 ≤ k ∧ k < cn) (r5 : ∀ p, p < 30 → fP p = plI (pl p)) {k : Nat} (hk : k < 64) : opM fP k = anyB (fun p => decide (pl p = some k)) 30 := by
  have e : ∀ n, n ≤ 30 → anyB (fun p => decide (fP p = nI k)) n = anyB (fun p => decide (pl p = some k)) n := by
    intro n
    induction n with
    | zero => intro _; rfl
    | succ n ih =>
      intro hn
      show (anyB _ n || decide (fP n = nI k)) = (anyB _ n || decide (pl n = some k))
      rw [ih (by omega), r5 n (by omega)]
      congr 1
      exact decide_eq_decide.mpr (plI_eq (br_pl hcn hp (by omega)) hk)
  exact e 30 (Nat.le_refl _)
theorem anyB_list {α : Type} (l : List α) (P : α → Bool) (Q : Nat → Bool) (h : ∀ (i : Nat) (x : α), l[i]? = some x → Q i = P x) : anyB Q l.length = l.any P := by
  rw [Bool.eq_iff_iff, anyB_iff, List.any_eq_true]
  constructor
  · rintro ⟨i, hi, hq⟩
    have e := List.getElem?_eq_getElem hi
    exact ⟨l[i], List.getElem_mem hi, by rw [← h i _ e]; exact hq⟩
  · rintro ⟨x, hx, hP⟩
    obtain ⟨i, hi⟩ := List.getElem?_of_mem hx
    exact ⟨i, (List.getElem?_eq_some_iff.mp hi).1, by rw [h i x hi]; exact hP⟩
theorem br_wa (hwt : ∀ x, x ∈ wt → x.1 < cn ∧ (x.1 < 2 → x.2 16 = 0)) (hcn : cn ≤ 64) (r6 : fi + wt.length = be) (r7 : ∀ (i : Nat) (x : Nat × Sec), wt[i]? = some x → fT (fi + i) = nI x.1 ∧ ∀ j, j < 32 → fY (32 * (fi + i) + j) = ub (x.2 j)) {k : Nat} (hk : k < 64) : waM fT fi be k = wt.any (fun x => decide (x.1 = k)) := by
  unfold waM
  rw [show be - fi = wt.length by omega]
  refine anyB_list wt _ _ (fun i x hx => ?_)
  have := hwt x (List.mem_of_getElem? hx)
  rw [(r7 i x hx).1]
  exact decide_eq_decide.mpr (nI_eq (by omega) (by omega))
theorem br_hel (hcn : cn ≤ 64) (hp : ∀ p k, p < 30 → pl p = some k → 2 ≤ k ∧ k < cn) (hwt : ∀ x, x ∈ wt → x.1 < cn ∧ (x.1 < 2 → x.2 16 = 0)) (r5 : ∀ p, p < 30 → fP p = plI (pl p)) (r6 : fi + wt.length = be) (r7 : ∀ (i : Nat) (x : Nat × Sec), wt[i]? = some x → fT (fi + i) = nI x.1 ∧ ∀ j, j < 32 → fY (32 * (fi + i) + j) = ub (x.2 j)) (r8 : ne + 1 = st.length) (r9 : ∀ (i : Nat) (x : Int32 × Int64), st[i]? = some x → fN i = x.1 ∧ fS i = x.2) (r10 : ke = kp.length) (r11 : ∀ (i : Nat) (x : Int32 × Int64), kp[i]? = some x → fKn i = x.1 ∧ fK i = x.2) {k : Nat} (hk : k < 64) : heM fP fT fS fK fi be ne ke k = hel wt pl st kp k := by
  unfold heM hel
  rw [br_op hcn hp r5 hk, br_wa hwt hcn r6 r7 hk, r8, r10, anyB_list st (fun s => bitL s.2 k) _ (fun i x hx => by rw [(r9 i x hx).2]), anyB_list kp (fun s => bitL s.2 k) _ (fun i x hx => by rw [(r11 i x hx).2])]
theorem br_frS (hcn : 2 ≤ cn ∧ cn ≤ 64) (h : ∀ k, k < 64 → heM fP fT fS fK fi be ne ke k = hel wt pl st kp k) : lf (heM fP fT fS fK fi be ne ke) (cn - 2) 2 = frS cn wt pl st kp := lf_congr _ _ (fun j h1 h2 => h j (by omega))
theorem br_frP (hcn : cn ≤ 64) (hp : ∀ p k, p < 30 → pl p = some k → 2 ≤ k ∧ k < cn) (r5 : ∀ p, p < 30 → fP p = plI (pl p)) : lf (fun p => decide (¬ fP p = -1)) 30 0 = frP pl := by
  refine lf_congr _ _ (fun j h1 h2 => ?_)
  rw [r5 j (by omega)]
  have := plI_m1 (o := pl j) (br_pl hcn hp (by omega))
  cases hj : pl j with
  | none => simp [plI]
  | some k =>
    rw [hj] at this
    have hne : ¬ plI (some k) = -1 := fun q => by have := this.mp q; cases this
    simp [hne]
theorem br_by (r2 : ∀ k i, k < 64 → i < 32 → fL (32 * k + i) = ub (lat dk wt k i)) (r3 : ∀ k c i, k < 64 → ld k = some c → i < 32 → fO (32 * k + i) = ub (c i)) (r4 : ∀ k, k < 64 → z k = (ld k).isSome) {k i : Nat} (hk : k < 64) (hi : i < 32) : (if z k then fO (32 * k + i) else fL (32 * k + i)) = ub (cur dk wt ld k i) := by
  rw [r4 k hk]
  unfold cur
  cases hl : ld k with
  | none => exact r2 k i hk hi
  | some c => exact r3 k c i hk hl hi
theorem numI_congr {f h : Nat → Int32} {a : Nat} (e : ∀ i, i < 4 → f (a + i) = h (a + i)) : numI f a = numI h a := by
  unfold numI
  have e0 := e 0 (by omega)
  rw [Nat.add_zero] at e0
  rw [e0, e 1 (by omega), e 2 (by omega), e 3 (by omega)]
theorem numI_shift {f h : Nat → Int32} {a b : Nat} (e : ∀ i, i < 4 → f (a + i) = h (b + i)) : numI f a = numI h b := by
  unfold numI
  have e0 := e 0 (by omega)
  rw [Nat.add_zero, Nat.add_zero] at e0
  rw [e0, e 1 (by omega), e 2 (by omega), e 3 (by omega)]
theorem wideI_shift {f h : Nat → Int32} {a b : Nat} (e : ∀ i, i < 8 → f (a + i) = h (b + i)) : wideI f a = wideI h b := by
  unfold wideI
  rw [numI_shift (fun i hi => e i (by omega)), numI_shift (a := a + 4) (b := b + 4) (fun i hi => by have := e (4 + i) (by omega); rw [← Nat.add_assoc, ← Nat.add_assoc] at this; exact this)]
theorem sumTo_congr {f h : Nat → Int32} : ∀ n, (∀ i, i < n → f (4 + i) = h (4 + i)) → sumTo f n = sumTo h n := by
  intro n
  induction n with
  | zero => intro _; rfl
  | succ n ih =>
    intro e
    show stepS (sumTo f n) (f (4 + n)) = stepS (sumTo h n) (h (4 + n))
    rw [ih (fun i hi => e i (by omega)), e n (by omega)]
theorem sumI_congr {f h : Nat → Int32} (e : ∀ i, 4 ≤ i → i < 32 → f i = h i) : sumI f = sumI h := sumTo_congr 28 (fun i hi => e (4 + i) (by omega) (by omega))
theorem br_row {f : Nat → Int32} {c : Sec} {k : Nat} (e : ∀ i, i < 32 → f (32 * k + i) = ub (c i)) : rightI f k = rightB c ∧ numI f (32 * k) = numB c 0 ∧ ∀ a, a + 8 ≤ 32 → wideI f (32 * k + a) = wideB c a := by
  have h1 : numI f (32 * k) = numB c 0 := numI_shift (h := fun j => ub (c j)) (b := 0) (fun i hi => by rw [Nat.zero_add]; exact e i (by omega))
  have h2 : sumI (fun i => f (32 * k + i)) = sumB c := sumI_congr (fun i h1 h2 => e i h2)
  refine ⟨?_, h1, fun a ha => ?_⟩
  · unfold rightI rightB
    rw [h1, h2]
  · exact wideI_shift (h := fun j => ub (c j)) (b := a) (fun i hi => by rw [Nat.add_assoc]; exact e (a + i) (by omega))
theorem br_num {f : Nat → Int32} {c : Sec} {k a : Nat} (e : ∀ i, i < 32 → f (32 * k + i) = ub (c i)) (ha : a + 4 ≤ 32) : numI f (32 * k + a) = numB c a := numI_shift (h := fun j => ub (c j)) (b := a) (fun i hi => by rw [Nat.add_assoc]; exact e (a + i) (by omega))
theorem br_val (r2 : ∀ k i, k < 64 → i < 32 → fL (32 * k + i) = ub (lat dk wt k i)) (r3 : ∀ k c i, k < 64 → ld k = some c → i < 32 → fO (32 * k + i) = ub (c i)) (r4 : ∀ k, k < 64 → z k = (ld k).isSome) {k : Nat} (hk : k < 64) : (if z k then wideI fO (32 * k + 8) else wideI fL (32 * k + 8)) = wideB (cur dk wt ld k) 8 := by
  rw [r4 k hk]
  unfold cur
  cases hl : ld k with
  | none => exact (br_row (fun i hi => r2 k i hk hi)).2.2 8 (by omega)
  | some c => exact (br_row (fun i hi => r3 k c i hk hl hi)).2.2 8 (by omega)
end BR
theorem i8_all {P : Int8 → Prop} (h : ∀ n : Fin 256, P (Int8.ofNat n.val)) (b : Int8) : P b := by
  have e : b = Int8.ofNat b.toBitVec.toNat := by
    apply Int8.toBitVec_inj.mp
    apply BitVec.eq_of_toNat_eq
    simp [Int8.ofNat]
  rw [e]
  exact h ⟨b.toBitVec.toNat, b.toBitVec.isLt⟩
theorem kind_ub (b : Int8) : (if ub b ≤ nI 127 then ub b else ub b - nI 256) = b.toInt32 := i8_all (P := fun b => (if ub b ≤ nI 127 then ub b else ub b - nI 256) = b.toInt32) (by decide +kernel) b
theorem ub_lt (b : Int8) : ∃ n, n < 256 ∧ ub b = nI n := i8_all (P := fun b => ∃ n, n < 256 ∧ ub b = nI n) (fun n => ⟨n.val, n.isLt, (by decide +kernel : ∀ n : Fin 256, ub (Int8.ofNat n.val) = nI n.val) n⟩) b
theorem ub_nI {n : Nat} (h : n < 256) : ub (nI n).toInt8 = nI n := (by decide +kernel : ∀ n : Fin 256, ub (nI n.val).toInt8 = nI n.val) ⟨n, h⟩
theorem ub_inj {a b : Int8} (h : ub a = ub b) : a = b := by
  have k : ∀ n : Fin 256, (ub (Int8.ofNat n.val)).toInt8 = Int8.ofNat n.val := by decide +kernel
  have k2 : ∀ c : Int8, (ub c).toInt8 = c := fun c => i8_all (P := fun c => (ub c).toInt8 = c) k c
  rw [← k2 a, ← k2 b, h]
