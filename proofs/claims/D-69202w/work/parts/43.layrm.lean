set_option maxRecDepth 100000
theorem cntB_le {P Q : Nat → Bool} {a K : Nat} (h : ∀ j, j ≠ K → P j = true → Q j = true) : ∀ n, cntB P a n ≤ cntB Q a n + (if K < a + n then 1 else 0) := by
  intro n
  induction n with
  | zero => simp [cntB]
  | succ n ih =>
    rw [cntB_s, cntB_s]
    by_cases e : a + n = K
    · rw [if_neg (by omega)] at ih
      rw [if_pos (show K < a + (n + 1) by omega)]
      have : (if P (a + n) = true then 1 else 0) ≤ 1 := by split <;> omega
      omega
    · have h2 : (if P (a + n) = true then 1 else 0) ≤ (if Q (a + n) = true then 1 else 0) := by
        by_cases q : P (a + n) = true
        · rw [if_pos q, if_pos (h _ e q)]; exact Nat.le_refl 1
        · rw [if_neg q]; omega
      have h3 : (if K < a + n then 1 else 0) ≤ (if K < a + (n + 1) then 1 else 0) := by split <;> split <;> omega
      omega
theorem cntB_mono {P Q : Nat → Bool} {a : Nat} (h : ∀ j, P j = true → Q j = true) : ∀ n, cntB P a n ≤ cntB Q a n := by
  intro n
  induction n with
  | zero => exact Nat.le_refl _
  | succ n ih =>
    rw [cntB_s, cntB_s]
    have h2 : (if P (a + n) = true then 1 else 0) ≤ (if Q (a + n) = true then 1 else 0) := by
      by_cases q : P (a + n) = true
      · rw [if_pos q, if_pos (h _ q)]; exact Nat.le_refl 1
      · rw [if_neg q]; omega
    omega
theorem RM.mono {g : GG} {w : GW} {ad : Nat → Nat} {N : Nat} {σ : KS} (h : RM g w ad N σ) : RM g w ad (N + 1) σ := by
  obtain ⟨cn, ru, fu, ch, dk, wt, ld, pl, st, kp⟩ := σ
  obtain ⟨th, fi, be, ne, ke, fD, fL, fO, z, fP, fT, fY, fN, fS, fKn, fK, fH, hM, r1, r2, r3, r4, r5, r6, r7, r8, r9, r10, r11, r12, r13⟩ := h
  exact ⟨th, fi, be, ne, ke, fD, fL, fO, z, fP, fT, fY, fN, fS, fKn, fK, fH, hM, r1, r2, r3, r4, r5, r6, r7, r8, r9, r10, r11, by omega, by omega⟩
theorem lay_rm {g : GG} {w w' : GW} {ad : Nat → Nat} {N cn : Nat} {ru fu ch th : Bool} {fi be ne ke : Nat} {dk : Sec} {wt : List (Nat × Sec)} {ld : Nat → Option Sec} {pl : Nat → Option Nat} {st kp : List (Int32 × Int64)} {fD fL fO : Nat → Int32} {z : Nat → Bool} {fP fT fY fN : Nat → Int32} {fS : Nat → Int64} {fKn : Nat → Int32} {fK : Nat → Int64} {fH : Nat → Int32} {kd so K : Nat} {x r : Int32} {x8 : Int64} {pg : Option Nat}
    (hR : RM g w ad N (cn, ru, fu, ch, dk, wt, ld, pl, st, kp)) (hcn : cn ≤ 64) (hp : ∀ p k, p < 30 → pl p = some k → 2 ≤ k ∧ k < cn) (r1 : ∀ j, j < 2048 → fD j = ub (dk j)) (r2 : ∀ k i, k < 64 → i < 32 → fL (32 * k + i) = ub (lat dk wt k i)) (r3 : ∀ k c i, k < 64 → ld k = some c → i < 32 → fO (32 * k + i) = ub (c i)) (r4 : ∀ k, k < 64 → z k = (ld k).isSome) (r5 : ∀ p, p < 30 → fP p = plI (pl p)) (r6 : fi + wt.length = be) (r7 : ∀ (i : Nat) (x : Nat × Sec), wt[i]? = some x → fT (fi + i) = nI x.1 ∧ ∀ j, j < 32 → fY (32 * (fi + i) + j) = ub (x.2 j)) (r8 : ne + 1 = st.length) (r9 : ∀ (i : Nat) (x : Int32 × Int64), st[i]? = some x → fN i = x.1 ∧ fS i = x.2) (r10 : ke = kp.length) (r11 : ∀ (i : Nat) (x : Int32 × Int64), kp[i]? = some x → fKn i = x.1 ∧ fK i = x.2) (r12 : be + cntL ld ≤ N) (r13 : st.length ≤ N + 1)
    (hK : K = frS cn wt pl st kp) (hkd : kd < 256) (hso : so < 256) (hx : x = plI pg) (hpg : ∀ p, pg = some p → p < 30)
    (h : (x = -1 ∨ ¬ K < cn ∨ fu = true → r = -4 ∧ w' = w) ∧ (¬ (x = -1 ∨ ¬ K < cn ∨ fu = true) → ∃ p : Nat, p < 30 ∧ x = nI p ∧ r = x ∧ MW g w' ad cn ru fu true th fi be ne ke fD fL (layO fO K kd p so x8) (va_up (if fP p = -1 then z else va_up z (fP p).toNatClampNeg false) K true) (upd fP p (nI K)) fT fY fN fS fKn fK fH)) :
    r = (layF (cn, ru, fu, ch, dk, wt, ld, pl, st, kp) (nI kd) pg (nI so) x8).1 ∧ RM g w' ad (N + 1) (layF (cn, ru, fu, ch, dk, wt, ld, pl, st, kp) (nI kd) pg (nI so) x8).2 := by
  cases pg with
  | none =>
    obtain ⟨h1, h2⟩ := h.1 (Or.inl hx)
    rw [h2]
    exact ⟨h1, hR.mono⟩
  | some p =>
    have hp30 := hpg p rfl
    have hxp : x = nI p := hx
    by_cases c : K < cn ∧ fu = false
    · have hc : ¬ (x = -1 ∨ ¬ K < cn ∨ fu = true) := by
        rintro (q | q | q)
        · rw [hxp] at q; exact nm1 (by omega) q
        · exact q c.1
        · rw [c.2] at q; cases q
      obtain ⟨p', h1, h2, h3, hM⟩ := h.2 hc
      have : p' = p := (nI_eq (by omega) (by omega)).mp (h2.symm.trans hxp)
      subst this
      have e : layF (cn, ru, fu, ch, dk, wt, ld, pl, st, kp) (nI kd) (some p') (nI so) x8 = (nI p', (cn, ru, fu, true, dk, wt, fun j => if j = K then some (layC (nI kd) p' (nI so) x8) else if pl p' = some j then none else ld j, va_up pl p' (some K), st, kp)) := by
        unfold layF
        dsimp only
        rw [← hK, if_pos c]
      rw [e]
      refine ⟨by rw [h3, hxp], th, fi, be, ne, ke, fD, fL, _, _, _, fT, fY, fN, fS, fKn, fK, fH, hM, r1, r2, ?_, ?_, ?_, r6, r7, r8, r9, r10, r11, ?_, by omega⟩
      · intro k c0 i hk hc0 hi
        dsimp only at hc0
        have hrow := br_lay (fO := fO) (k := K) (kd := kd) (pg := p') (so := so) (x := x8) hkd (by omega) hso
        by_cases q : k = K
        · subst q
          rw [if_pos rfl] at hc0
          cases hc0
          exact hrow.1 i hi
        · rw [if_neg q] at hc0
          rw [hrow.2 _ (by omega)]
          by_cases q2 : pl p' = some k
          · rw [if_pos q2] at hc0; cases hc0
          · rw [if_neg q2] at hc0
            exact r3 k c0 i hk hc0 hi
      · intro k hk
        dsimp only
        unfold va_up
        by_cases q : k = K
        · rw [if_pos q, if_pos q]; rfl
        · rw [if_neg q, if_neg q]
          have hpl := br_pl hcn hp hp30
          cases hl : pl p' with
          | none =>
            rw [r5 p' hp30, hl, if_pos (show plI none = -1 from rfl), if_neg (by intro z; cases z)]
            exact r4 k hk
          | some k0 =>
            have hk0 := hpl k0 hl
            rw [r5 p' hp30, hl]
            show (if nI k0 = -1 then z else fun j => if j = (nI k0).toNatClampNeg then false else z j) k = _
            rw [if_neg (nm1 (by omega)), nI_clamp (by omega)]
            by_cases q3 : k = k0
            · rw [if_pos q3, if_pos (by rw [q3])]; rfl
            · rw [if_neg q3, if_neg (fun z => q3 (Option.some.inj z).symm)]
              exact r4 k hk
      · intro q hq
        unfold upd va_up
        by_cases q2 : q = p'
        · rw [if_pos q2, if_pos q2]; rfl
        · rw [if_neg q2, if_neg q2]; exact r5 q hq
      · have h1 : cntL (fun j => if j = K then some (layC (nI kd) p' (nI so) x8) else if pl p' = some j then none else ld j) ≤ cntL ld + 1 := by
          have := cntB_le (P := fun k => (if k = K then some (layC (nI kd) p' (nI so) x8) else if pl p' = some k then none else ld k).isSome) (Q := fun k => (ld k).isSome) (a := 0) (K := K) (fun j hj hs => by
            rw [if_neg hj] at hs
            by_cases q : pl p' = some j
            · rw [if_pos q] at hs; cases hs
            · rw [if_neg q] at hs; exact hs) 64
          have h3 : (if K < 0 + 64 then 1 else 0) ≤ 1 := by split <;> omega
          exact Nat.le_trans this (Nat.add_le_add_left h3 _)
        omega
    · have hc : x = -1 ∨ ¬ K < cn ∨ fu = true := by
        by_cases q : K < cn
        · right; right
          cases fu with
          | true => rfl
          | false => exact absurd ⟨q, rfl⟩ c
        · exact Or.inr (Or.inl q)
      obtain ⟨h1, h2⟩ := h.1 hc
      have e : layF (cn, ru, fu, ch, dk, wt, ld, pl, st, kp) (nI kd) (some p) (nI so) x8 = (-4, (cn, ru, fu, ch, dk, wt, ld, pl, st, kp)) := by
        unfold layF
        dsimp only
        rw [← hK, if_neg c]
      rw [e, h2]
      exact ⟨h1, hR.mono⟩
