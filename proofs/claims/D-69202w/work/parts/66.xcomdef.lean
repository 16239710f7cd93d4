set_option maxRecDepth 100000
/-! what commit does to KnowDisk's cells -/
theorem closeB_c {f d : Sec} (h : ∀ i, 4 ≤ i → f i = d i) : closeB f = closeB d := by
  unfold closeB
  rw [sumB_congr h]
  funext j
  unfold setB setK
  by_cases q : 0 ≤ j ∧ j < 0 + 4
  · rw [if_pos q, if_pos q]
  · rw [if_neg q, if_neg q]; exact h j (by omega)
theorem set16_c {f : Sec} {n : Int32} : closeB (setB (closeB f) 16 n) = closeB (setB f 16 n) := by
  apply closeB_c
  intro i hi
  unfold setB setK
  split
  · rfl
  · exact closeB_4 f hi
theorem closeB_i (f : Sec) : closeB (closeB f) = closeB f := closeB_c (fun i hi => closeB_4 f hi)
/-- the laid sector k's bytes change to f' -/
theorem XW.lby {g : GG} {w w' : GW} {ad : Nat → Nat} {cn : Nat} {ru fu ch : Bool} {dk : Sec} {wt : List (Nat × Sec)} {ld : Nat → Option Sec} {pl : Nat → Option Nat} {st kp : List (Int32 × Int64)} {fP : Nat → Int32} {fl : Nat → Option Nat} {lb : Nat → Nat} {wE sE kE : Nat} (h : XW g w ad cn ru fu ch dk wt ld pl st kp fP fl lb wE sE kE) {k : Nat} {d f f' : Sec} (hk : k < 64) (hd : ld k = some d) (hf : w (lb k) = some (eB g 32 f)) (hw : w' = gu w (lb k) (eB g 32 f')) : XW g w' ad cn ru fu ch dk wt (va_up ld k (some (closeB f'))) pl st kp fP fl lb wE sE kE := by
  obtain ⟨h1, h2, h3, h4, h5, h6, h7, h8, h9⟩ := h
  have K : XK (fun z => z ≠ 132) w w' := by rw [hw]; exact XK.put XK.rfl' hf (by simp [kn])
  have O : ∀ b, b ≠ lb k → w' b = w b := fun b hb => by rw [hw, gu_n hb]
  have hs : ∀ j, (va_up ld k (some (closeB f')) j).isSome = true → (ld j).isSome = true := by
    intro j hj
    unfold va_up at hj
    by_cases q : j = k
    · rw [q, hd]; rfl
    · rw [if_neg q] at hj; exact hj
  obtain ⟨n, fw, hdw, xs, a1, a2⟩ := h2
  refine ⟨h1.fr K (by omega) (by omega) (by omega) (by omega), ⟨n, fw, hdw, xs, a1.kept ((K _ _ a1.1 (by simp [kn])).trans a1.1.symm) ((K _ _ a1.2.1 (by simp [kn])).trans a1.2.1.symm), a2.1, fun i x y b1 b2 => ?_⟩, h3.ext K (by omega) (by omega) (by omega), h4.ext K (by omega) (by omega) (by omega), fun j hj => ?_, fun i j hi hj q1 q2 => h6 i j hi hj (hs i q1) (hs j q2), h7, h8, h9⟩
  · obtain ⟨s, b, c1, c2, c3, c4⟩ := a2.2 i x y b1 b2
    have hb : b ≠ lb k := fun q => c4 k hk (by rw [hd]; rfl) q.symm
    exact ⟨s, b, K _ _ c1 (by simp [kn]), K _ _ c2 (by simp [kn]), (O b hb).trans c3, fun j hj q => c4 j hj (hs j q)⟩
  · by_cases q : j = k
    · subst q
      refine ⟨fun z => by simp [va_up] at z, fun d' z => ?_⟩
      simp only [va_up, if_true] at z
      cases z
      obtain ⟨s, f0, l1, l2, -, -⟩ := (h5 j hj).2 d hd
      exact ⟨s, f', l1, K _ _ l2 (by simp [kn]), by rw [hw]; exact gu_s, rfl⟩
    · refine ⟨fun z => (h5 j hj).1 (by simpa [va_up, q] using z), fun d' z => ?_⟩
      have z : ld j = some d' := by simpa [va_up, q] using z
      obtain ⟨s, f0, l1, l2, l3, l4⟩ := (h5 j hj).2 d' z
      have hb : lb j ≠ lb k := fun e => q (h6 j k hj hk (by rw [z]; rfl) (by rw [hd]; rfl) e)
      exact ⟨s, f0, l1, K _ _ l2 (by simp [kn]), (O _ hb).trans l3, l4⟩
/-- a laid sector goes to the writes: a is the write, made and added, and the laid row's place is emptied -/
theorem com_x {g : GG} {w w2 w3 : GW} {ad : Nat → Nat} {cn : Nat} {ru fu ch : Bool} {dk : Sec} {wt : List (Nat × Sec)} {ld : Nat → Option Sec} {pl : Nat → Option Nat} {st kp : List (Int32 × Int64)} {fP : Nat → Int32} {fl : Nat → Option Nat} {lb : Nat → Nat} {wE sE kE : Nat} (h : XW g w ad cn ru fu ch dk wt ld pl st kp fP fl lb wE sE kE) {k s a : Nat} {d f : Sec} (hk : k < 64) (hd : ld k = some d) (hs : w s = some (ob 1 [.ref (lb k)])) (hf : w (lb k) = some (eB g 32 f)) (ha : w a = some (ob 3 [.int (nI k), .ref s])) {wn wh : Nat} {wf : Nat → Option Nat} {ws : List Nat} (hD0 : DQ g w (ad 4) wE wn wf wh ws) (hL0 : WL g w (Pb ld lb) ws wt) {E' n' hd' : Nat} {f' : Nat → Option Nat} (hD : DQ g w2 (ad 4) E' n' f' hd' (ws ++ [a])) (hE : E' = wE ∨ w E' = none) (hkp : ∀ b, b ≠ ad 4 → b ≠ wE → b ≠ E' → w2 b = w b) (hw3 : w3 = gu w2 (ad 3) (eS g 64 (va_up fl k none))) :
    XW g w3 ad cn ru fu ch dk (wt ++ [(k, f)]) (va_up ld k none) pl st kp fP (va_up fl k none) lb E' sE kE := by
  have h1 := h.1
  have h5 := h.2.2.2.2.1
  have h6 := h.2.2.2.2.2.1
  have h8 := h.2.2.2.2.2.2.2.1
  have h9 := h.2.2.2.2.2.2.2.2
  obtain ⟨w1, ew1⟩ : ∃ z_ : GW, z_ = gu w (ad 3) (eS g 64 (va_up fl k none)) := ⟨_, rfl⟩
  have K : XK (fun z => z ≠ 50) w w1 := by rw [ew1]; exact XK.put XK.rfl' h1.2.2.2 (by simp [kn])
  have O : ∀ b, b ≠ ad 3 → w1 b = w b := fun b hb => by rw [ew1, gu_n hb]
  have hs' : ∀ j, (va_up ld k none j).isSome = true → (ld j).isSome = true ∧ j ≠ k := by
    intro j hj
    unfold va_up at hj
    by_cases q : j = k
    · rw [if_pos q] at hj; cases hj
    · rw [if_neg q] at hj; exact ⟨hj, q⟩
  have hX1 : XW g w1 ad cn ru fu ch dk wt (va_up ld k none) pl st kp fP (va_up fl k none) lb wE sE kE := by
    refine h.coreL K (by simp) ⟨O _ (Ne.symm h8.2.2.2.2.1), O _ (Ne.symm h8.2.2.2.2.2.1), O _ (Ne.symm h8.2.2.2.2.2.2)⟩ ⟨K _ _ h1.1 (by simp [kn]), K _ _ h1.2.1 (by simp [kn]; omega), K _ _ h1.2.2.1 (by simp [kn]), by rw [ew1]; exact gu_s⟩ h.2.2.2.2.2.2.1 ?_ ?_ ?_
    · intro i hi
      unfold va_up
      by_cases c : i = k
      · simp only [if_pos c]
        exact ⟨fun _ => trivial, (fun d q => by cases q)⟩
      · simp only [if_neg c]
        exact (h5.fr K (by simp) (by simp)) i hi
    · exact fun i i' q1 q2 q3 q4 q5 => h6 i i' q1 q2 (hs' i q3).1 (hs' i' q4).1 q5
    · exact fun b e _ hP i hi q => hP i hi (hs' i q).1
  have n3E : ad 3 ≠ E' := hE.elim (fun q => by rw [q]; exact h8.2.2.2.2.1) (fun q => g_neN h1.2.2.2 q)
  have n34 : ad 3 ≠ ad 4 := g_ne h1.2.2.2 hD0.1 (by simp)
  have O3 : ∀ b, b ≠ ad 4 → b ≠ wE → b ≠ E' → w3 b = w1 b := by
    intro b b1 b2 b3
    rw [hw3, ew1]
    by_cases q : b = ad 3
    · rw [q, gu_s, gu_s]
    · rw [gu_n q, gu_n q]; exact hkp b b1 b2 b3
  have hE1 : E' = wE ∨ w1 E' = none := hE.imp_right (fun q => (O _ (Ne.symm n3E)).trans q)
  have KE : ∀ x e, w x = some e → kn e ≠ 5 → kn e ≠ 50 → w3 x = some e := by
    intro x e hx q1 q2
    have a1 : x ≠ ad 4 := g_ne hx hD0.1 (kn_ne q1)
    have a2 : x ≠ wE := g_ne hx hD0.2.1 (kn_ne q2)
    have a3 : x ≠ E' := hE.elim (fun q => by rw [q]; exact a2) (fun q => g_neN hx q)
    have a4 : x ≠ ad 3 := g_ne hx h1.2.2.2 (kn_ne q2)
    rw [O3 x a1 a2 a3, O x a4]; exact hx
  refine hX1.setW ⟨n', f', hd', ws ++ [a], hD.kept (by rw [hw3, gu_n (Ne.symm n34)]) (by rw [hw3, gu_n (Ne.symm n3E)]), ?_⟩ hE1 O3
  refine ⟨by simp [hL0.1], fun i x y b1 b2 => ?_⟩
  by_cases c : i < ws.length
  · rw [List.getElem?_append_left c] at b1
    rw [List.getElem?_append_left (by have := hL0.1; omega)] at b2
    obtain ⟨s', b, c1, c2, c3, c4⟩ := hL0.2 i x y b1 b2
    exact ⟨s', b, KE _ _ c1 (by simp [kn]) (by simp [kn]), KE _ _ c2 (by simp [kn]) (by simp [kn]), KE _ _ c3 (by simp [kn]) (by simp [kn]), fun j hj q => c4 j hj (hs' j q).1⟩
  · rw [List.getElem?_append_right (by omega)] at b1
    rw [List.getElem?_append_right (by have := hL0.1; omega)] at b2
    have hz : i - ws.length < 1 := (List.getElem?_eq_some_iff.mp b1).1
    have e1 : i - ws.length = 0 := by omega
    have e2 : i - wt.length = 0 := by have := hL0.1; omega
    rw [e1] at b1
    rw [e2] at b2
    cases b1; cases b2
    exact ⟨s, lb k, KE _ _ ha (by simp [kn]) (by simp [kn]), KE _ _ hs (by simp [kn]) (by simp [kn]), KE _ _ hf (by simp [kn]) (by simp [kn]), fun j hj q e => (hs' j q).2 (h6 j k hj hk (hs' j q).1 (by rw [hd]; rfl) e)⟩
theorem WL.cls {g : GG} {w : GW} {P : Nat → Prop} {xs : List Nat} {wt : List (Nat × Sec)} (h : WL g w P xs wt) : ∀ y ∈ xs, ∃ fs, w y = some (.inr (3, fs)) := by
  intro y hy
  obtain ⟨i, hi, e⟩ := List.getElem_of_mem hy
  have h1 : xs[i]? = some y := by rw [List.getElem?_eq_getElem hi, e]
  have h2 : wt[i]? = some (wt[i]'(by have := h.1; omega)) := List.getElem?_eq_getElem _
  obtain ⟨s, b, a1, -⟩ := h.2 i y _ h1 h2
  exact ⟨_, a1⟩
/-- the rows laid that are still to come -/
def ldF (ld : Nat → Option Sec) (i : Nat) : Nat → Option Sec := fun j => if j < 2 + i then none else ld j
theorem ldF_s {ld : Nat → Option Sec} {i : Nat} : va_up (ldF ld i) (2 + i) none = ldF ld (i + 1) := by
  funext j
  unfold va_up ldF
  by_cases q : j = 2 + i
  · rw [if_pos q, if_pos (by omega)]
  · rw [if_neg q]
    by_cases q2 : j < 2 + i
    · rw [if_pos q2, if_pos (by omega)]
    · rw [if_neg q2, if_neg (by omega)]
theorem ldF_n {ld : Nat → Option Sec} {i : Nat} (h : ld (2 + i) = none) : ldF ld i = ldF ld (i + 1) := by
  rw [← ldF_s]
  funext j
  unfold va_up
  by_cases q : j = 2 + i
  · rw [if_pos q, q]; unfold ldF; rw [if_neg (by omega)]; exact h
  · rw [if_neg q]
theorem ldF_0 {ld : Nat → Option Sec} {cn : Nat} (h : ∀ k c, ld k = some c → (2 ≤ k ∧ k < cn) ∧ closeB c = c) : ldF ld 0 = ld := by
  funext j
  unfold ldF
  by_cases q : j < 2 + 0
  · rw [if_pos q]
    cases hj : ld j with
    | none => rfl
    | some d => have := (h j d hj).1; omega
  · rw [if_neg q]
theorem ldF_e {ld : Nat → Option Sec} {cn : Nat} (hc : 2 ≤ cn) (h : ∀ k c, ld k = some c → (2 ≤ k ∧ k < cn) ∧ closeB c = c) : ldF ld (cn - 2) = fun _ => none := by
  funext j
  unfold ldF
  by_cases q : j < 2 + (cn - 2)
  · rw [if_pos q]
  · rw [if_neg q]
    cases hj : ld j with
    | none => rfl
    | some d => have := (h j d hj).1; omega
theorem comW_mem {ld : Nat → Option Sec} {n : Int32} {x : Nat × Sec} : ∀ i, x ∈ comW ld n i → 2 ≤ x.1 ∧ x.1 < 2 + i
  | 0, h => by cases h
  | i + 1, h => by
    rcases List.mem_append.mp h with q | q
    · have := comW_mem i q; omega
    · unfold com1 at q
      split at q
      · cases q
      · rw [List.mem_singleton.mp q]; simp
