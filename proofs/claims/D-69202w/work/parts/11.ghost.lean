set_option maxRecDepth 100000
/-! the ghost heap: a map from addresses to what their cells hold; every contract has one that it changes (w) and one that it leaves (v) -/
abbrev vwCl : List vw_C := [(RX1, TX1, 10), (RX4, TX4, 1), (RX2, TX2, 2), (RX5, TX5, 2), (RX3, TX3, 22), (RJ1, TJ1, 3), (RJ3, TJ3, 3), (RJ7, TJ7, 4), (RJ9, TJ9, 4)]
abbrev GW : Type := Nat → Option va_E
/-- fields' places, array kinds, the floor (heap size at the law's entry), the empty list's array, the mirror of Object[] -/
abbrev GG : Type := va_G × (Nat → ClassId) × Nat × Nat × Nat
def gA (g : GG) : Nat → Prop := fun q => g.2.2.1 ≤ q
abbrev gt (g : GG) : List (ClassId × FieldType) := [(g.2.1 0, .byte), (g.2.1 1, .int), (g.2.1 2, .boolean), (g.2.1 3, .long), (g.2.1 4, .object "KnowDisk$Sector"), (g.2.1 5, .object "java/lang/Object")]
def bI (b : Bool) : Int32 := if b then 1 else 0
theorem bI_n (b : Bool) : narrow .boolean (.int (bI b)) = .int (bI b) := by cases b <;> rfl
theorem bI_f (b : Bool) : fits .boolean (.int (bI b)) = true := by cases b <;> rfl
theorem bI_v (b : Bool) : vp_nar .boolean (bI b) = bI b := by cases b <;> rfl
theorem bI_1 : bI true = 1 := rfl
theorem bI_0 : bI false = 0 := rfl
theorem bI_eq0 {b : Bool} : bI b = 0 ↔ b = false := by cases b <;> simp [bI]
theorem bI_ne0 {b : Bool} : ¬ bI b = 0 ↔ b = true := by cases b <;> simp [bI]
theorem bI_inj {a b : Bool} : bI a = bI b ↔ a = b := by cases a <;> cases b <;> simp [bI]
abbrev eB (g : GG) (n : Nat) (b : Nat → Int8) : va_E := .inl (g.2.1 0, n, .inl (fun j => (b j).toInt32))
abbrev eI (g : GG) (n : Nat) (f : Nat → Int32) : va_E := .inl (g.2.1 1, n, .inl f)
abbrev eZ (g : GG) (n : Nat) (z : Nat → Bool) : va_E := .inl (g.2.1 2, n, .inl (fun j => bI (z j)))
abbrev eL (g : GG) (n : Nat) (f : Nat → Int64) : va_E := .inl (g.2.1 3, n, .inr (.inl f))
abbrev eS (g : GG) (n : Nat) (f : Nat → Option Nat) : va_E := .inl (g.2.1 4, n, .inr (.inr (.inr (.inr f))))
abbrev eO (g : GG) (n : Nat) (f : Nat → Option Nat) : va_E := .inl (g.2.1 5, n, .inr (.inr (.inr (.inr f))))
abbrev ob (ci : Nat) (fs : List Value) : va_E := .inr (ci, fs)
def gu (w : GW) (a : Nat) (e : va_E) : GW := fun q => if q = a then some e else w q
theorem gu_s {w : GW} {a : Nat} {e : va_E} : gu w a e a = some e := by simp [gu]
theorem gu_n {w : GW} {a b : Nat} {e : va_E} (h : b ≠ a) : gu w a e b = w b := by simp [gu, h]
theorem gu_gu {w : GW} {a : Nat} {e e' : va_E} : gu (gu w a e) a e' = gu w a e' := by
  funext q
  by_cases h : q = a <;> simp [gu, h]
theorem gu_comm {w : GW} {a b : Nat} {e e' : va_E} (h : a ≠ b) : gu (gu w a e) b e' = gu (gu w b e') a e := by
  funext q
  by_cases h1 : q = a
  · subst h1; simp [gu, h]
  · by_cases h2 : q = b
    · subst h2; simp [gu, h1]
    · simp [gu, h1, h2]
theorem gu_self {w : GW} {a : Nat} {e : va_E} (h : w a = some e) : gu w a e = w := by
  funext q
  by_cases h1 : q = a
  · subst h1; simp [gu, h]
  · simp [gu, h1]
theorem g_ne {w : GW} {a b : Nat} {e1 e2 : va_E} (h1 : w a = some e1) (h2 : w b = some e2) (h : e1 ≠ e2) : a ≠ b := fun q => h (by subst q; exact Option.some.inj (h1.symm.trans h2))
theorem g_neN {w : GW} {a b : Nat} {e1 : va_E} (h1 : w a = some e1) (h2 : w b = none) : a ≠ b := fun q => by subst q; rw [h1] at h2; cases h2
/-- an array of no element, as far as it is known: for the cell of the empty list, which was there before -/
def gz (cA : ClassId) (a : Nat) (H : Heap) : Prop := ∃ cell : Cell, H[a]? = some cell ∧ cell.cls = cA ∧ cell.slots.size = 0 ∧ cell.vm.isStatics = false
theorem gz.lt {cA : ClassId} {a : Nat} {H : Heap} (h : gz cA a H) : a < H.size := by
  obtain ⟨cell, h1, -⟩ := h
  exact (Array.getElem?_eq_some_iff.mp h1).1
theorem gz.kept {cA : ClassId} {a : Nat} {H H1 : Heap} (h : gz cA a H) (hq : H1[a]? = H[a]?) : gz cA a H1 := by
  obtain ⟨cell, h1, h2⟩ := h
  exact ⟨cell, hq.trans h1, h2⟩
/-- what the heap has of a ghost cell -/
def gAt (g : GG) (a : Nat) (e : va_E) (H : Heap) : Prop := (g.2.2.1 ≤ a ∧ va_at g.1 vwCl (a, e) H) ∨ ∃ (cA : ClassId) (x : (Nat → Int32) ⊕ (Nat → Int64) ⊕ (Nat → UInt32) ⊕ (Nat → UInt64) ⊕ (Nat → Option Nat)), e = .inl (cA, 0, x) ∧ ¬ g.2.2.1 ≤ a ∧ gz cA a H
theorem gAt.lt {g : GG} {a : Nat} {e : va_E} {H : Heap} (h : gAt g a e H) : a < H.size := by
  rcases h with ⟨-, h⟩ | ⟨cA, x, -, -, h⟩
  · exact h.lt
  · exact h.lt
theorem gAt.kept {g : GG} {a : Nat} {e : va_E} {H H1 : Heap} (h : gAt g a e H) (hq : H1[a]? = H[a]?) : gAt g a e H1 := by
  rcases h with ⟨h1, h⟩ | ⟨cA, x, h1, h2, h⟩
  · exact Or.inl ⟨h1, h.kept hq⟩
  · exact Or.inr ⟨cA, x, h1, h2, h.kept hq⟩
theorem gAt.up {g : GG} {a : Nat} {e : va_E} {H : Heap} (h : gAt g a e H) (hA : g.2.2.1 ≤ a) : va_at g.1 vwCl (a, e) H := by
  rcases h with ⟨-, h⟩ | ⟨cA, x, -, h2, -⟩
  · exact h
  · exact absurd hA h2
def GX (g : GG) (w : GW) (H : Heap) : Prop := ∀ (a : Nat) (e : va_E), w a = some e → gAt g a e H
def GH (g : GG) (w v : GW) (H : Heap) : Prop := GX g w H ∧ GX g v H ∧ ∀ a, w a = none ∨ v a = none
theorem GX.lt {g : GG} {w : GW} {H : Heap} (h : GX g w H) {a : Nat} {e : va_E} (hw : w a = some e) : a < H.size := (h a e hw).lt
theorem GX.fresh {g : GG} {w : GW} {H : Heap} (h : GX g w H) {a : Nat} (ha : H.size ≤ a) : w a = none := by
  cases hw : w a with
  | none => rfl
  | some e => exact absurd (h.lt hw) (by omega)
theorem GX.ob {g : GG} {w : GW} {H : Heap} (h : GX g w H) {a : Nat} {o : Nat × List Value} (hw : w a = some (.inr o)) : g.2.2.1 ≤ a := by
  rcases h a _ hw with ⟨q, -⟩ | ⟨cA, x, q, -⟩
  · exact q
  · cases q
theorem GX.ar {g : GG} {w : GW} {H : Heap} (h : GX g w H) {a n : Nat} {cA : ClassId} {x : (Nat → Int32) ⊕ (Nat → Int64) ⊕ (Nat → UInt32) ⊕ (Nat → UInt64) ⊕ (Nat → Option Nat)} (hw : w a = some (.inl (cA, n, x))) (hn : 0 < n) : g.2.2.1 ≤ a := by
  rcases h a _ hw with ⟨q, -⟩ | ⟨cB, y, q, -⟩
  · exact q
  · have : n = 0 := by injection q with q; injection q with _ q; injection q
    omega
def g_f (g : GG) (w v : GW) (a : Nat) : Option (Nat × va_E) := if g.2.2.1 ≤ a then (match w a with | some e => some (a, e) | none => (v a).map (fun e => (a, e))) else none
def g_l (g : GG) (w v : GW) (n : Nat) : va_W := (List.range n).filterMap (g_f g w v)
theorem g_f1 {g : GG} {w v : GW} {a : Nat} {q : Nat × va_E} (h : g_f g w v a = some q) : q.1 = a ∧ g.2.2.1 ≤ a ∧ (w a = some q.2 ∨ v a = some q.2) := by
  unfold g_f at h
  by_cases c : g.2.2.1 ≤ a
  · rw [if_pos c] at h
    cases hw : w a with
    | some e =>
      rw [hw] at h
      have h := Option.some.inj h
      subst h
      exact ⟨rfl, c, Or.inl rfl⟩
    | none =>
      rw [hw] at h
      cases hv : v a with
      | none => rw [hv] at h; cases h
      | some e =>
        rw [hv] at h
        have h := Option.some.inj h
        subst h
        exact ⟨rfl, c, Or.inr rfl⟩
  · rw [if_neg c] at h
    cases h
theorem g_lw {g : GG} {w v : GW} {n a : Nat} {e : va_E} (hn : a < n) (hA : g.2.2.1 ≤ a) (hw : w a = some e) : ∃ k : Nat, (g_l g w v n)[k]? = some (a, e) :=
  List.getElem?_of_mem (List.mem_filterMap.mpr ⟨a, List.mem_range.mpr hn, by unfold g_f; rw [if_pos hA, hw]⟩)
theorem g_lv {g : GG} {w v : GW} {n a : Nat} {e : va_E} (hn : a < n) (hA : g.2.2.1 ≤ a) (h0 : w a = none) (hw : v a = some e) : ∃ k : Nat, (g_l g w v n)[k]? = some (a, e) :=
  List.getElem?_of_mem (List.mem_filterMap.mpr ⟨a, List.mem_range.mpr hn, by unfold g_f; rw [if_pos hA, h0]; simp [hw]⟩)
theorem g_lP {g : GG} {w v : GW} {H : Heap} (h : GH g w v H) (n : Nat) : va_P g.1 vwCl (g_l g w v n) H := by
  intro k q hk
  obtain ⟨a, -, ha⟩ := List.mem_filterMap.mp (List.mem_of_getElem? hk)
  obtain ⟨e1, e2, e3⟩ := g_f1 ha
  obtain ⟨x, y⟩ := q
  cases e1
  rcases e3 with e3 | e3
  · exact (h.1 _ _ e3).up e2
  · exact (h.2.1 _ _ e3).up e2
theorem g_lD {g : GG} {w v : GW} (n : Nat) : va_D (gA g) (g_l g w v n) := by
  have hp : List.Pairwise (fun x y : Nat × va_E => x.1 < y.1) (g_l g w v n) := by
    refine List.Pairwise.filterMap (R := (· < ·)) _ ?_ List.pairwise_lt_range
    intro a a' hlt b hb b' hb'
    rw [(g_f1 hb).1, (g_f1 hb').1]
    exact hlt
  rw [List.pairwise_iff_getElem] at hp
  refine ⟨fun i j x y hi hj hxy => ?_, fun k q hk => ?_⟩
  · obtain ⟨li, ei⟩ := List.getElem?_eq_some_iff.mp hi
    obtain ⟨lj, ej⟩ := List.getElem?_eq_some_iff.mp hj
    rcases Nat.lt_trichotomy i j with c | c | c
    · have := hp i j li lj c
      rw [ei, ej] at this
      omega
    · exact c
    · have := hp j i lj li c
      rw [ei, ej] at this
      omega
  · obtain ⟨a, -, ha⟩ := List.mem_filterMap.mp (List.mem_of_getElem? hk)
    obtain ⟨e1, e2, -⟩ := g_f1 ha
    show g.2.2.1 ≤ q.1
    rw [e1]
    exact e2
def SH (g : GG) (w v : GW) (s : State) (H : Heap) (locs : List Loc) : Prop := GH g w v H ∧ va_S (gA g) s.heap H locs
theorem g_old {g : GG} {s : State} {H H1 : Heap} {locs locs1 : List Loc} (h : va_S (gA g) s.heap H locs) (h1 : va_S (gA g) s.heap H1 locs1) (hfl : g.2.2.1 ≤ s.heap.size) {b : Nat} (hb : ¬ g.2.2.1 ≤ b) : H1[b]? = H[b]? := by
  have hl : b < s.heap.size := by omega
  rw [h1.2.1 b hl hb, h.2.1 b hl hb]
/-- a cell of w was written -/
theorem SH.set {g : GG} {w v : GW} {s : State} {H H1 : Heap} {locs locs1 : List Loc} (h : SH g w v s H locs) (hfl : g.2.2.1 ≤ s.heap.size) {a n q0 : Nat} {e0 e1 : va_E} (hn : H.size ≤ n) (hw : w a = some e0) (hA : g.2.2.1 ≤ a) (hq : (g_l g w v n)[q0]? = some (a, e0)) (hP : va_P g.1 vwCl ((g_l g w v n).set q0 (a, e1)) H1) (hS : va_S (gA g) s.heap H1 locs1) : SH g (gu w a e1) v s H1 locs1 := by
  obtain ⟨⟨hX, hV, hd⟩, hS0⟩ := h
  have hl := (List.getElem?_eq_some_iff.mp hq).1
  have key : ∀ (b : Nat) (e : va_E), b ≠ a → (∃ k : Nat, (g_l g w v n)[k]? = some (b, e)) → va_at g.1 vwCl (b, e) H1 := by
    intro b e hb ⟨k, hk⟩
    have hkq : k ≠ q0 := by
      intro z
      subst z
      rw [hk] at hq
      exact hb (congrArg Prod.fst (Option.some.inj hq))
    refine hP k (b, e) ?_
    rw [List.getElem?_set_ne (Ne.symm hkq)]
    exact hk
  have hva : v a = none := by
    rcases hd a with z | z
    · rw [hw] at z; cases z
    · exact z
  refine ⟨⟨fun b e hb => ?_, fun b e hb => ?_, fun b => ?_⟩, hS⟩
  · by_cases hba : b = a
    · subst hba
      rw [gu_s] at hb
      cases hb
      exact Or.inl ⟨hA, hP q0 _ (List.getElem?_set_self hl)⟩
    · rw [gu_n hba] at hb
      by_cases hf : g.2.2.1 ≤ b
      · exact Or.inl ⟨hf, key b e hba (g_lw (Nat.lt_of_lt_of_le (hX.lt hb) hn) hf hb)⟩
      · exact (hX b e hb).kept (g_old hS0 hS hfl hf)
  · have hba : b ≠ a := by
      intro z
      subst z
      rw [hva] at hb
      cases hb
    by_cases hf : g.2.2.1 ≤ b
    · refine Or.inl ⟨hf, key b e hba (g_lv (Nat.lt_of_lt_of_le (hV.lt hb) hn) hf ?_ hb)⟩
      rcases hd b with z | z
      · exact z
      · rw [hb] at z; cases z
    · exact (hV b e hb).kept (g_old hS0 hS hfl hf)
  · by_cases hba : b = a
    · subst hba
      exact Or.inr hva
    · rw [gu_n hba]
      exact hd b
/-- a cell was made -/
theorem SH.push {g : GG} {w v : GW} {s : State} {H H1 : Heap} {locs : List Loc} (h : SH g w v s H locs) (hfl : g.2.2.1 ≤ s.heap.size) {a n : Nat} {e1 : va_E} (hn : H.size ≤ n) (hP : va_P g.1 vwCl (g_l g w v n ++ [(a, e1)]) H1) (hD : va_D (gA g) (g_l g w v n ++ [(a, e1)])) (hS : va_S (gA g) s.heap H1 locs) (h0 : ∀ b e, g.2.2.1 ≤ b → (w b = some e ∨ v b = some e) → b ≠ a) : SH g (gu w a e1) v s H1 locs ∧ w a = none ∧ v a = none := by
  obtain ⟨⟨hX, hV, hd⟩, hS0⟩ := h
  have hA : g.2.2.1 ≤ a := hD.2 (g_l g w v n).length (a, e1) (by rw [List.getElem?_append_right (Nat.le_refl _), Nat.sub_self]; rfl)
  have hwa : w a = none := by
    cases z : w a with
    | none => rfl
    | some e => exact absurd rfl (h0 a e hA (Or.inl z))
  have hva : v a = none := by
    cases z : v a with
    | none => rfl
    | some e => exact absurd rfl (h0 a e hA (Or.inr z))
  have key : ∀ (b : Nat) (e : va_E), (∃ k : Nat, (g_l g w v n)[k]? = some (b, e)) → va_at g.1 vwCl (b, e) H1 := by
    intro b e ⟨k, hk⟩
    have hl := (List.getElem?_eq_some_iff.mp hk).1
    refine hP k (b, e) ?_
    rw [List.getElem?_append_left hl]
    exact hk
  refine ⟨⟨⟨fun b e hb => ?_, fun b e hb => ?_, fun b => ?_⟩, hS⟩, hwa, hva⟩
  · by_cases hba : b = a
    · subst hba
      rw [gu_s] at hb
      cases hb
      exact Or.inl ⟨hA, hP (g_l g w v n).length _ (by rw [List.getElem?_append_right (Nat.le_refl _), Nat.sub_self]; rfl)⟩
    · rw [gu_n hba] at hb
      by_cases hf : g.2.2.1 ≤ b
      · exact Or.inl ⟨hf, key b e (g_lw (Nat.lt_of_lt_of_le (hX.lt hb) hn) hf hb)⟩
      · exact (hX b e hb).kept (g_old hS0 hS hfl hf)
  · have hba : b ≠ a := by
      intro z
      subst z
      rw [hva] at hb
      cases hb
    by_cases hf : g.2.2.1 ≤ b
    · refine Or.inl ⟨hf, key b e (g_lv (Nat.lt_of_lt_of_le (hV.lt hb) hn) hf ?_ hb)⟩
      rcases hd b with z | z
      · exact z
      · rw [hb] at z; cases z
    · exact (hV b e hb).kept (g_old hS0 hS hfl hf)
  · by_cases hba : b = a
    · subst hba
      exact Or.inr hva
    · rw [gu_n hba]
      exact hd b
theorem g_pnew {g : GG} {w v : GW} {H : Heap} {n a : Nat} {e1 : va_E} (h : GH g w v H) (hn : H.size ≤ n) (hD : va_D (gA g) (g_l g w v n ++ [(a, e1)])) : ∀ b e, g.2.2.1 ≤ b → (w b = some e ∨ v b = some e) → b ≠ a := by
  intro b e hf hb hba
  subst hba
  have hk : ∃ k : Nat, (g_l g w v n)[k]? = some (b, e) := by
    rcases hb with hb | hb
    · exact g_lw (Nat.lt_of_lt_of_le (h.1.lt hb) hn) hf hb
    · refine g_lv (Nat.lt_of_lt_of_le (h.2.1.lt hb) hn) hf ?_ hb
      rcases h.2.2 b with z | z
      · exact z
      · rw [hb] at z; cases z
  obtain ⟨k, hk⟩ := hk
  have hl := (List.getElem?_eq_some_iff.mp hk).1
  have := hD.1 k (g_l g w v n).length (b, e) (b, e1) (by rw [List.getElem?_append_left hl]; exact hk) (by rw [List.getElem?_append_right (Nat.le_refl _), Nat.sub_self]; rfl) rfl
  omega
