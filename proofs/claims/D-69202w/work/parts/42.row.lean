set_option maxRecDepth 100000
/-- f' holds the sector c at k, and is f elsewhere -/
def Row (f f' : Nat → Int32) (c : Sec) (k : Nat) : Prop := (∀ i, i < 32 → f' (32 * k + i) = ub (c i)) ∧ ∀ j, (j < 32 * k ∨ 32 * k + 32 ≤ j) → f' j = f j
theorem Row.set {f f' : Nat → Int32} {c : Sec} {k : Nat} (h : Row f f' c k) {a : Nat} (ha : a + 4 ≤ 32) (x : Int32) : Row f (setI f' (32 * k + a) x) (setB c a x) k := by
  refine ⟨fun i hi => ?_, fun j hj => ?_⟩
  · unfold setI setKI setB setK
    by_cases q : a ≤ i ∧ i < a + 4
    · rw [if_pos (by omega), if_pos q, show 32 * k + i - (32 * k + a) = i - a by omega]
    · rw [if_neg (by omega), if_neg q]; exact h.1 i hi
  · unfold setI setKI
    rw [if_neg (by omega)]
    exact h.2 j hj
theorem Row.setW {f f' : Nat → Int32} {c : Sec} {k : Nat} (h : Row f f' c k) {a : Nat} (ha : a + 8 ≤ 32) (x : Int64) : Row f (setWI f' (32 * k + a) x) (setWB c a x) k := by
  have := (h.set (a := a) (by omega) (x >>> ((nI 32).toInt64 &&& 63)).toInt32).set (a := a + 4) (by omega) x.toInt32
  rw [← Nat.add_assoc] at this
  exact this
theorem Row.close {f f' : Nat → Int32} {c : Sec} {k : Nat} (h : Row f f' c k) : Row f (closeI f' k) (closeB c) k := by
  have e : sumI (fun i => f' (32 * k + i)) = sumB c := sumI_congr (fun i h1 h2 => h.1 i h2)
  have := h.set (a := 0) (by omega) (sumB c)
  rw [Nat.add_zero] at this
  unfold closeI closeB
  rw [e]
  exact this
theorem Row.up {f f' : Nat → Int32} {c : Sec} {k : Nat} (h : Row f f' c k) {a n : Nat} (ha : a < 32) (hn : n < 256) : Row f (upd f' (32 * k + a) (nI n)) (va_up c a (nI n).toInt8) k := by
  refine ⟨fun i hi => ?_, fun j hj => ?_⟩
  · unfold upd va_up
    by_cases q : i = a
    · rw [if_pos (by omega), if_pos q, ub_nI hn]
    · rw [if_neg (by omega), if_neg q]; exact h.1 i hi
  · unfold upd
    rw [if_neg (by omega)]
    exact h.2 j hj
theorem Row.zero (f : Nat → Int32) (k : Nat) : Row f (va_cpy (fun _ => 0) f 0 (32 * k) 32) (fun _ => 0) k := by
  refine ⟨fun i hi => ?_, fun j hj => ?_⟩
  · unfold va_cpy
    rw [if_pos (by omega)]
    show (0 : Int32) = ub 0
    decide
  · unfold va_cpy
    rw [if_neg (by omega)]
theorem byV_0 (k : Nat) : byV 0 k = 0 := by
  unfold byV
  have : (0 : Int32) >>> (nI (24 - 8 * k) &&& 31) = 0 := (by decide +kernel : ∀ m : Fin 25, (0 : Int32) >>> (nI m.val &&& 31) = 0) ⟨24 - 8 * k, by omega⟩
  rw [this]
  rfl
theorem setB_0 {c : Sec} {a : Nat} (h : ∀ i, a ≤ i → i < a + 4 → c i = 0) : setB c a 0 = c := by
  funext j
  unfold setB setK
  by_cases q : a ≤ j ∧ j < a + 4
  · rw [if_pos q, byV_0, h j q.1 q.2]
  · rw [if_neg q]
theorem ofB_eq (kd pg so : Int32) (x : Int64) : ofB kd pg so x 0 = setWB (va_up (va_up (va_up (fun _ => 0) 4 kd.toInt8) 5 pg.toInt8) 6 so.toInt8) 8 x := by
  unfold ofB
  refine setB_0 (fun i h1 h2 => ?_)
  unfold setWB setB setK va_up
  rw [if_neg (by omega), if_neg (by omega), if_neg (by omega), if_neg (by omega), if_neg (by omega)]
theorem br_lay {fO : Nat → Int32} {k kd pg so : Nat} {x : Int64} (h1 : kd < 256) (h2 : pg < 256) (h3 : so < 256) : Row fO (layO fO k kd pg so x) (layC (nI kd) pg (nI so) x) k := by
  unfold layO layC
  rw [ofB_eq]
  exact ((((((Row.zero fO k).up (a := 4) (by omega) h1).up (a := 5) (by omega) h2).up (a := 6) (by omega) h3).setW (a := 8) (by omega) x).close)
theorem sumB_congr {b c : Sec} (h : ∀ i, 4 ≤ i → b i = c i) : sumB b = sumB c := sumI_congr (fun i h1 h2 => by rw [h i h1])
theorem closeB_congr {b c : Sec} (h : ∀ i, 4 ≤ i → b i = c i) : closeB b = closeB c := by
  unfold closeB
  rw [sumB_congr h]
  funext j
  unfold setB setK
  by_cases q : 0 ≤ j ∧ j < 0 + 4
  · rw [if_pos q, if_pos q]
  · rw [if_neg q, if_neg q]; exact h j (by omega)
theorem closeB_hi {c : Sec} {i : Nat} (h : 4 ≤ i) : closeB c i = c i := by
  unfold closeB setB setK
  rw [if_neg (by omega)]
theorem closeB_close (c : Sec) : closeB (closeB c) = closeB c := closeB_congr (fun i h => closeB_hi h)
theorem sec_at {dk : Sec} {k i : Nat} (h : i < 32) : sec dk k i = dk (32 * k + i) := by
  unfold sec va_cpy
  rw [if_pos (by omega), Nat.sub_zero]
theorem sec_hi {dk : Sec} {k i : Nat} (h : 32 ≤ i) : sec dk k i = 0 := by
  unfold sec va_cpy
  rw [if_neg (by omega)]
theorem lat_snoc (dk : Sec) (wt : List (Nat × Sec)) (x : Nat × Sec) (k : Nat) : lat dk (wt ++ [x]) k = if x.1 = k then x.2 else lat dk wt k := by
  unfold lat
  rw [List.foldl_append]
  rfl
theorem lat_nil (dk : Sec) (k : Nat) : lat dk [] k = sec dk k := rfl
