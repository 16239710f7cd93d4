set_option maxRecDepth 100000
/-! KnowDisk's cells: what holds the abstract disk -/
def kn (e : va_E) : Nat := match e with
  | .inr (ci, _) => ci
  | .inl (_, n, .inl _) => 100 + n
  | .inl (_, _, .inr _) => 50
/-- w' keeps w's cells of the kinds T -/
def XK (T : Nat → Prop) (w w' : GW) : Prop := ∀ a e, w a = some e → T (kn e) → w' a = some e
abbrev Ext (w w' : GW) : Prop := XK (fun _ => True) w w'
theorem XK.rfl' {T : Nat → Prop} {w : GW} : XK T w w := fun _ _ h _ => h
theorem XK.trans {T : Nat → Prop} {w w1 w2 : GW} (h1 : XK T w w1) (h2 : XK T w1 w2) : XK T w w2 := fun a e h t => h2 a e (h1 a e h t) t
theorem XK.mono {T S : Nat → Prop} {w w' : GW} (h : XK T w w') (hS : ∀ k, S k → T k) : XK S w w' := fun a e hw hs => h a e hw (hS _ hs)
theorem Ext.of {w w' : GW} (h : Ext w w') {a : Nat} {e : va_E} (hw : w a = some e) : w' a = some e := h a e hw trivial
theorem Ext.xk {T : Nat → Prop} {w w' : GW} (h : Ext w w') : XK T w w' := fun _ _ hw _ => h _ _ hw trivial
theorem Ext.made {w w1 : GW} {a : Nat} {e : va_E} (h : Ext w w1) (hn : w1 a = none) : Ext w (gu w1 a e) := fun b f hb _ => by
  have := h b f hb trivial
  rw [gu_n (g_neN this hn)]
  exact this
theorem Ext.put {w w1 : GW} {a : Nat} {e : va_E} (h : Ext w w1) (hn : w a = none) : Ext w (gu w1 a e) := fun b f hb _ => by
  rw [gu_n (g_neN hb hn)]
  exact h b f hb trivial
theorem XK.put {T : Nat → Prop} {w w1 : GW} {a : Nat} {e e0 : va_E} (h : XK T w w1) (h0 : w1 a = some e0) (hn : ¬ T (kn e0)) : XK T w (gu w1 a e) := fun b f hb t => by
  have := h b f hb t
  rw [gu_n (g_ne this h0 (fun q => hn (q ▸ t)))]
  exact this
theorem XK.new {T : Nat → Prop} {w w1 : GW} {a : Nat} {e : va_E} (h : XK T w w1) (h0 : w1 a = none) : XK T w (gu w1 a e) := fun b f hb t => by
  have := h b f hb t
  rw [gu_n (g_neN this h0)]
  exact this
def XC (g : GG) (w : GW) (ad : Nat → Nat) (cn : Nat) (ru fu ch : Bool) (dk : Sec) (fP : Nat → Int32) (fl : Nat → Option Nat) : Prop :=
  w (ad 0) = some (ob 0 [.ref (ad 1), .int (nI cn), .int (bI ru), .int (bI fu), .ref (ad 2), .ref (ad 3), .int (bI ch), .ref (ad 4), .ref (ad 5), .ref (ad 6)]) ∧ w (ad 1) = some (eB g (32 * cn) dk) ∧ w (ad 2) = some (eI g 30 fP) ∧ w (ad 3) = some (eS g 64 fl)
def WL (g : GG) (w : GW) (P : Nat → Prop) (xs : List Nat) (wt : List (Nat × Sec)) : Prop := xs.length = wt.length ∧ ∀ (i x : Nat) (y : Nat × Sec), xs[i]? = some x → wt[i]? = some y → ∃ s b : Nat, w x = some (ob 3 [.int (nI y.1), .ref s]) ∧ w s = some (ob 1 [.ref b]) ∧ w b = some (eB g 32 y.2) ∧ P b
def SL (w : GW) (xs : List Nat) (st : List (Int32 × Int64)) : Prop := xs.length = st.length ∧ ∀ (i x : Nat) (y : Int32 × Int64), xs[i]? = some x → st[i]? = some y → w x = some (ob 2 [.int y.1, .long y.2])
def LL (g : GG) (w : GW) (fl : Nat → Option Nat) (ld : Nat → Option Sec) (lb : Nat → Nat) : Prop := ∀ k, k < 64 → (ld k = none → fl k = none) ∧ (∀ d, ld k = some d → ∃ (s : Nat) (f : Sec), fl k = some s ∧ w s = some (ob 1 [.ref (lb k)]) ∧ w (lb k) = some (eB g 32 f) ∧ closeB f = d)
def Pb (ld : Nat → Option Sec) (lb : Nat → Nat) (b : Nat) : Prop := ∀ k, k < 64 → (ld k).isSome = true → lb k ≠ b
def QW (g : GG) (w : GW) (a : Nat) (P : Nat → Prop) (wt : List (Nat × Sec)) (E : Nat) : Prop := ∃ (n : Nat) (f : Nat → Option Nat) (hd : Nat) (xs : List Nat), DQ g w a E n f hd xs ∧ WL g w P xs wt
def QS (g : GG) (w : GW) (a : Nat) (st : List (Int32 × Int64)) (E : Nat) : Prop := ∃ (n : Nat) (f : Nat → Option Nat) (hd : Nat) (xs : List Nat), DQ g w a E n f hd xs ∧ SL w xs st
def QK (g : GG) (w : GW) (a : Nat) (kp : List (Int32 × Int64)) (E : Nat) : Prop := ∃ (n : Nat) (f : Nat → Option Nat) (mc : Int32) (xs : List Nat), AL g w a E n f mc xs ∧ SL w xs kp
def XD (ad : Nat → Nat) (wE sE kE : Nat) : Prop := ad 4 ≠ ad 5 ∧ wE ≠ sE ∧ wE ≠ kE ∧ sE ≠ kE ∧ ad 3 ≠ wE ∧ ad 3 ≠ sE ∧ ad 3 ≠ kE
def Lin (ld : Nat → Option Sec) (lb : Nat → Nat) : Prop := ∀ j k, j < 64 → k < 64 → (ld j).isSome = true → (ld k).isSome = true → lb j = lb k → j = k
def XW (g : GG) (w : GW) (ad : Nat → Nat) (cn : Nat) (ru fu ch : Bool) (dk : Sec) (wt : List (Nat × Sec)) (ld : Nat → Option Sec) (pl : Nat → Option Nat) (st kp : List (Int32 × Int64)) (fP : Nat → Int32) (fl : Nat → Option Nat) (lb : Nat → Nat) (wE sE kE : Nat) : Prop :=
  XC g w ad cn ru fu ch dk fP fl ∧ QW g w (ad 4) (Pb ld lb) wt wE ∧ QS g w (ad 5) st sE ∧ QK g w (ad 6) kp kE ∧ LL g w fl ld lb ∧ Lin ld lb ∧ (∀ p, p < 30 → fP p = plI (pl p)) ∧ XD ad wE sE kE ∧ 8 ≤ cn
/-- KnowDisk holds the abstract disk -/
def RX (g : GG) (w : GW) (ad : Nat → Nat) (σ : KS) : Prop := match σ with
  | (cn, ru, fu, ch, dk, wt, ld, pl, st, kp) => ∃ (fP : Nat → Int32) (fl : Nat → Option Nat) (lb : Nat → Nat) (wE sE kE : Nat), XW g w ad cn ru fu ch dk wt ld pl st kp fP fl lb wE sE kE
theorem XC.fr {g : GG} {w w' : GW} {ad : Nat → Nat} {cn : Nat} {ru fu ch : Bool} {dk : Sec} {fP : Nat → Int32} {fl : Nat → Option Nat} {T : Nat → Prop} (h : XC g w ad cn ru fu ch dk fP fl) (k : XK T w w') (t0 : T 0) (t1 : T (100 + 32 * cn)) (t2 : T 130) (t3 : T 50) : XC g w' ad cn ru fu ch dk fP fl := ⟨k _ _ h.1 t0, k _ _ h.2.1 t1, k _ _ h.2.2.1 t2, k _ _ h.2.2.2 t3⟩
theorem WL.fr {g : GG} {w w' : GW} {P : Nat → Prop} {xs : List Nat} {wt : List (Nat × Sec)} {T : Nat → Prop} (h : WL g w P xs wt) (k : XK T w w') (t3 : T 3) (t1 : T 1) (tb : T 132) : WL g w' P xs wt := ⟨h.1, fun i x y h1 h2 => by
  obtain ⟨s, b, a1, a2, a3, a4⟩ := h.2 i x y h1 h2
  exact ⟨s, b, k _ _ a1 t3, k _ _ a2 t1, k _ _ a3 tb, a4⟩⟩
theorem SL.fr {w w' : GW} {xs : List Nat} {st : List (Int32 × Int64)} {T : Nat → Prop} (h : SL w xs st) (k : XK T w w') (t2 : T 2) : SL w' xs st := ⟨h.1, fun i x y h1 h2 => k _ _ (h.2 i x y h1 h2) t2⟩
theorem LL.fr {g : GG} {w w' : GW} {fl : Nat → Option Nat} {ld : Nat → Option Sec} {lb : Nat → Nat} {T : Nat → Prop} (h : LL g w fl ld lb) (k : XK T w w') (t1 : T 1) (tb : T 132) : LL g w' fl ld lb := fun j hj => ⟨(h j hj).1, fun d hd => by
  obtain ⟨s, f, a1, a2, a3, a4⟩ := (h j hj).2 d hd
  exact ⟨s, f, a1, k _ _ a2 t1, k _ _ a3 tb, a4⟩⟩
theorem QW.fr {g : GG} {w w' : GW} {a : Nat} {P : Nat → Prop} {wt : List (Nat × Sec)} {E : Nat} {T : Nat → Prop} (h : QW g w a P wt E) (k : XK T w w') (t3 : T 3) (t1 : T 1) (tb : T 132) (e1 : w' a = w a) (e2 : w' E = w E) : QW g w' a P wt E := by
  obtain ⟨n, f, hd, xs, h1, h2⟩ := h
  exact ⟨n, f, hd, xs, h1.kept e1 e2, h2.fr k t3 t1 tb⟩
theorem QS.fr {g : GG} {w w' : GW} {a : Nat} {st : List (Int32 × Int64)} {E : Nat} {T : Nat → Prop} (h : QS g w a st E) (k : XK T w w') (t2 : T 2) (e1 : w' a = w a) (e2 : w' E = w E) : QS g w' a st E := by
  obtain ⟨n, f, hd, xs, h1, h2⟩ := h
  exact ⟨n, f, hd, xs, h1.kept e1 e2, h2.fr k t2⟩
theorem QK.fr {g : GG} {w w' : GW} {a : Nat} {kp : List (Int32 × Int64)} {E : Nat} {T : Nat → Prop} (h : QK g w a kp E) (k : XK T w w') (t2 : T 2) (e1 : w' a = w a) (e2 : w' E = w E) : QK g w' a kp E := by
  obtain ⟨n, f, mc, xs, h1, h2⟩ := h
  exact ⟨n, f, mc, xs, h1.kept e1 e2, h2.fr k t2⟩
theorem QW.at {g : GG} {w : GW} {a : Nat} {P : Nat → Prop} {wt : List (Nat × Sec)} {E : Nat} (h : QW g w a P wt E) : ∃ fs n f, w a = some (ob 5 fs) ∧ w E = some (eO g n f) := by
  obtain ⟨n, f, hd, xs, h1, h2⟩ := h
  exact ⟨_, n, f, h1.1, h1.2.1⟩
theorem QS.at {g : GG} {w : GW} {a : Nat} {st : List (Int32 × Int64)} {E : Nat} (h : QS g w a st E) : ∃ fs n f, w a = some (ob 5 fs) ∧ w E = some (eO g n f) := by
  obtain ⟨n, f, hd, xs, h1, h2⟩ := h
  exact ⟨_, n, f, h1.1, h1.2.1⟩
theorem QK.at {g : GG} {w : GW} {a : Nat} {kp : List (Int32 × Int64)} {E : Nat} (h : QK g w a kp E) : ∃ fs n f, w a = some (ob 6 fs) ∧ w E = some (eO g n f) := by
  obtain ⟨n, f, mc, xs, h1, h2⟩ := h
  exact ⟨_, n, f, h1.1, h1.2.1⟩
theorem QW.ext {g : GG} {w w' : GW} {a : Nat} {P : Nat → Prop} {wt : List (Nat × Sec)} {E : Nat} (h : QW g w a P wt E) {T : Nat → Prop} (k : XK T w w') (t3 : T 3) (t1 : T 1) (tb : T 132) (t5 : T 5) (tO : T 50) : QW g w' a P wt E := by
  obtain ⟨fs, n, f, h1, h2⟩ := h.at
  exact h.fr k t3 t1 tb ((k _ _ h1 t5).trans h1.symm) ((k _ _ h2 tO).trans h2.symm)
theorem QS.ext {g : GG} {w w' : GW} {a : Nat} {st : List (Int32 × Int64)} {E : Nat} (h : QS g w a st E) {T : Nat → Prop} (k : XK T w w') (t2 : T 2) (t5 : T 5) (tO : T 50) : QS g w' a st E := by
  obtain ⟨fs, n, f, h1, h2⟩ := h.at
  exact h.fr k t2 ((k _ _ h1 t5).trans h1.symm) ((k _ _ h2 tO).trans h2.symm)
theorem QK.ext {g : GG} {w w' : GW} {a : Nat} {kp : List (Int32 × Int64)} {E : Nat} (h : QK g w a kp E) {T : Nat → Prop} (k : XK T w w') (t2 : T 2) (t6 : T 6) (tO : T 50) : QK g w' a kp E := by
  obtain ⟨fs, n, f, h1, h2⟩ := h.at
  exact h.fr k t2 ((k _ _ h1 t6).trans h1.symm) ((k _ _ h2 tO).trans h2.symm)
/-- the parts but the core, behind changes of x, disk, places alone -/
theorem XW.core {g : GG} {w w' : GW} {ad : Nat → Nat} {cn : Nat} {ru fu ch ru' fu' ch' : Bool} {dk dk' : Sec} {wt : List (Nat × Sec)} {ld : Nat → Option Sec} {pl pl' : Nat → Option Nat} {st kp : List (Int32 × Int64)} {fP fP' : Nat → Int32} {fl : Nat → Option Nat} {lb : Nat → Nat} {wE sE kE : Nat} {T : Nat → Prop} (h : XW g w ad cn ru fu ch dk wt ld pl st kp fP fl lb wE sE kE) (k : XK T w w') (hT : T 1 ∧ T 2 ∧ T 3 ∧ T 132 ∧ T 5 ∧ T 6 ∧ T 50) (hc : XC g w' ad cn ru' fu' ch' dk' fP' fl) (hp : ∀ p, p < 30 → fP' p = plI (pl' p)) : XW g w' ad cn ru' fu' ch' dk' wt ld pl' st kp fP' fl lb wE sE kE := by
  obtain ⟨h1, h2, h3, h4, h5, h6, h7, h8, h9⟩ := h
  obtain ⟨t1, t2, t3, tb, t5, t6, tO⟩ := hT
  exact ⟨hc, h2.ext k t3 t1 tb t5 tO, h3.ext k t2 t5 tO, h4.ext k t2 t6 tO, h5.fr k t1 tb, h6, hp, h8, h9⟩
theorem XW.ext {g : GG} {w w' : GW} {ad : Nat → Nat} {cn : Nat} {ru fu ch : Bool} {dk : Sec} {wt : List (Nat × Sec)} {ld : Nat → Option Sec} {pl : Nat → Option Nat} {st kp : List (Int32 × Int64)} {fP : Nat → Int32} {fl : Nat → Option Nat} {lb : Nat → Nat} {wE sE kE : Nat} (h : XW g w ad cn ru fu ch dk wt ld pl st kp fP fl lb wE sE kE) (k : Ext w w') : XW g w' ad cn ru fu ch dk wt ld pl st kp fP fl lb wE sE kE :=
  h.core k ⟨trivial, trivial, trivial, trivial, trivial, trivial, trivial⟩ (h.1.fr k trivial trivial trivial trivial) h.2.2.2.2.2.2.1
theorem RX.ext {g : GG} {w w' : GW} {ad : Nat → Nat} {σ : KS} (h : RX g w ad σ) (k : Ext w w') : RX g w' ad σ := by
  obtain ⟨cn, ru, fu, ch, dk, wt, ld, pl, st, kp⟩ := σ
  obtain ⟨fP, fl, lb, wE, sE, kE, h⟩ := h
  exact ⟨fP, fl, lb, wE, sE, kE, h.ext k⟩
/-- the parts but the core, behind changes of x, disk, places and laid -/
theorem XW.coreL {g : GG} {w w' : GW} {ad : Nat → Nat} {cn : Nat} {ru fu ch ru' fu' ch' : Bool} {dk dk' : Sec} {wt : List (Nat × Sec)} {ld ld' : Nat → Option Sec} {pl pl' : Nat → Option Nat} {st kp : List (Int32 × Int64)} {fP fP' : Nat → Int32} {fl fl' : Nat → Option Nat} {lb lb' : Nat → Nat} {wE sE kE : Nat} {T : Nat → Prop} (h : XW g w ad cn ru fu ch dk wt ld pl st kp fP fl lb wE sE kE) (k : XK T w w') (hT : T 1 ∧ T 2 ∧ T 3 ∧ T 132 ∧ T 5 ∧ T 6) (hE : w' wE = w wE ∧ w' sE = w sE ∧ w' kE = w kE) (hc : XC g w' ad cn ru' fu' ch' dk' fP' fl') (hp : ∀ p, p < 30 → fP' p = plI (pl' p)) (hl : LL g w' fl' ld' lb') (hi : Lin ld' lb') (hP : ∀ b e, w b = some e → Pb ld lb b → Pb ld' lb' b) : XW g w' ad cn ru' fu' ch' dk' wt ld' pl' st kp fP' fl' lb' wE sE kE := by
  obtain ⟨h1, h2, h3, h4, h5, h6, h7, h8, h9⟩ := h
  obtain ⟨t1, t2, t3, tb, t5, t6⟩ := hT
  obtain ⟨e1, e2, e3⟩ := hE
  obtain ⟨n, f, hd, xs, a1, a2⟩ := h2
  have q2 : QW g w' (ad 4) (Pb ld' lb') wt wE := ⟨n, f, hd, xs, a1.kept ((k _ _ a1.1 t5).trans a1.1.symm) e1, a2.1, fun i x y h1 h2 => by
    obtain ⟨s, b, b1, b2, b3, b4⟩ := a2.2 i x y h1 h2
    exact ⟨s, b, k _ _ b1 t3, k _ _ b2 t1, k _ _ b3 tb, hP b _ b3 b4⟩⟩
  obtain ⟨fs3, n3, f3, c1, c2⟩ := h3.at
  obtain ⟨fs4, n4, f4, d1, d2⟩ := h4.at
  exact ⟨hc, q2, h3.fr k t2 ((k _ _ c1 t5).trans c1.symm) e2, h4.fr k t2 ((k _ _ d1 t6).trans d1.symm) e3, hl, hi, hp, h8, h9⟩
theorem closeB_4 (f : Sec) {i : Nat} (h : 4 ≤ i) : closeB f i = f i := by
  unfold closeB setB
  simp only [setK]
  rw [if_neg (by omega)]
theorem XK.putn {T : Nat → Prop} {w w1 : GW} {a : Nat} {e : va_E} (h : XK T w w1) (hn : w a = none) : XK T w (gu w1 a e) := fun b f hb t => by
  rw [gu_n (g_neN hb hn)]
  exact h b f hb t
theorem kn_ne {e1 e2 : va_E} (h : kn e1 ≠ kn e2) : e1 ≠ e2 := fun q => h (by rw [q])
