set_option maxRecDepth 100000
/-- words that are no part of lw_all but hold all through -/
def nwK (w : Cond) : Bool := match w with
  | .methodLinkNest _ _ _ _ => true
  | .fieldLinkNest _ _ _ _ _ _ => true
  | .castable _ _ => true
  | .declares _ => true
  | _ => false
def NW (U : State) : Prop := ∀ w ∈ lw_tbl, nwK w = true → va_Nw w U
theorem nw_warm {s U : State} (hW : s.WarmedH U.vm) {w : Cond} (hk : nwK w = true) (h : va_Nw w s) : va_Nw w U := by
  cases w with
  | methodLinkNest a i x q => exact va_Nw.warmM hW h
  | fieldLinkNest a i b n d q => exact va_Nw.warmF hW h
  | castable a b => exact va_Nw.warmC hW h
  | declares x => exact va_Nw.warmD hW h
  | _ => cases hk
theorem NW.warm {s U : State} (hW : s.WarmedH U.vm) (h : NW s) : NW U := fun w hw hk => nw_warm hW hk (h w hw hk)
def iHas : MethodName := ⟨"java/util/Iterator", "hasNext", "()Z"⟩
def iNext : MethodName := ⟨"java/util/Iterator", "next", "()Ljava/lang/Object;"⟩
/-- what holds of every state: the tables, the statics that are read -/
def GS (g : GG) (U : State) (H : Heap) : Prop :=
  va_K g.1 vwCl (gt g) U ∧ g.2.2.1 ≤ H.size ∧ NW U ∧ (va_AO "KnowDisk$Sector" U ∧ va_AO "java/lang/Object" U) ∧
  (va_Fw RJ7 iHas yJ7_hasNext U ∧ va_Fw RJ7 iNext yJ7_next U ∧ va_Fw RJ9 iHas yJ9_hasNext U ∧ va_Fw RJ9 iNext yJ9_next U) ∧
  (va_Z "java/util/ArrayList" "DEFAULTCAPACITY_EMPTY_ELEMENTDATA" "[Ljava/lang/Object;" (.ref g.2.2.2.1) (gA g) U H ∧ gz (g.2.1 5) g.2.2.2.1 H ∧ ¬ g.2.2.1 ≤ g.2.2.2.1) ∧
  va_Mi "[Ljava/lang/Object;" g.2.2.2.2 U ∧
  (vx_Zq Bundle.tN "UNASSIGNED_STACK" Bundle.steD (gA g) U H ∧ vx_Zq Bundle.tN "SUPPRESSED_SENTINEL" Bundle.listD (gA g) U H)
theorem GS.warm {g : GG} {s U : State} {H : Heap} {locs : List Loc} (h : GS g s s.heap) (hS : va_S (gA g) s.heap H locs) (hU : U.heap = H) (hW : s.WarmedH U.vm) : GS g U U.heap := by
  obtain ⟨h1, h2, h3, ⟨h4, h5⟩, ⟨f1, f2, f3, f4⟩, ⟨z1, z2, z3⟩, m1, ⟨x1, x2⟩⟩ := h
  have hk : ∀ a : Nat, a < s.heap.size → ¬ gA g a → U.heap[a]? = s.heap[a]? := fun a ha hb => by rw [hU]; exact hS.2.1 a ha hb
  have hA := hW.alike
  refine ⟨va_K.moved hA h1, by rw [hU]; exact Nat.le_trans h2 hS.1, h3.warm hW, ⟨h4.moved hA, h5.moved hA⟩, ⟨f1.moved (by decide) hA, f2.moved (by decide) hA, f3.moved (by decide) hA, f4.moved (by decide) hA⟩, ⟨(z1.moved hA).kept hk, z2.kept (hk _ z2.lt z3), z3⟩, m1.moved hA, ⟨(x1.moved hA).kept hk, (x2.moved hA).kept hk⟩⟩
def gP (g : GG) (av : List Value) (w v : GW) : Array Value → State → Prop := va_Pc av (fun U => GS g U U.heap ∧ GH g w v U.heap)
def gB (g : GG) (v : GW) : GW → State → Prop := fun w t => GH g w v t.heap
theorem gP_blind (g : GG) (av : List Value) (w v : GW) : FrameBlind (gP g av w v) := by
  intro a U q mk h
  obtain ⟨h1, h2, h3⟩ := h
  exact ⟨h1, GS.warm (U := U.calling q mk a) h2 va_S.rf rfl (State.WarmedH.refl U), h3⟩
/-- what a walk has of its method -/
def Cx (g : GG) (p : Program) (s : State) (m : MethodId) (args : Array Value) (meth : Method) (c : Code) (cc : ByteArray) (nL : Nat) (own : String) (ret : Option FieldType) : Prop :=
  p.tables.exec = Jvm.exec ∧ c.code = cc ∧ c.maxLocals = nL ∧ s.vm.findClass own = some m.cls ∧ (∀ w ∈ lw_all, w.before args s = true) ∧ meth.sig.returnType = ret ∧ meth.locks = false ∧ GS g s s.heap
theorem Cx.fix {g : GG} {p : Program} {s : State} {m : MethodId} {args : Array Value} {meth : Method} {c : Code} {cc : ByteArray} {nL : Nat} {own : String} {ret : Option FieldType} (C : Cx g p s m args meth c cc nL own ret) : CallFix p m c cc nL s args lw_all own := ⟨C.1, C.2.1, C.2.2.1, C.2.2.2.1, C.2.2.2.2.1⟩
theorem Cx.gs {g : GG} {p : Program} {s : State} {m : MethodId} {args : Array Value} {meth : Method} {c : Code} {cc : ByteArray} {nL : Nat} {own : String} {ret : Option FieldType} (C : Cx g p s m args meth c cc nL own ret) : GS g s s.heap := C.2.2.2.2.2.2.2
theorem Cx.fl {g : GG} {p : Program} {s : State} {m : MethodId} {args : Array Value} {meth : Method} {c : Code} {cc : ByteArray} {nL : Nat} {own : String} {ret : Option FieldType} (C : Cx g p s m args meth c cc nL own ret) : g.2.2.1 ≤ s.heap.size := C.gs.2.1
/-- a contract out of its walk -/
theorem gm_of {l : Launch} {y : MethodName} {cc : ByteArray} {maxL : Nat} {ret : Option FieldType} {rm : Room} {g : GG} {av : List Value} {w v : GW} {Qc : Array Value → State → Outcome → State → Prop} {mc ms : Nat} (hy : plainName y.cls = true) (hav : (lg_sl av).length ≤ maxL)
    (body : ∀ (p : Program) (e : Env) (s : State) (m : MethodId) (below : List Frame) (meth : Method) (c : Code) (ls : Array Slot), Cx g p s m av.toArray meth c cc maxL y.cls ret → meth.name = y.name → SH g w v s s.heap [] → lv_has ls maxL (lv_args 0 av) → W p l e rm s m av.toArray below meth c s.heap [] 0 0 (MQ below Qc av.toArray s mc ms (gA g)) (F0 m 0 ls [])) :
    Met l y (ws_ y cc maxL ret) rm (gP g av w v) Qc mc ms (gA g) := by
  refine Met.ofW (cc := cc) (maxL := maxL) (ret := ret) hy rfl ?_
  intro p e s m args below meth c s₁ B hml hv
  obtain ⟨rfl, hG, hH⟩ := hv
  have hts := atoms_spec (ws := ws_ y cc maxL ret) B.pre
  have hts : ∀ w ∈ lw_all, w.before _ s = true := fun w h => hts w (List.mem_cons_of_mem _ h)
  rw [lg_entry_eq]
  exact body p e s m below meth c _ ⟨B.exec, B.bytes, hml, findClass_of_methodNamed B.named, hts, B.returns, B.notSynchronized, hG⟩ (name_of_methodNamed B.named B.method).1 ⟨hH, va_S.rf⟩ (lv_entry av hav)
section GR
variable {p : Program} {l : Launch} {e : Env} {R : Room} {s : State} {m : MethodId} {args : Array Value} {below : List Frame} {meth : Method} {c : Code} {H : Heap} {locs : List Loc} {cells slots : Nat} {Q : State → Prop}
variable {g : GG} {w v : GW} {cc : ByteArray} {nL : Nat} {own : String} {ret : Option FieldType} {pc : Nat} {ls : Array Slot} {rest : List Value} {a : Nat}
theorem SH.at (h : SH g w v s H locs) {e1 : va_E} (hw : w a = some e1) (hA : g.2.2.1 ≤ a) : va_P g.1 vwCl [(a, e1)] H := by
  intro k q hk
  cases k with
  | zero => cases hk; exact (h.1.1 a e1 hw).up hA
  | succ k => cases hk
theorem SH.lk (h : SH g w v s H locs) {e1 : va_E} (hw : w a = some e1) (hA : g.2.2.1 ≤ a) : ∃ k : Nat, (g_l g w v H.size)[k]? = some (a, e1) := g_lw (h.1.1.lt hw) hA hw
theorem gx_get (C : Cx g p s m args meth c cc nL own ret) (h : SH g w v s H locs) {ci : Nat} {fs : List Value} (hw : w a = some (.inr (ci, fs))) {Cn : String} {T : u_T} {N : Nat} (hc : vwCl[ci]? = some (Cn, T, N)) (hin : ∀ q ∈ u_ws Cn T N, q ∈ lw_all) (k : Nat) (hk : k < N) {index : Nat} {ref : String} (hlink : Cond.fieldLink own index ref (T k).2.1 (T k).2.2.1 ∈ lw_all) (hsame : (T k).1 = ref) {x : Value} (hv : fs[k]? = some x) (hdg : decode cc pc = .ok (.getfield index, 3))
    (kk : W p l e R s m args below meth c H locs cells slots Q (F0 m (pc + 3) ls (x :: rest))) : W p l e R s m args below meth c H locs cells slots Q (F0 m pc ls (.ref a :: rest)) := by
  obtain ⟨hx, hb, hml, hown, hts, hr, hlk, hG⟩ := C
  exact va_get hx hb hts hin hown hG.1 (h.at hw (h.1.1.ob hw)) 0 rfl hc k hk (hts _ hlink) (fun y hy => by rw [← hsame]; exact hy) hv hdg kk
theorem gx_getS (C : Cx g p s m args meth c cc nL own ret) (h : SH g w v s H locs) {ci : Nat} {fs : List Value} (hw : w a = some (.inr (ci, fs))) {Cn : String} {T : u_T} {N : Nat} (hc : vwCl[ci]? = some (Cn, T, N)) (hin : ∀ q ∈ u_ws Cn T N, q ∈ lw_all) (k : Nat) (hk : k < N) {index : Nat} {ref : String} (hlink : Cond.fieldLink own index ref (T k).2.1 (T k).2.2.1 ∈ lw_all) (hsame : Cond.sameField ref (T k).1 (T k).2.1 (T k).2.2.1 ∈ lw_all) {x : Value} (hv : fs[k]? = some x) (hdg : decode cc pc = .ok (.getfield index, 3))
    (kk : W p l e R s m args below meth c H locs cells slots Q (F0 m (pc + 3) ls (x :: rest))) : W p l e R s m args below meth c H locs cells slots Q (F0 m pc ls (.ref a :: rest)) := by
  obtain ⟨hx, hb, hml, hown, hts, hr, hlk, hG⟩ := C
  exact va_get hx hb hts hin hown hG.1 (h.at hw (h.1.1.ob hw)) 0 rfl hc k hk (hts _ hlink) (u_same (hts _ hsame)) hv hdg kk
theorem gx_getN (C : Cx g p s m args meth c cc nL own ret) (h : SH g w v s H locs) {ci : Nat} {fs : List Value} (hw : w a = some (.inr (ci, fs))) {Cn : String} {T : u_T} {N : Nat} (hc : vwCl[ci]? = some (Cn, T, N)) (hin : ∀ q ∈ u_ws Cn T N, q ∈ lw_all) (k : Nat) (hk : k < N) {index : Nat} {ref host : String} (hlink : Cond.fieldLinkNest own index ref (T k).2.1 (T k).2.2.1 host ∈ lw_tbl) (hsame : (T k).1 = ref) {x : Value} (hv : fs[k]? = some x) (hdg : decode cc pc = .ok (.getfield index, 3))
    (kk : W p l e R s m args below meth c H locs cells slots Q (F0 m (pc + 3) ls (x :: rest))) : W p l e R s m args below meth c H locs cells slots Q (F0 m pc ls (.ref a :: rest)) := by
  obtain ⟨hx, hb, hml, hown, hts, hr, hlk, hG⟩ := C
  exact va_getN hx hb hts hin hown hG.1 (h.at hw (h.1.1.ob hw)) 0 rfl hc k hk (va_Nw.use rfl (hG.2.2.1 _ hlink rfl)) (fun y hy => by rw [← hsame]; exact hy) hv hdg kk
theorem gx_put (C : Cx g p s m args meth c cc nL own ret) (h : SH g w v s H locs) {ci : Nat} {fs : List Value} (hw : w a = some (.inr (ci, fs))) {Cn : String} {T : u_T} {N : Nat} (hc : vwCl[ci]? = some (Cn, T, N)) (hin : ∀ q ∈ u_ws Cn T N, q ∈ lw_all) (ty0 : Nat → FieldType) (hty : ∀ k, k < N → parseFieldDescriptor (T k).2.2.1 = some (ty0 k)) (hnm : ∀ a, a < N → ∀ b, b < N → a ≠ b → (T a).2.1 ≠ (T b).2.1) (k : Nat) (hk : k < N) {index : Nat} {ref : String} (hlink : Cond.fieldLink own index ref (T k).2.1 (T k).2.2.1 ∈ lw_all) (hsame : (T k).1 = ref) (hfin : (T k).2.2.2 = false) {x : Value} (hn : narrow (ty0 k) x = x) (hfit : fits (ty0 k) x = true) (hl : k < fs.length) (hdg : decode cc pc = .ok (.putfield index, 3))
    (kk : ∀ (H1 : Heap) (locs1 : List Loc), SH g (gu w a (.inr (ci, fs.set k x))) v s H1 locs1 → W p l e R s m args below meth c H1 locs1 cells slots Q (F0 m (pc + 3) ls rest)) : W p l e R s m args below meth c H locs cells slots Q (F0 m pc ls (x :: .ref a :: rest)) := by
  have hfl := C.fl
  obtain ⟨hx, hb, hml, hown, hts, hr, hlk, hG⟩ := C
  have hA := h.1.1.ob hw
  obtain ⟨q0, hq⟩ := h.lk hw hA
  exact va_put hx hb hts hin ty0 hty hnm hown hG.1 (g_lP h.1 H.size) (g_lD H.size) h.2 q0 hq hc k hk (hts _ hlink) (fun y hy => by rw [← hsame]; exact hy) hfin (hty k hk) hn hfit hl hdg (fun H1 locs1 hP hD hS => kk H1 locs1 (h.set hfl (Nat.le_refl _) hw hA hq hP hS))
theorem gx_putS (C : Cx g p s m args meth c cc nL own ret) (h : SH g w v s H locs) {ci : Nat} {fs : List Value} (hw : w a = some (.inr (ci, fs))) {Cn : String} {T : u_T} {N : Nat} (hc : vwCl[ci]? = some (Cn, T, N)) (hin : ∀ q ∈ u_ws Cn T N, q ∈ lw_all) (ty0 : Nat → FieldType) (hty : ∀ k, k < N → parseFieldDescriptor (T k).2.2.1 = some (ty0 k)) (hnm : ∀ a, a < N → ∀ b, b < N → a ≠ b → (T a).2.1 ≠ (T b).2.1) (k : Nat) (hk : k < N) {index : Nat} {ref : String} (hlink : Cond.fieldLink own index ref (T k).2.1 (T k).2.2.1 ∈ lw_all) (hsame : Cond.sameField ref (T k).1 (T k).2.1 (T k).2.2.1 ∈ lw_all) (hfin : (T k).2.2.2 = false) {x : Value} (hn : narrow (ty0 k) x = x) (hfit : fits (ty0 k) x = true) (hl : k < fs.length) (hdg : decode cc pc = .ok (.putfield index, 3))
    (kk : ∀ (H1 : Heap) (locs1 : List Loc), SH g (gu w a (.inr (ci, fs.set k x))) v s H1 locs1 → W p l e R s m args below meth c H1 locs1 cells slots Q (F0 m (pc + 3) ls rest)) : W p l e R s m args below meth c H locs cells slots Q (F0 m pc ls (x :: .ref a :: rest)) := by
  have hfl := C.fl
  obtain ⟨hx, hb, hml, hown, hts, hr, hlk, hG⟩ := C
  have hA := h.1.1.ob hw
  obtain ⟨q0, hq⟩ := h.lk hw hA
  exact va_put hx hb hts hin ty0 hty hnm hown hG.1 (g_lP h.1 H.size) (g_lD H.size) h.2 q0 hq hc k hk (hts _ hlink) (u_same (hts _ hsame)) hfin (hty k hk) hn hfit hl hdg (fun H1 locs1 hP hD hS => kk H1 locs1 (h.set hfl (Nat.le_refl _) hw hA hq hP hS))
theorem gx_putF (C : Cx g p s m args meth c cc nL own ret) (h : SH g w v s H locs) {ci : Nat} {fs : List Value} (hw : w a = some (.inr (ci, fs))) {Cn : String} {T : u_T} {N : Nat} (hc : vwCl[ci]? = some (Cn, T, N)) (hin : ∀ q ∈ u_ws Cn T N, q ∈ lw_all) (ty0 : Nat → FieldType) (hty : ∀ k, k < N → parseFieldDescriptor (T k).2.2.1 = some (ty0 k)) (hnm : ∀ a, a < N → ∀ b, b < N → a ≠ b → (T a).2.1 ≠ (T b).2.1) (k : Nat) (hk : k < N) {index : Nat} (hlink : Cond.fieldLink own index own (T k).2.1 (T k).2.2.1 ∈ lw_all) (hsame : (T k).1 = own) (hfin : (T k).2.2.2 = true) (hin2 : meth.name = "<init>") {x : Value} (hn : narrow (ty0 k) x = x) (hfit : fits (ty0 k) x = true) (hl : k < fs.length) (hdg : decode cc pc = .ok (.putfield index, 3))
    (kk : ∀ (H1 : Heap) (locs1 : List Loc), SH g (gu w a (.inr (ci, fs.set k x))) v s H1 locs1 → W p l e R s m args below meth c H1 locs1 cells slots Q (F0 m (pc + 3) ls rest)) : W p l e R s m args below meth c H locs cells slots Q (F0 m pc ls (x :: .ref a :: rest)) := by
  have hfl := C.fl
  obtain ⟨hx, hb, hml, hown, hts, hr, hlk, hG⟩ := C
  have hA := h.1.1.ob hw
  obtain ⟨q0, hq⟩ := h.lk hw hA
  exact va_putF hx hb hts hin ty0 hty hnm hown hG.1 (g_lP h.1 H.size) (g_lD H.size) h.2 q0 hq hc k hk (hts _ hlink) (fun y hy => by rw [← hsame]; exact hy) hfin hin2 hsame (hty k hk) hn hfit hl hdg (fun H1 locs1 hP hD hS => kk H1 locs1 (h.set hfl (Nat.le_refl _) hw hA hq hP hS))
theorem gx_new (C : Cx g p s m args meth c cc nL own ret) (h : SH g w v s H locs) {ci : Nat} {fs : List Value} {Cn : String} {T : u_T} {N : Nat} (hc : vwCl[ci]? = some (Cn, T, N)) (hin : ∀ q ∈ u_ws Cn T N, q ∈ lw_all) (ty0 : Nat → FieldType) (hty : ∀ k, k < N → parseFieldDescriptor (T k).2.2.1 = some (ty0 k)) {index : Nat} (hcl : Cond.classLink own index Cn ∈ lw_all) (hinst : Cond.instantiable Cn N ∈ lw_all) (hini : Cond.initialized Cn ∈ lw_all) (hfs : ∀ j, j < N → defaultValue (ty0 j) = vp_V fs j) (hcells : cells + 1 ≤ R.cells) (hslots : slots + N ≤ R.slots) (hdg : decode cc pc = .ok (.new index, 3))
    (kk : ∀ (q : Nat) (H1 : Heap), w q = none → v q = none → SH g (gu w q (.inr (ci, fs))) v s H1 locs → W p l e R s m args below meth c H1 locs (cells + 1) (slots + N) Q (F0 m (pc + 3) ls (.ref q :: rest))) : W p l e R s m args below meth c H locs cells slots Q (F0 m pc ls rest) := by
  have hfl := C.fl
  obtain ⟨hx, hb, hml, hown, hts, hr, hlk, hG⟩ := C
  exact va_new hx hb hts hin ty0 hty hown (hts _ hcl) (hts _ hinst) (hts _ hini) hG.1 (g_lP h.1 H.size) (g_lD H.size) h.2 (fun q hq => Nat.le_trans hfl hq) hc hfs hcells hslots hdg (fun q H1 hP hD hS => by
    obtain ⟨k1, k2, k3⟩ := h.push hfl (Nat.le_refl _) hP hD hS (g_pnew h.1 (Nat.le_refl _) hD)
    exact kk q H1 k2 k3 k1)
theorem g_arr {t : Nat} {cA cB : ClassId} {ty : FieldType} {tys : List (ClassId × FieldType)} (hK : va_K g.1 vwCl (gt g) s) (h1 : (gt g)[t]? = some (cA, ty)) (h2 : va_RA s cB ty) : cB = cA := by
  have h3 := (hK.2 t _ h1).2
  cases ty with
  | object Cn =>
    obtain ⟨-, -, -, -, -, a1⟩ := h2
    obtain ⟨-, -, -, -, -, a2⟩ := h3
    exact Option.some.inj (a1.symm.trans a2)
  | _ => exact Option.some.inj (Eq.trans (Eq.symm h2) h3)
theorem g_last {X Y : ClassId × FieldType} {tys : List (ClassId × FieldType)} (hK : va_K g.1 vwCl (tys ++ [X]) s) : va_RA s X.1 X.2 := (hK.2 tys.length X (by rw [List.getElem?_append_right (Nat.le_refl _), Nat.sub_self]; rfl)).2
theorem gx_newa (C : Cx g p s m args meth c cc nL own ret) (h : SH g w v s H locs) (t : Nat) {atype : ArrayType} (harr : Cond.arrayClass (newarray.typeOf atype) ∈ lw_all) {ty : FieldType} (hty : newarray.typeOf atype = ty) {cA : ClassId} (ht : (gt g)[t]? = some (cA, ty)) {n : Int32} {N' : Nat} {x : (Nat → Int32) ⊕ (Nat → Int64) ⊕ (Nat → UInt32) ⊕ (Nat → UInt64) ⊕ (Nat → Option Nat)} (ha : ∀ cA : ClassId, vp_cell cA (N', x) = arrV cA N' (fun _ => defaultValue ty)) (hn : n = nI N') (hbytes : N' * componentBytes ty ≤ 536870912) (hN : N' < 2 ^ 31) (hcells : cells + 1 ≤ R.cells) (hslots : slots + N' ≤ R.slots) (hdg : decode cc pc = .ok (.newarray atype, 2))
    (kk : ∀ (q : Nat) (H1 : Heap), w q = none → v q = none → SH g (gu w q (.inl (cA, N', x))) v s H1 locs → W p l e R s m args below meth c H1 locs (cells + 1) (slots + N') Q (F0 m (pc + 2) ls (.ref q :: rest))) : W p l e R s m args below meth c H locs cells slots Q (F0 m pc ls (.int n :: rest)) := by
  have hfl := C.fl
  obtain ⟨hx, hb, hml, hown, hts, hr, hlk, hG⟩ := C
  exact va_newa hx hb (hts _ harr) hty hG.1 (g_lP h.1 H.size) (g_lD H.size) h.2 (fun q hq => Nat.le_trans hfl hq) ha (by rw [hn]; exact nI_pos hN) (by rw [hn]; exact nI_clamp hN) hbytes hcells hslots hdg (fun q cB H1 hK hP hD hS => by
    have hcB : cB = cA := g_arr (tys := []) hG.1 ht (g_last (Y := (cB, ty)) hK)
    subst hcB
    obtain ⟨k1, k2, k3⟩ := h.push hfl (Nat.le_refl _) hP hD hS (g_pnew h.1 (Nat.le_refl _) hD)
    exact kk q H1 k2 k3 k1)
theorem gx_newq (C : Cx g p s m args meth c cc nL own ret) (h : SH g w v s H locs) (t : Nat) {Cn : String} {index : Nat} (hcl : Cond.classLink own index Cn ∈ lw_all) (hov : va_AO Cn s) {cA : ClassId} (ht : (gt g)[t]? = some (cA, .object Cn)) {n : Int32} {N' : Nat} (hn : n = nI N') (hbytes : N' * 4 ≤ 536870912) (hcells : cells + 1 ≤ R.cells) (hslots : slots + N' ≤ R.slots) (hdg : decode cc pc = .ok (.anewarray index, 3))
    (kk : ∀ (q : Nat) (H1 : Heap), w q = none → v q = none → SH g (gu w q (.inl (cA, N', .inr (.inr (.inr (.inr (fun _ => none))))))) v s H1 locs → W p l e R s m args below meth c H1 locs (cells + 1) (slots + N') Q (F0 m (pc + 3) ls (.ref q :: rest))) : W p l e R s m args below meth c H locs cells slots Q (F0 m pc ls (.int n :: rest)) := by
  have hfl := C.fl
  have hN : N' < 2 ^ 31 := by omega
  obtain ⟨hx, hb, hml, hown, hts, hr, hlk, hG⟩ := C
  exact va_newq hx hb hown (hts _ hcl) hov hG.1 (g_lP h.1 H.size) (g_lD H.size) h.2 (fun q hq => Nat.le_trans hfl hq) (by rw [hn]; exact nI_pos hN) (by rw [hn]; exact nI_clamp hN) hbytes hcells hslots hdg (fun q cB H1 hK hP hD hS => by
    have hcB : cB = cA := g_arr (tys := []) hG.1 ht (g_last (Y := (cB, FieldType.object Cn)) hK)
    subst hcB
    obtain ⟨k1, k2, k3⟩ := h.push hfl (Nat.le_refl _) hP hD hS (g_pnew h.1 (Nat.le_refl _) hD)
    exact kk q H1 k2 k3 k1)
theorem g_vin {i : Int32} {j n : Nat} (hi : i = nI j) (hj : j < n ∧ n ≤ 65536) : vp_in i n ∧ i.toNatClampNeg = j := by
  subst hi
  exact ⟨vp_in_nI hj.1 (by omega), nI_clamp (by omega)⟩
theorem gx_alen (C : Cx g p s m args meth c cc nL own ret) (h : SH g w v s H locs) {t n : Nat} {cA : ClassId} {ty : FieldType} {x : (Nat → Int32) ⊕ (Nat → Int64) ⊕ (Nat → UInt32) ⊕ (Nat → UInt64) ⊕ (Nat → Option Nat)} (ht : (gt g)[t]? = some (cA, ty)) (hw : w a = some (.inl (cA, n, x))) (hdg : decode cc pc = .ok (.arraylength, 1))
    (kk : W p l e R s m args below meth c H locs cells slots Q (F0 m (pc + 1) ls (.int (nI n) :: rest))) : W p l e R s m args below meth c H locs cells slots Q (F0 m pc ls (.ref a :: rest)) := by
  obtain ⟨hx, hb, hml, hown, hts, hr, hlk, hG⟩ := C
  rcases h.1.1 a _ hw with ⟨hA, -⟩ | ⟨cB, y, q1, -, cell, k1, k2, k3, k4⟩
  · exact va_alen hx hb hG.1 (h.at hw hA) 0 t rfl ht rfl hdg kk
  · have e1 : cA = cB := by injection q1 with q1; injection q1
    have e2 : n = 0 := by injection q1 with q1; injection q1 with _ q1; injection q1
    subst e1
    subst e2
    obtain ⟨-, kA, h2, comp, h3⟩ := (hG.1.2 t _ ht).1 0 (fun _ => .null)
    exact W.alen (n := nI 0) hx hb k1 ⟨fun z hz => (by rw [hz] at k4; cases k4), kA, by rw [k2]; exact h2, comp, h3⟩ (by rw [k3] <;> rfl) rfl rfl hdg kk
theorem gx_iald (C : Cx g p s m args meth c cc nL own ret) (h : SH g w v s H locs) {n : Nat} {f : Nat → Int32} (hw : w a = some (eI g n f)) {i : Int32} (j : Nat) (hi : i = nI j) (hj : j < n ∧ n ≤ 65536) (hdg : decode cc pc = .ok (.iaload, 1))
    (kk : W p l e R s m args below meth c H locs cells slots Q (F0 m (pc + 1) ls (.int (f j) :: rest))) : W p l e R s m args below meth c H locs cells slots Q (F0 m pc ls (.int i :: .ref a :: rest)) := by
  obtain ⟨hx, hb, hml, hown, hts, hr, hlk, hG⟩ := C
  obtain ⟨h1, h2⟩ := g_vin hi hj
  refine va_iald hx hb hG.1 (h.at hw (h.1.1.ar hw (by omega))) 0 1 rfl rfl h1 hdg ?_
  rw [h2]
  exact kk
theorem gx_bald (C : Cx g p s m args meth c cc nL own ret) (h : SH g w v s H locs) {n : Nat} {f : Nat → Int8} (hw : w a = some (eB g n f)) {i : Int32} (j : Nat) (hi : i = nI j) (hj : j < n ∧ n ≤ 65536) (hdg : decode cc pc = .ok (.baload, 1))
    (kk : W p l e R s m args below meth c H locs cells slots Q (F0 m (pc + 1) ls (.int (f j).toInt32 :: rest))) : W p l e R s m args below meth c H locs cells slots Q (F0 m pc ls (.int i :: .ref a :: rest)) := by
  obtain ⟨hx, hb, hml, hown, hts, hr, hlk, hG⟩ := C
  obtain ⟨h1, h2⟩ := g_vin hi hj
  refine va_bald hx hb hG.1 (h.at hw (h.1.1.ar hw (by omega))) 0 0 rfl rfl h1 hdg ?_
  rw [h2]
  exact kk
theorem gx_zald (C : Cx g p s m args meth c cc nL own ret) (h : SH g w v s H locs) {n : Nat} {f : Nat → Bool} (hw : w a = some (eZ g n f)) {i : Int32} (j : Nat) (hi : i = nI j) (hj : j < n ∧ n ≤ 65536) (hdg : decode cc pc = .ok (.baload, 1))
    (kk : W p l e R s m args below meth c H locs cells slots Q (F0 m (pc + 1) ls (.int (bI (f j)) :: rest))) : W p l e R s m args below meth c H locs cells slots Q (F0 m pc ls (.int i :: .ref a :: rest)) := by
  obtain ⟨hx, hb, hml, hown, hts, hr, hlk, hG⟩ := C
  obtain ⟨h1, h2⟩ := g_vin hi hj
  refine va_zald hx hb hG.1 (h.at hw (h.1.1.ar hw (by omega))) 0 2 rfl rfl h1 hdg ?_
  rw [h2]
  exact kk
theorem gx_lald (C : Cx g p s m args meth c cc nL own ret) (h : SH g w v s H locs) {n : Nat} {f : Nat → Int64} (hw : w a = some (eL g n f)) {i : Int32} (j : Nat) (hi : i = nI j) (hj : j < n ∧ n ≤ 65536) (hdg : decode cc pc = .ok (.laload, 1))
    (kk : W p l e R s m args below meth c H locs cells slots Q (F0 m (pc + 1) ls (.long (f j) :: rest))) : W p l e R s m args below meth c H locs cells slots Q (F0 m pc ls (.int i :: .ref a :: rest)) := by
  obtain ⟨hx, hb, hml, hown, hts, hr, hlk, hG⟩ := C
  obtain ⟨h1, h2⟩ := g_vin hi hj
  refine va_lald hx hb hG.1 (h.at hw (h.1.1.ar hw (by omega))) 0 3 rfl rfl h1 hdg ?_
  rw [h2]
  exact kk
theorem gx_aald (C : Cx g p s m args meth c cc nL own ret) (h : SH g w v s H locs) (t : Nat) {cA : ClassId} {Cn : String} {n : Nat} {f : Nat → Option Nat} (ht : (gt g)[t]? = some (cA, .object Cn)) (hw : w a = some (.inl (cA, n, .inr (.inr (.inr (.inr f)))))) {i : Int32} (j : Nat) (hi : i = nI j) (hj : j < n ∧ n ≤ 65536) (hdg : decode cc pc = .ok (.aaload, 1))
    (kk : W p l e R s m args below meth c H locs cells slots Q (F0 m (pc + 1) ls (va_rf (f j) :: rest))) : W p l e R s m args below meth c H locs cells slots Q (F0 m pc ls (.int i :: .ref a :: rest)) := by
  obtain ⟨hx, hb, hml, hown, hts, hr, hlk, hG⟩ := C
  obtain ⟨h1, h2⟩ := g_vin hi hj
  refine va_aldq hx hb hG.1 (h.at hw (h.1.1.ar hw (by omega))) 0 t rfl ht h1 hdg ?_
  rw [h2]
  exact kk
theorem g_upB {f : Nat → Int8} {k : Nat} {x : Int32} : upd (fun j => (f j).toInt32) k (vp_nar .byte x) = fun j => (va_up f k x.toInt8 j).toInt32 := by
  funext j
  by_cases h : j = k <;> simp [upd, va_up, h, vp_nar_byte]
theorem g_upZ {f : Nat → Bool} {k : Nat} {x : Bool} : upd (fun j => bI (f j)) k (vp_nar .boolean (bI x)) = fun j => bI (va_up f k x j) := by
  funext j
  by_cases h : j = k <;> simp [upd, va_up, h, bI_v]
theorem gx_iast (C : Cx g p s m args meth c cc nL own ret) (h : SH g w v s H locs) {n : Nat} {f : Nat → Int32} (hw : w a = some (eI g n f)) {i : Int32} (j : Nat) (hi : i = nI j) (hj : j < n ∧ n ≤ 65536) {x : Int32} (hdg : decode cc pc = .ok (.iastore, 1))
    (kk : ∀ (H1 : Heap) (locs1 : List Loc), SH g (gu w a (eI g n (upd f j x))) v s H1 locs1 → W p l e R s m args below meth c H1 locs1 cells slots Q (F0 m (pc + 1) ls rest)) : W p l e R s m args below meth c H locs cells slots Q (F0 m pc ls (.int x :: .int i :: .ref a :: rest)) := by
  have hfl := C.fl
  obtain ⟨hx, hb, hml, hown, hts, hr, hlk, hG⟩ := C
  obtain ⟨h1, h2⟩ := g_vin hi hj
  have hA := h.1.1.ar hw (by omega)
  obtain ⟨q0, hq⟩ := h.lk hw hA
  refine va_iast hx hb hG.1 (g_lP h.1 H.size) (g_lD H.size) h.2 q0 1 hq rfl h1 hdg (fun H1 locs1 hP hD hS => ?_)
  rw [h2] at hP
  exact kk H1 locs1 (h.set hfl (Nat.le_refl _) hw hA hq hP hS)
theorem gx_bast (C : Cx g p s m args meth c cc nL own ret) (h : SH g w v s H locs) {n : Nat} {f : Nat → Int8} (hw : w a = some (eB g n f)) {i : Int32} (j : Nat) (hi : i = nI j) (hj : j < n ∧ n ≤ 65536) {x : Int32} (hdg : decode cc pc = .ok (.bastore, 1))
    (kk : ∀ (H1 : Heap) (locs1 : List Loc), SH g (gu w a (eB g n (va_up f j x.toInt8))) v s H1 locs1 → W p l e R s m args below meth c H1 locs1 cells slots Q (F0 m (pc + 1) ls rest)) : W p l e R s m args below meth c H locs cells slots Q (F0 m pc ls (.int x :: .int i :: .ref a :: rest)) := by
  have hfl := C.fl
  obtain ⟨hx, hb, hml, hown, hts, hr, hlk, hG⟩ := C
  obtain ⟨h1, h2⟩ := g_vin hi hj
  have hA := h.1.1.ar hw (by omega)
  obtain ⟨q0, hq⟩ := h.lk hw hA
  refine va_bast hx hb hG.1 (g_lP h.1 H.size) (g_lD H.size) h.2 q0 0 hq rfl h1 hdg (fun H1 locs1 hP hD hS => ?_)
  rw [h2, g_upB] at hP
  exact kk H1 locs1 (h.set hfl (Nat.le_refl _) hw hA hq hP hS)
theorem gx_zast (C : Cx g p s m args meth c cc nL own ret) (h : SH g w v s H locs) {n : Nat} {f : Nat → Bool} (hw : w a = some (eZ g n f)) {i : Int32} (j : Nat) (hi : i = nI j) (hj : j < n ∧ n ≤ 65536) {x : Int32} (b : Bool) (hxb : x = bI b) (hdg : decode cc pc = .ok (.bastore, 1))
    (kk : ∀ (H1 : Heap) (locs1 : List Loc), SH g (gu w a (eZ g n (va_up f j b))) v s H1 locs1 → W p l e R s m args below meth c H1 locs1 cells slots Q (F0 m (pc + 1) ls rest)) : W p l e R s m args below meth c H locs cells slots Q (F0 m pc ls (.int x :: .int i :: .ref a :: rest)) := by
  have hfl := C.fl
  obtain ⟨hx, hb, hml, hown, hts, hr, hlk, hG⟩ := C
  obtain ⟨h1, h2⟩ := g_vin hi hj
  have hA := h.1.1.ar hw (by omega)
  obtain ⟨q0, hq⟩ := h.lk hw hA
  subst hxb
  refine va_zast hx hb hG.1 (g_lP h.1 H.size) (g_lD H.size) h.2 q0 2 hq rfl h1 hdg (fun H1 locs1 hP hD hS => ?_)
  rw [h2, g_upZ] at hP
  exact kk H1 locs1 (h.set hfl (Nat.le_refl _) hw hA hq hP hS)
theorem gx_last (C : Cx g p s m args meth c cc nL own ret) (h : SH g w v s H locs) {n : Nat} {f : Nat → Int64} (hw : w a = some (eL g n f)) {i : Int32} (j : Nat) (hi : i = nI j) (hj : j < n ∧ n ≤ 65536) {x : Int64} (hdg : decode cc pc = .ok (.lastore, 1))
    (kk : ∀ (H1 : Heap) (locs1 : List Loc), SH g (gu w a (eL g n (vp_updL f j x))) v s H1 locs1 → W p l e R s m args below meth c H1 locs1 cells slots Q (F0 m (pc + 1) ls rest)) : W p l e R s m args below meth c H locs cells slots Q (F0 m pc ls (.long x :: .int i :: .ref a :: rest)) := by
  have hfl := C.fl
  obtain ⟨hx, hb, hml, hown, hts, hr, hlk, hG⟩ := C
  obtain ⟨h1, h2⟩ := g_vin hi hj
  have hA := h.1.1.ar hw (by omega)
  obtain ⟨q0, hq⟩ := h.lk hw hA
  refine va_last hx hb hG.1 (g_lP h.1 H.size) (g_lD H.size) h.2 q0 3 hq rfl h1 hdg (fun H1 locs1 hP hD hS => ?_)
  rw [h2] at hP
  exact kk H1 locs1 (h.set hfl (Nat.le_refl _) hw hA hq hP hS)
theorem gx_aastN (C : Cx g p s m args meth c cc nL own ret) (h : SH g w v s H locs) (t : Nat) {cA : ClassId} {Cn : String} {n : Nat} {f : Nat → Option Nat} (ht : (gt g)[t]? = some (cA, .object Cn)) (hw : w a = some (.inl (cA, n, .inr (.inr (.inr (.inr f)))))) {i : Int32} (j : Nat) (hi : i = nI j) (hj : j < n ∧ n ≤ 65536) (hdg : decode cc pc = .ok (.aastore, 1))
    (kk : ∀ (H1 : Heap) (locs1 : List Loc), SH g (gu w a (.inl (cA, n, .inr (.inr (.inr (.inr (va_up f j none))))))) v s H1 locs1 → W p l e R s m args below meth c H1 locs1 cells slots Q (F0 m (pc + 1) ls rest)) : W p l e R s m args below meth c H locs cells slots Q (F0 m pc ls (.null :: .int i :: .ref a :: rest)) := by
  have hfl := C.fl
  obtain ⟨hx, hb, hml, hown, hts, hr, hlk, hG⟩ := C
  obtain ⟨h1, h2⟩ := g_vin hi hj
  have hA := h.1.1.ar hw (by omega)
  obtain ⟨q0, hq⟩ := h.lk hw hA
  refine va_astqN hx hb hG.1 (g_lP h.1 H.size) (g_lD H.size) h.2 q0 t hq ht h1 hdg (fun H1 locs1 hP hD hS => ?_)
  rw [h2] at hP
  exact kk H1 locs1 (h.set hfl (Nat.le_refl _) hw hA hq hP hS)
theorem gx_aast (C : Cx g p s m args meth c cc nL own ret) (h : SH g w v s H locs) (t : Nat) {cA : ClassId} {n b ci : Nat} {f : Nat → Option Nat} {fs : List Value} {r : vw_C} (hc : vwCl[ci]? = some r) (ht : (gt g)[t]? = some (cA, .object r.1)) (hw : w a = some (.inl (cA, n, .inr (.inr (.inr (.inr f)))))) (hv : w b = some (.inr (ci, fs))) {i : Int32} (j : Nat) (hi : i = nI j) (hj : j < n ∧ n ≤ 65536) (hdg : decode cc pc = .ok (.aastore, 1))
    (kk : ∀ (H1 : Heap) (locs1 : List Loc), SH g (gu w a (.inl (cA, n, .inr (.inr (.inr (.inr (va_up f j (some b)))))))) v s H1 locs1 → W p l e R s m args below meth c H1 locs1 cells slots Q (F0 m (pc + 1) ls rest)) : W p l e R s m args below meth c H locs cells slots Q (F0 m pc ls (.ref b :: .int i :: .ref a :: rest)) := by
  have hfl := C.fl
  obtain ⟨hx, hb, hml, hown, hts, hr, hlk, hG⟩ := C
  obtain ⟨h1, h2⟩ := g_vin hi hj
  have hA := h.1.1.ar hw (by omega)
  obtain ⟨q0, hq⟩ := h.lk hw hA
  obtain ⟨qk, hqk⟩ := h.lk hv (h.1.1.ob hv)
  refine va_astq hx hb hG.1 (g_lP h.1 H.size) (g_lD H.size) h.2 q0 t qk ci hq ht hqk hc h1 hdg (fun H1 locs1 hP hD hS => ?_)
  rw [h2] at hP
  exact kk H1 locs1 (h.set hfl (Nat.le_refl _) hw hA hq hP hS)
theorem gx_aastO (C : Cx g p s m args meth c cc nL own ret) (h : SH g w v s H locs) (t : Nat) {cA : ClassId} {E : String} {n b ci : Nat} {f : Nat → Option Nat} {fs : List Value} {r : vw_C} (hc : vwCl[ci]? = some r) (ht : (gt g)[t]? = some (cA, .object E)) (hca : Cond.castable r.1 E ∈ lw_tbl) (hw : w a = some (.inl (cA, n, .inr (.inr (.inr (.inr f)))))) (hv : w b = some (.inr (ci, fs))) {i : Int32} (j : Nat) (hi : i = nI j) (hj : j < n ∧ n ≤ 65536) (hdg : decode cc pc = .ok (.aastore, 1))
    (kk : ∀ (H1 : Heap) (locs1 : List Loc), SH g (gu w a (.inl (cA, n, .inr (.inr (.inr (.inr (va_up f j (some b)))))))) v s H1 locs1 → W p l e R s m args below meth c H1 locs1 cells slots Q (F0 m (pc + 1) ls rest)) : W p l e R s m args below meth c H locs cells slots Q (F0 m pc ls (.ref b :: .int i :: .ref a :: rest)) := by
  have hfl := C.fl
  obtain ⟨hx, hb, hml, hown, hts, hr, hlk, hG⟩ := C
  obtain ⟨h1, h2⟩ := g_vin hi hj
  have hA := h.1.1.ar hw (by omega)
  obtain ⟨q0, hq⟩ := h.lk hw hA
  obtain ⟨qk, hqk⟩ := h.lk hv (h.1.1.ob hv)
  refine va_astqO hx hb hG.1 (g_lP h.1 H.size) (g_lD H.size) h.2 q0 t qk ci hq ht (hG.2.2.1 _ hca rfl) hqk hc h1 hdg (fun H1 locs1 hP hD hS => ?_)
  rw [h2] at hP
  exact kk H1 locs1 (h.set hfl (Nat.le_refl _) hw hA hq hP hS)
theorem SH.recv (C : Cx g p s m args meth c cc nL own ret) (h : SH g w v s H locs) {ci : Nat} {fs : List Value} {r : vw_C} (hc : vwCl[ci]? = some r) (hw : w a = some (.inr (ci, fs))) : ∃ cell : Cell, H[a]? = some cell ∧ cell.vm.isStatics = false ∧ s.vm.findClass r.1 = some cell.cls := va_recv (ws := [(a, .inr (ci, fs))]) (q0 := 0) C.gs.1 (h.at hw (h.1.1.ob hw)) hc rfl
theorem gx_cast (C : Cx g p s m args meth c cc nL own ret) (h : SH g w v s H locs) {ci : Nat} {fs : List Value} {Cn : String} {T : u_T} {N : Nat} (hc : vwCl[ci]? = some (Cn, T, N)) (hw : w a = some (.inr (ci, fs))) {index : Nat} (hlink : Cond.classLink own index Cn ∈ lw_all) (hdg : decode cc pc = .ok (.checkcast index, 3))
    (kk : W p l e R s m args below meth c H locs cells slots Q (F0 m (pc + 3) ls (.ref a :: rest))) : W p l e R s m args below meth c H locs cells slots Q (F0 m pc ls (.ref a :: rest)) :=
  va_castS C.1 C.2.1 C.2.2.2.1 (C.2.2.2.2.1 _ hlink) (C.gs.1.1 ci _ hc).2 (SH.recv C h hc hw) hdg kk
/-! calls -/
theorem gp_S (C : Cx g p s m args meth c cc nL own ret) (h : SH g w v s H locs) (av : List Value) : PreS s H (gP g av w v) av := ⟨gP_blind g av w v, fun U hU hW => ⟨rfl, C.gs.warm h.2 hU hW, by rw [hU]; exact h.1⟩⟩
theorem gp_V (C : Cx g p s m args meth c cc nL own ret) (h : SH g w v s H locs) {b ci : Nat} {fs : List Value} {Cn : String} {T : u_T} {N : Nat} (As : List Value) (hc : vwCl[ci]? = some (Cn, T, N)) (hw : w b = some (.inr (ci, fs))) : PreV s H Cn b (gP g (.ref b :: As) w v) As := ⟨gP_blind g _ w v, SH.recv C h hc hw, fun U hU hW => ⟨rfl, C.gs.warm h.2 hU hW, by rw [hU]; exact h.1⟩⟩
variable {st0 : List Value} {mc ms : Nat} {av : Array Value}
theorem gc_i {post : Int32 → GW → Prop} (hr : va_Run p l e R s m args below meth c H locs cells slots mc ms (F0 m pc ls st0) rest (va_Qi post (gB g v) (gA g) av) (gA g)) (h : SH g w v s H locs)
    (kk : ∀ (r : Int32) (w1 : GW) (H1 : Heap) (locs1 : List Loc), post r w1 → SH g w1 v s H1 locs1 → W p l e R s m args below meth c H1 locs1 (cells + mc) (slots + ms) Q (F0 m (pc + 3) ls (.int r :: rest))) : W p l e R s m args below meth c H locs cells slots Q (F0 m pc ls st0) :=
  va_calli hr h.2 (fun _ _ q => q) (fun _ q => q) (fun r u t H1 locs1 ht hvm hp hB hz hk hS => kk r u H1 locs1 hp ⟨by rw [← ht]; exact hB, hS⟩)
theorem gc_l {post : Int64 → GW → Prop} (hr : va_Run p l e R s m args below meth c H locs cells slots mc ms (F0 m pc ls st0) rest (va_Ql post (gB g v) (gA g) av) (gA g)) (h : SH g w v s H locs)
    (kk : ∀ (r : Int64) (w1 : GW) (H1 : Heap) (locs1 : List Loc), post r w1 → SH g w1 v s H1 locs1 → W p l e R s m args below meth c H1 locs1 (cells + mc) (slots + ms) Q (F0 m (pc + 3) ls (.long r :: rest))) : W p l e R s m args below meth c H locs cells slots Q (F0 m pc ls st0) :=
  va_calll hr h.2 (fun _ _ q => q) (fun _ q => q) (fun r u t H1 locs1 ht hvm hp hB hz hk hS => kk r u H1 locs1 hp ⟨by rw [← ht]; exact hB, hS⟩)
theorem gc_v {post : GW → Prop} (hr : va_Run p l e R s m args below meth c H locs cells slots mc ms (F0 m pc ls st0) rest (va_Qv post (gB g v) (gA g) av) (gA g)) (h : SH g w v s H locs)
    (kk : ∀ (w1 : GW) (H1 : Heap) (locs1 : List Loc), post w1 → SH g w1 v s H1 locs1 → W p l e R s m args below meth c H1 locs1 (cells + mc) (slots + ms) Q (F0 m (pc + 3) ls rest)) : W p l e R s m args below meth c H locs cells slots Q (F0 m pc ls st0) :=
  va_callv hr h.2 (fun _ _ q => q) (fun _ q => q) (fun u t H1 locs1 ht hvm hp hB hz hk hS => kk u H1 locs1 hp ⟨by rw [← ht]; exact hB, hS⟩)
theorem gc_q {post : Option Nat → GW → Prop} (hr : va_Run p l e R s m args below meth c H locs cells slots mc ms (F0 m pc ls st0) rest (va_Qq post (gB g v) (gA g) av) (gA g)) (h : SH g w v s H locs)
    (kk : ∀ (r : Option Nat) (w1 : GW) (H1 : Heap) (locs1 : List Loc), post r w1 → SH g w1 v s H1 locs1 → W p l e R s m args below meth c H1 locs1 (cells + mc) (slots + ms) Q (F0 m (pc + 3) ls (va_rf r :: rest))) : W p l e R s m args below meth c H locs cells slots Q (F0 m pc ls st0) :=
  va_callq hr h.2 (fun _ _ q => q) (fun _ q => q) (fun r u t H1 locs1 ht hvm hp hB hz hk hS => kk r u H1 locs1 hp ⟨by rw [← ht]; exact hB, hS⟩)
theorem gc_Fi {post : Int32 → GW → Prop} (hr : va_Run5 p l e R s m args below meth c H locs cells slots mc ms (F0 m pc ls st0) rest (va_Qi post (gB g v) (gA g) av) (gA g)) (h : SH g w v s H locs)
    (kk : ∀ (r : Int32) (w1 : GW) (H1 : Heap) (locs1 : List Loc), post r w1 → SH g w1 v s H1 locs1 → W p l e R s m args below meth c H1 locs1 (cells + mc) (slots + ms) Q (F0 m (pc + 5) ls (.int r :: rest))) : W p l e R s m args below meth c H locs cells slots Q (F0 m pc ls st0) :=
  va_callFi hr h.2 (fun _ _ q => q) (fun _ q => q) (fun r u t H1 locs1 ht hvm hp hB hz hk hS => kk r u H1 locs1 hp ⟨by rw [← ht]; exact hB, hS⟩)
theorem gc_Fq {post : Option Nat → GW → Prop} (hr : va_Run5 p l e R s m args below meth c H locs cells slots mc ms (F0 m pc ls st0) rest (va_Qq post (gB g v) (gA g) av) (gA g)) (h : SH g w v s H locs)
    (kk : ∀ (r : Option Nat) (w1 : GW) (H1 : Heap) (locs1 : List Loc), post r w1 → SH g w1 v s H1 locs1 → W p l e R s m args below meth c H1 locs1 (cells + mc) (slots + ms) Q (F0 m (pc + 5) ls (va_rf r :: rest))) : W p l e R s m args below meth c H locs cells slots Q (F0 m pc ls st0) :=
  va_callFq hr h.2 (fun _ _ q => q) (fun _ q => q) (fun r u t H1 locs1 ht hvm hp hB hz hk hS => kk r u H1 locs1 hp ⟨by rw [← ht]; exact hB, hS⟩)
/-! ends -/
theorem gr_i (C : Cx g p s m args meth c cc nL own ret) (h : SH g w v s H locs) {post : Int32 → GW → Prop} {x : Int32} {ty : FieldType} (hty : ret = some ty) (hn : narrow ty (.int x) = .int x) (hp : post x w) (hc : cells ≤ mc) (hs : slots ≤ ms) (hdg : decode cc pc = .ok (.ireturn, 1)) : W p l e R s m args below meth c H locs cells slots (MQ below (va_Qi post (gB g v) (gA g)) args s mc ms (gA g)) (F0 m pc ls [.int x]) := by
  obtain ⟨hx, hb, hml, hown, hts, hr, hlk, hG⟩ := C
  subst hty
  refine W.widen hc hs ?_
  exact W.zret hx hb hr hn (fun t ht hW => ⟨⟨x, w, rfl, hp, by show GH g w v t.heap; rw [ht]; exact h.1⟩, h.2.F ht⟩) h.2.2.2 hdg hlk
theorem gr_l (C : Cx g p s m args meth c cc nL own (some .long)) (h : SH g w v s H locs) {post : Int64 → GW → Prop} {x : Int64} (hp : post x w) (hc : cells ≤ mc) (hs : slots ≤ ms) (hdg : decode cc pc = .ok (.lreturn, 1)) : W p l e R s m args below meth c H locs cells slots (MQ below (va_Ql post (gB g v) (gA g)) args s mc ms (gA g)) (F0 m pc ls [.long x]) := by
  obtain ⟨hx, hb, hml, hown, hts, hr, hlk, hG⟩ := C
  refine W.widen hc hs ?_
  exact W.lret hx hb hr (fun t ht hW => ⟨⟨x, w, rfl, hp, by show GH g w v t.heap; rw [ht]; exact h.1⟩, h.2.F ht⟩) h.2.2.2 hdg hlk
theorem gr_v (C : Cx g p s m args meth c cc nL own none) (h : SH g w v s H locs) {post : GW → Prop} (hp : post w) (hc : cells ≤ mc) (hs : slots ≤ ms) (hdg : decode cc pc = .ok (.return_, 1)) : W p l e R s m args below meth c H locs cells slots (MQ below (va_Qv post (gB g v) (gA g)) args s mc ms (gA g)) (F0 m pc ls []) := by
  obtain ⟨hx, hb, hml, hown, hts, hr, hlk, hG⟩ := C
  refine W.widen hc hs ?_
  exact W.vret hx hb hr (fun t ht hW => ⟨⟨w, rfl, hp, by show GH g w v t.heap; rw [ht]; exact h.1⟩, h.2.F ht⟩) h.2.2.2 hdg hlk
theorem gr_q (C : Cx g p s m args meth c cc nL own ret) (h : SH g w v s H locs) {post : Option Nat → GW → Prop} {x : Option Nat} {ty : FieldType} (hty : ret = some ty) (hrt : (∃ n, ty = .object n) ∨ ∃ t, ty = .array t) (hp : post x w) (hc : cells ≤ mc) (hs : slots ≤ ms) (hdg : decode cc pc = .ok (.areturn, 1)) : W p l e R s m args below meth c H locs cells slots (MQ below (va_Qq post (gB g v) (gA g)) args s mc ms (gA g)) (F0 m pc ls [va_rf x]) := by
  obtain ⟨hx, hb, hml, hown, hts, hr, hlk, hG⟩ := C
  subst hty
  refine W.widen hc hs ?_
  exact W.aret hx hb hr hrt (va_rf_or x) (fun t ht hW => ⟨⟨x, w, rfl, hp, by show GH g w v t.heap; rw [ht]; exact h.1⟩, h.2.F ht⟩) h.2.2.2 hdg hlk
end GR
