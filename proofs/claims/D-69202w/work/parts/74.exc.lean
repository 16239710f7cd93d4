set_option maxRecDepth 100000
/-! ArrayIndexOutOfBoundsException, thrown by the machine: its words, the rows -/
abbrev exN : String := "java/lang/ArrayIndexOutOfBoundsException"
abbrev exUp : List String := ["java/lang/IndexOutOfBoundsException", "java/lang/RuntimeException", "java/lang/Exception"]
theorem exc_P : ∀ w ∈ Bundle.messageArmAtoms exN exUp, vx_no w = true → w ∈ lw_tbl := (List.forall_mem_cons.mpr ⟨fun _ => lw_all_tbl q61, (List.forall_mem_cons.mpr ⟨fun _ => lw_all_tbl q706, (List.forall_mem_cons.mpr ⟨fun _ => lw_all_tbl q663, (List.forall_mem_cons.mpr ⟨fun _ => lw_all_tbl q666, (List.forall_mem_cons.mpr ⟨fun _ => lw_all_tbl q669, (List.forall_mem_cons.mpr ⟨fun _ => lw_all_tbl q671, (List.forall_mem_cons.mpr ⟨fun _ => lw_all_tbl q707, (List.forall_mem_cons.mpr ⟨fun _ => lw_all_tbl q708, (List.forall_mem_cons.mpr ⟨fun _ => lw_all_tbl q76, (List.forall_mem_cons.mpr ⟨fun _ => lw_all_tbl q77, (List.forall_mem_cons.mpr ⟨fun _ => lw_all_tbl q657, (List.forall_mem_cons.mpr ⟨fun _ => lw_all_tbl q662, (List.forall_mem_cons.mpr ⟨fun _ => lw_all_tbl q667, (List.forall_mem_cons.mpr ⟨fun _ => lw_all_tbl q674, (List.forall_mem_cons.mpr ⟨fun _ => lw_all_tbl q700, (List.forall_mem_cons.mpr ⟨fun _ => lw_all_tbl q675, (List.forall_mem_cons.mpr ⟨fun _ => lw_all_tbl q701, (List.forall_mem_cons.mpr ⟨fun _ => lw_all_tbl q676, (List.forall_mem_cons.mpr ⟨fun _ => lw_all_tbl q702, (List.forall_mem_cons.mpr ⟨fun _ => lw_all_tbl q658, (List.forall_mem_cons.mpr ⟨fun h => absurd h (by decide +kernel), (List.forall_mem_cons.mpr ⟨fun _ => lw_all_tbl q660, (List.forall_mem_cons.mpr ⟨fun h => absurd h (by decide +kernel), (List.forall_mem_cons.mpr ⟨fun _ => lw_all_tbl q703, (List.forall_mem_cons.mpr ⟨fun _ => lw_all_tbl q655, (List.forall_mem_cons.mpr ⟨fun _ => lw_all_tbl q656, (List.forall_mem_cons.mpr ⟨fun _ => lw_all_tbl q673, (List.forall_mem_cons.mpr ⟨fun _ => lw_all_tbl q703, (List.forall_mem_cons.mpr ⟨fun _ => lw_all_tbl q643, (List.forall_mem_cons.mpr ⟨fun _ => lw_all_tbl q644, (List.forall_mem_cons.mpr ⟨fun _ => lw_all_tbl q645, (List.forall_mem_cons.mpr ⟨fun _ => lw_all_tbl q646, (List.forall_mem_cons.mpr ⟨fun _ => q692, (List.forall_mem_cons.mpr ⟨fun _ => lw_all_tbl q646, (List.forall_mem_cons.mpr ⟨fun _ => lw_all_tbl q647, (List.forall_mem_cons.mpr ⟨fun _ => lw_all_tbl q648, (List.forall_mem_cons.mpr ⟨fun _ => lw_all_tbl q649, (List.forall_mem_cons.mpr ⟨fun _ => q694, (List.forall_mem_cons.mpr ⟨fun _ => lw_all_tbl q649, (List.forall_mem_cons.mpr ⟨fun _ => lw_all_tbl q650, (List.forall_mem_cons.mpr ⟨fun _ => lw_all_tbl q651, (List.forall_mem_cons.mpr ⟨fun _ => lw_all_tbl q652, (List.forall_mem_cons.mpr ⟨fun _ => q696, (List.forall_mem_cons.mpr ⟨fun _ => lw_all_tbl q652, (List.forall_mem_cons.mpr ⟨fun _ => lw_all_tbl q653, (List.forall_mem_cons.mpr ⟨fun _ => lw_all_tbl q654, (List.forall_mem_cons.mpr ⟨fun _ => lw_all_tbl q655, (List.forall_mem_cons.mpr ⟨fun _ => q698, (List.forall_mem_cons.mpr ⟨fun _ => lw_all_tbl q66, (List.forall_mem_cons.mpr ⟨fun _ => lw_all_tbl q709, (List.forall_mem_cons.mpr ⟨fun _ => lw_all_tbl q149, (List.forall_mem_cons.mpr ⟨fun _ => lw_all_tbl q710, (List.forall_mem_cons.mpr ⟨fun _ => lw_all_tbl q712, (List.forall_mem_cons.mpr ⟨fun _ => lw_all_tbl q711, (List.forall_mem_cons.mpr ⟨fun _ => lw_all_tbl q713, (List.forall_mem_cons.mpr ⟨fun _ => lw_all_tbl q65, (List.forall_mem_cons.mpr ⟨fun _ => lw_all_tbl q642, (List.forall_mem_cons.mpr ⟨fun _ => q690, (List.forall_mem_cons.mpr ⟨fun _ => lw_all_tbl q699, (List.forall_mem_cons.mpr ⟨fun _ => lw_all_tbl q665, (List.forall_mem_cons.mpr ⟨fun _ => lw_all_tbl q681, (List.forall_mem_cons.mpr ⟨fun _ => lw_all_tbl q683, (List.forall_mem_cons.mpr ⟨fun _ => lw_all_tbl q687, (List.forall_mem_cons.mpr ⟨fun _ => lw_all_tbl q679, (List.forall_mem_cons.mpr ⟨fun h => absurd h (by decide +kernel), (List.forall_mem_cons.mpr ⟨fun h => absurd h (by decide +kernel), (List.forall_mem_cons.mpr ⟨fun _ => lw_all_tbl q705, (List.forall_mem_cons.mpr ⟨fun _ => lw_all_tbl q704, (List.forall_mem_cons.mpr ⟨fun _ => lw_all_tbl q677, (fun _ h => nomatch h)⟩)⟩)⟩)⟩)⟩)⟩)⟩)⟩)⟩)⟩)⟩)⟩)⟩)⟩)⟩)⟩)⟩)⟩)⟩)⟩)⟩)⟩)⟩)⟩)⟩)⟩)⟩)⟩)⟩)⟩)⟩)⟩)⟩)⟩)⟩)⟩)⟩)⟩)⟩)⟩)⟩)⟩)⟩)⟩)⟩)⟩)⟩)⟩)⟩)⟩)⟩)⟩)⟩)⟩)⟩)⟩)⟩)⟩)⟩)⟩)⟩)⟩)⟩)⟩)⟩)⟩)⟩)⟩)⟩)
theorem exc_all : (Bundle.messageArmAtoms exN exUp).all (fun w => !vx_no w || ((goodWord w || (nwK w && w.onTables)) && vx_ot w)) = true := by decide +kernel
theorem exc_of {w : Cond} (hw : w ∈ vx_atM exN exUp) : w ∈ lw_tbl ∧ (goodWord w = true ∨ (nwK w = true ∧ w.onTables = true)) ∧ vx_ot w = true := by
  obtain ⟨h1, h2⟩ := List.mem_filter.mp hw
  have h3 := List.all_eq_true.mp exc_all w h1
  rw [h2] at h3
  simp only [Bool.not_true, Bool.false_or, Bool.and_eq_true, Bool.or_eq_true] at h3
  exact ⟨exc_P w h1 h2, h3.1, h3.2⟩
theorem exc_ot : ∀ w ∈ vx_atM exN exUp, vx_ot w = true := fun w hw => (exc_of hw).2.2
section GX
variable {p : Program} {l : Launch} {e : Env} {R : Room} {s : State} {m : MethodId} {args : Array Value} {below : List Frame} {meth : Method} {c : Code} {H : Heap} {locs : List Loc} {cells slots : Nat} {Q : State → Prop}
variable {g : GG} {w v : GW} {cc : ByteArray} {nL : Nat} {own : String} {ret : Option FieldType} {pc : Nat} {ls : Array Slot} {rest : List Value} {a : Nat}
theorem exc_hat (C : Cx g p s m args meth c cc nL own ret) : ∀ w ∈ vx_atM exN exUp, w.before args s = true := by
  intro w hw
  obtain ⟨ht, h | ⟨h1, h2⟩, -⟩ := exc_of hw
  · exact C.2.2.2.2.1 _ (lw_g ht h)
  · exact va_Nw.use h2 (C.gs.2.2.1 _ ht h1)
theorem GX.kept {H1 : Heap} (h : GX g w H) (hk : ∀ q : Nat, q < H.size → H1[q]? = H[q]?) : GX g w H1 := fun a e hw => (h a e hw).kept (hk a (h.lt hw))
theorem GH.kept {H1 : Heap} (h : GH g w v H) (hk : ∀ q : Nat, q < H.size → H1[q]? = H[q]?) : GH g w v H1 := ⟨h.1.kept hk, h.2.1.kept hk, h.2.2⟩
/-- the machine throws for an index that is out of bounds -/
theorem gx_thr (C : Cx g p s m args meth c cc nL own ret) (h : SH g w v s H locs) (hst : l.stackTraces = false) (hls : ls.size = nL) {i : Int32} {n : Nat} (hn : n < 2 ^ 31) {tx : String} (htx : tx = (toString "Index " ++ toString i ++ toString " out of bounds for length " ++ toString n : String)) (hRf : 7 < R.frames) (hRl : (rest.map fun v => v.category).sum + 10240 ≤ R.locals) (hc : cells + 3 ≤ R.cells) (hs : slots + 222 ≤ R.slots)
    (k : ∀ (H1 : Heap) (q9 : Addr) (ce : Cell), SH g w v s H1 locs → H1[q9]? = some ce → ce.vm = .none → s.vm.findClass exN = some ce.cls → vx_W p l e R s m args below meth c H1 locs (cells + 3) (slots + 222) Q (F0 m pc ls rest) q9) :
    vx_Note p l e R s m args below meth c H locs cells slots Q (F0 m pc ls rest) exN tx := by
  subst htx
  obtain ⟨-, -, -, -, -, -, -, hU, hN⟩ := id C.gs
  exact vx_vm (A := gA g) (names := exUp) (nb := 212) C.1 hst (by decide +kernel) (by decide +kernel) (by decide) (by decide) (exc_hat C) exc_ot hU hN h.2 (hls.trans C.2.2.1.symm) (index_text_modelled i n) (index_text_bytes i hn) (by decide) hRf hRl (by decide) hc hs C.2.2.2.2.2.2.1
    (fun H1 q9 ce h1 h2 hS hce hv hcl => k H1 q9 ce ⟨h.1.kept h2, hS⟩ hce hv hcl)
theorem gx_ialdZ (C : Cx g p s m args meth c cc nL own ret) (h : SH g w v s H locs) {n : Nat} {f : Nat → Int32} (hw : w a = some (eI g n f)) (hn0 : 0 < n) {i : Int32} (hout : ¬ vp_in i n) (hdg : decode cc pc = .ok (.iaload, 1))
    (k : ∀ tx : String, tx = (toString "Index " ++ toString i ++ toString " out of bounds for length " ++ toString n : String) → vx_Note p l e R s m args below meth c H locs cells slots Q (F0 m pc ls rest) exN tx) : W p l e R s m args below meth c H locs cells slots Q (F0 m pc ls (.int i :: .ref a :: rest)) :=
  vx_ialdZ C.1 C.2.1 C.gs.1 (h.at hw (h.1.1.ar hw hn0)) 0 1 rfl rfl hout hdg k
theorem gx_baldZ (C : Cx g p s m args meth c cc nL own ret) (h : SH g w v s H locs) {n : Nat} {f : Nat → Int8} (hw : w a = some (eB g n f)) (hn0 : 0 < n) {i : Int32} (hout : ¬ vp_in i n) (hdg : decode cc pc = .ok (.baload, 1))
    (k : ∀ tx : String, tx = (toString "Index " ++ toString i ++ toString " out of bounds for length " ++ toString n : String) → vx_Note p l e R s m args below meth c H locs cells slots Q (F0 m pc ls rest) exN tx) : W p l e R s m args below meth c H locs cells slots Q (F0 m pc ls (.int i :: .ref a :: rest)) :=
  vx_baldZ C.1 C.2.1 C.gs.1 (h.at hw (h.1.1.ar hw hn0)) 0 0 rfl rfl hout hdg k
theorem gx_aaldZ (C : Cx g p s m args meth c cc nL own ret) (h : SH g w v s H locs) {n : Nat} {f : Nat → Option Nat} (hw : w a = some (eS g n f)) (hn0 : 0 < n) {i : Int32} (hout : ¬ vp_in i n) (hdg : decode cc pc = .ok (.aaload, 1))
    (k : ∀ tx : String, tx = (toString "Index " ++ toString i ++ toString " out of bounds for length " ++ toString n : String) → vx_Note p l e R s m args below meth c H locs cells slots Q (F0 m pc ls rest) exN tx) : W p l e R s m args below meth c H locs cells slots Q (F0 m pc ls (.int i :: .ref a :: rest)) := by
  intro T hT X
  obtain ⟨t, st, q⟩ := k _ rfl T hT X
  refine ⟨t, ?_, q⟩
  have h1 := X.aaloadOut C.1 (by rw [hT]; exact (h.at hw (h.1.1.ar hw hn0)) 0 _ rfl) ((C.gs.1.2 4 _ rfl).1 n (fun j => va_rf (f j))) (j := i) (by show (i < 0 ∨ (arrV _ _ _).slots.size ≤ _); rw [arrV_size]; exact Classical.byContradiction hout) (g := F0 m pc ls (.int i :: .ref a :: rest)) rfl (rest := rest) rfl (by rw [C.2.1]; exact hdg) t
  simp only [arrV_size] at h1
  exact h1 st
/-- it leaves the method -/
theorem gx_out (C : Cx g p s m args meth c cc nL own ret) (h : SH g w v s H locs) (ht : ∀ x ∈ c.exceptionTable.toList, False) {q9 : Addr} {ce : Cell} (hce : H[q9]? = some ce) (hv : ce.vm = .none) (hcl : s.vm.findClass exN = some ce.cls) {px : GW → Prop} (hp : px w) {mc ms : Nat} {Qc : Array Value → State → Outcome → State → Prop} (hc : cells ≤ mc) (hs : slots ≤ ms) :
    vx_W p l e R s m args below meth c H locs cells slots (vx_MQ below Qc (vx_X px (fun E u t => E = exN ∧ GH g u v t.heap) (gA g)) args s mc ms (gA g)) (F0 m pc ls rest) q9 :=
  vx_out (fun x hx => (ht x hx).elim) C.2.2.2.2.2.2.1 hce hv hcl (fun t hT hvm => ⟨w, hp, ⟨rfl, by rw [hT]; exact h.1⟩, h.2.F hT⟩) h.2.2.2 hc hs
end GX
/-- a contract that may throw, out of its walk -/
theorem gmx_of {l : Launch} {y : MethodName} {cc : ByteArray} {maxL : Nat} {ret : Option FieldType} {rm : Room} {g : GG} {av : List Value} {w v : GW} {Qc : Array Value → State → Outcome → State → Prop} {XC : String → State → State → Prop} {mc ms : Nat} (hy : plainName y.cls = true) (hav : (lg_sl av).length ≤ maxL)
    (body : ∀ (p : Program) (e : Env) (s : State) (m : MethodId) (below : List Frame) (meth : Method) (c : Code) (ls : Array Slot), Cx g p s m av.toArray meth c cc maxL y.cls ret → meth.name = y.name → (∀ x ∈ c.exceptionTable.toList, False) → SH g w v s s.heap [] → lv_has ls maxL (lv_args 0 av) → W p l e rm s m av.toArray below meth c s.heap [] 0 0 (vx_MQ below Qc XC av.toArray s mc ms (gA g)) (F0 m 0 ls [])) :
    vx_Met l y (ws_ y cc maxL ret) rm (gP g av w v) Qc XC mc ms (gA g) := by
  refine vx_ofW (cc := cc) (maxL := maxL) (ret := ret) hy rfl ?_
  intro p e s m args below meth c s₁ B hml htb hv
  obtain ⟨rfl, hG, hH⟩ := hv
  have hts := atoms_spec (ws := ws_ y cc maxL ret) B.pre
  have hts : ∀ w ∈ lw_all, w.before _ s = true := fun w h => hts w (List.mem_cons_of_mem _ h)
  rw [lg_entry_eq]
  exact body p e s m below meth c _ ⟨B.exec, B.bytes, hml, findClass_of_methodNamed B.named, hts, B.returns, B.notSynchronized, hG⟩ (name_of_methodNamed B.named B.method).1 htb ⟨hH, va_S.rf⟩ (lv_entry av hav)
/-- a contract of a method with handlers, out of its walk -/
theorem gmw_of {l : Launch} {y : MethodName} {cc : ByteArray} {maxL : Nat} {ret : Option FieldType} {hh : List (Nat × Nat × Nat × Nat)} {rm : Room} {g : GG} {av : List Value} {w v : GW} {Qc : Array Value → State → Outcome → State → Prop} {mc ms : Nat} (hy : plainName y.cls = true) (hav : (lg_sl av).length ≤ maxL)
    (body : ∀ (p : Program) (e : Env) (s : State) (m : MethodId) (below : List Frame) (meth : Method) (c : Code) (ls : Array Slot), Cx g p s m av.toArray meth c cc maxL y.cls ret → c.exceptionTable.toList = tableOf hh → SH g w v s s.heap [] → lv_has ls maxL (lv_args 0 av) → W p l e rm s m av.toArray below meth c s.heap [] 0 0 (MQ below Qc av.toArray s mc ms (gA g)) (F0 m 0 ls [])) :
    Met l y (wsW_ y cc maxL ret hh) rm (gP g av w v) Qc mc ms (gA g) := by
  refine MetFree.of_bodyS (code := cc) (maxLocals := maxL) (ret := ret) hy ?_ ?_
  · intro args s m h hn
    obtain ⟨m9, meth, c, hn9, h1, h2, h3, h4, -, h5, h6, -⟩ := Cond.codeWith_spec (atoms_spec (ws := wsW_ y cc maxL ret hh) h _ List.mem_cons_self)
    cases hn.symm.trans hn9
    exact ⟨meth, c, h1, h2, h3, h4, h5, h6⟩
  · intro p e s m args below meth c s₁ B hml hP _
    obtain ⟨rfl, hG, hH⟩ := hP
    have hh0 : s₁.heap = s.heap := by rw [B.state]; rfl
    have hts0 := atoms_spec (ws := wsW_ y cc maxL ret hh) B.pre
    have hts : ∀ w ∈ lw_all, w.before _ s = true := fun w h => hts0 w (List.mem_cons_of_mem _ h)
    have K : W p l e rm s m av.toArray below meth c s.heap [] 0 0 (MQ below Qc av.toArray s mc ms (gA g)) (entryFrame m av.toArray maxL) := by
      rw [lg_entry_eq]
      exact body p e s m below meth c _ ⟨B.exec, B.bytes, hml, findClass_of_methodNamed B.named, hts, B.returns, B.notSynchronized, hG⟩ (vx_table B (hts0 _ List.mem_cons_self)) ⟨hH, va_S.rf⟩ (lv_entry av hav)
    obtain ⟨t, a1, o, b1, b2, b3, b4⟩ := K s₁ hh0 (Stand.of_body B)
    exact ⟨t, o, a1, b1, b2, b3, b4⟩
