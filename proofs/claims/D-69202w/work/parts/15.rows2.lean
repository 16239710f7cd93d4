set_option maxRecDepth 100000
section GR2
variable {p : Program} {l : Launch} {e : Env} {R : Room} {s : State} {m : MethodId} {args : Array Value} {below : List Frame} {meth : Method} {c : Code} {H : Heap} {locs : List Loc} {cells slots : Nat} {Q : State → Prop}
variable {g : GG} {w v : GW} {cc : ByteArray} {nL : Nat} {own : String} {ret : Option FieldType} {pc : Nat} {ls : Array Slot} {rest : List Value} {a : Nat}
theorem g_fitB (b : Int8) : fits .byte (.int b.toInt32) = true := by
  have := pk_fb b.toInt32
  rwa [Int8.toInt8_toInt32] at this
/-- System.arraycopy of bytes -/
theorem gx_copyB (C : Cx g p s m args meth c cc nL own ret) (h : SH g w v s H locs) (hls : ls.size = nL) {index : Nat} (hlink : Cond.methodLink own index arraycopyName ∈ lw_all) {a0 n0 n1 : Nat} {f0 f1 : Nat → Int8} (ha0 : w a0 = some (eB g n0 f0)) (ha1 : w a = some (eB g n1 f1)) (sp dp n : Nat) (h4 : sp + n ≤ n0 ∧ n0 ≤ 65536) (h5 : dp + n ≤ n1 ∧ n1 ≤ 65536) (hpos : 0 < n0 ∧ 0 < n1) (hframes : 1 ≤ R.frames) (hlocals : (rest.map fun v => v.category).sum + (nativeFrameWords "java/lang/System" "arraycopy" 5 + 11) ≤ R.locals) (hdg : decode cc pc = .ok (.invokestatic index, 3))
    (kk : ∀ (H1 : Heap) (locs1 : List Loc), SH g (gu w a (eB g n1 (va_cpy f0 f1 sp dp n))) v s H1 locs1 → W p l e R s m args below meth c H1 locs1 cells slots Q (F0 m (pc + 3) ls rest)) : W p l e R s m args below meth c H locs cells slots Q (F0 m pc ls (.int (nI n) :: .int (nI dp) :: .ref a :: .int (nI sp) :: .ref a0 :: rest)) := by
  have hfl := C.fl
  obtain ⟨hx, hb, hml, hown, hts, hr, hlk, hG⟩ := C
  have hA := h.1.1.ar ha1 hpos.2
  obtain ⟨q0, hq0⟩ := h.lk ha0 (h.1.1.ar ha0 hpos.1)
  obtain ⟨q1, hq1⟩ := h.lk ha1 hA
  have c1 : (nI sp).toNatClampNeg = sp := nI_clamp (by omega)
  have c2 : (nI dp).toNatClampNeg = dp := nI_clamp (by omega)
  have c3 : (nI n).toNatClampNeg = n := nI_clamp (by omega)
  refine va_copyi hx hb (by rw [hml, hls]) hown (hts _ hlink) (hts _ q209) (hts _ q208) (hts _ q52) hG.1 (g_lP h.1 H.size) (g_lD H.size) h.2 q0 q1 0 0 hq0 hq1 rfl rfl rfl (nI_pos (by omega)) (nI_pos (by omega)) (nI_pos (by omega)) (by rw [c1, c3]; exact h4.1) (by rw [c2, c3]; exact h5.1) (fun i _ => g_fitB _) hframes hlocals hdg (fun H1 locs1 hP hD hS => ?_)
  rw [c1, c2, c3] at hP
  have e1 : va_cpy (fun j => (f0 j).toInt32) (fun j => (f1 j).toInt32) sp dp n = fun j => (va_cpy f0 f1 sp dp n j).toInt32 := by
    funext j
    simp only [va_cpy]
    split <;> rfl
  rw [e1] at hP
  exact kk H1 locs1 (h.set hfl (Nat.le_refl _) ha1 hA hq1 hP hS)
/-- System.arraycopy of references of one kind, into an Object array -/
theorem gx_copyO (C : Cx g p s m args meth c cc nL own ret) (h : SH g w v s H locs) (hls : ls.size = nL) {index : Nat} (hlink : Cond.methodLink own index arraycopyName ∈ lw_all) {a0 n0 n1 ci : Nat} {r : vw_C} (hc : vwCl[ci]? = some r) (hca : Cond.castable r.1 "java/lang/Object" ∈ lw_tbl) {f0 f1 : Nat → Option Nat} (ha0 : w a0 = some (eO g n0 f0)) (ha1 : w a = some (eO g n1 f1)) (sp dp n : Nat) (h4 : sp + n ≤ n0 ∧ n0 ≤ 65536) (h5 : dp + n ≤ n1 ∧ n1 ≤ 65536) (hpos : 0 < n0 ∧ 0 < n1) (hel : ∀ i y : Nat, i < n → f0 (sp + i) = some y → ∃ fs, w y = some (.inr (ci, fs))) (hframes : 1 ≤ R.frames) (hlocals : (rest.map fun v => v.category).sum + (nativeFrameWords "java/lang/System" "arraycopy" 5 + 11) ≤ R.locals) (hdg : decode cc pc = .ok (.invokestatic index, 3))
    (kk : ∀ (H1 : Heap) (locs1 : List Loc), SH g (gu w a (eO g n1 (va_cpy f0 f1 sp dp n))) v s H1 locs1 → W p l e R s m args below meth c H1 locs1 cells slots Q (F0 m (pc + 3) ls rest)) : W p l e R s m args below meth c H locs cells slots Q (F0 m pc ls (.int (nI n) :: .int (nI dp) :: .ref a :: .int (nI sp) :: .ref a0 :: rest)) := by
  have hfl := C.fl
  have C0 := C
  obtain ⟨hx, hb, hml, hown, hts, hr, hlk, hG⟩ := C
  have hA := h.1.1.ar ha1 hpos.2
  obtain ⟨q0, hq0⟩ := h.lk ha0 (h.1.1.ar ha0 hpos.1)
  obtain ⟨q1, hq1⟩ := h.lk ha1 hA
  have c1 : (nI sp).toNatClampNeg = sp := nI_clamp (by omega)
  have c2 : (nI dp).toNatClampNeg = dp := nI_clamp (by omega)
  have c3 : (nI n).toNatClampNeg = n := nI_clamp (by omega)
  refine va_copyq (C := r.1) (E0 := "java/lang/Object") (E1 := "java/lang/Object") hx hb (by rw [hml, hls]) hown (hts _ hlink) (hts _ q209) (hts _ q208) (hts _ q52) hG.1 (g_lP h.1 H.size) (g_lD H.size) h.2 q0 q1 5 5 hq0 hq1 rfl rfl (nI_pos (by omega)) (nI_pos (by omega)) (nI_pos (by omega)) (by rw [c1, c3]; exact h4.1) (by rw [c2, c3]; exact h5.1) (fun i hi y hy => ?_) (fun comp c0 k1 k2 => ?_) hframes hlocals hdg (fun H1 locs1 hP hD hS => ?_)
  · rw [c3] at hi
    rw [c1] at hy
    obtain ⟨fs, hfs⟩ := hel i y hi hy
    exact SH.recv C0 h hc hfs
  · obtain ⟨d0, t1, f1, f2, f3⟩ := Cond.castable_spec (va_Nw.use (A := args) rfl (hG.2.2.1 _ hca rfl))
    cases k1.symm.trans f2
    cases k2.symm.trans f1
    exact f3
  · rw [c1, c2, c3] at hP
    exact kk H1 locs1 (h.set hfl (Nat.le_refl _) ha1 hA hq1 hP hS)
theorem gx_gets (C : Cx g p s m args meth c cc nL own ret) (h : SH g w v s H locs) {index : Nat} (hlink : Cond.fieldLink own index "java/util/ArrayList" "DEFAULTCAPACITY_EMPTY_ELEMENTDATA" "[Ljava/lang/Object;" ∈ lw_all) (hdg : decode cc pc = .ok (.getstatic index, 3))
    (kk : W p l e R s m args below meth c H locs cells slots Q (F0 m (pc + 3) ls (.ref g.2.2.2.1 :: rest))) : W p l e R s m args below meth c H locs cells slots Q (F0 m pc ls rest) := by
  obtain ⟨hx, hb, hml, hown, hts, hr, hlk, hG⟩ := C
  exact va_gets hx hb hG.2.2.2.2.2.1.1 h.2 hown (hts _ hlink) (fun _ q => q) hdg kk
theorem SH.recvO (C : Cx g p s m args meth c cc nL own ret) (h : SH g w v s H locs) {n : Nat} {f : Nat → Option Nat} (hw : w a = some (eO g n f)) : ∃ cell : Cell, H[a]? = some cell ∧ cell.vm.isStatics = false ∧ s.vm.findClass "[Ljava/lang/Object;" = some cell.cls := by
  have hc : s.vm.findClass "[Ljava/lang/Object;" = some (g.2.1 5) := va_nmO (C.gs.1.2 5 _ rfl).2 (by decide +kernel)
  rcases h.1.1 a _ hw with ⟨-, h1⟩ | ⟨cB, y, q1, -, cell, k1, k2, k3, k4⟩
  · exact ⟨_, h1, rfl, hc⟩
  · have e1 : g.2.1 5 = cB := by injection q1 with q1; injection q1
    exact ⟨cell, k1, k4, by rw [k2, ← e1]; exact hc⟩
end GR2
/-- a contract out of its walk, of a class some of whose methods are native -/
theorem gm_ofF {l : Launch} {y : MethodName} {cc : ByteArray} {maxL : Nat} {ret : Option FieldType} {rm : Room} {g : GG} {av : List Value} {w v : GW} {Qc : Array Value → State → Outcome → State → Prop} {mc ms : Nat} (hy : plainFor y = true) (hav : (lg_sl av).length ≤ maxL)
    (body : ∀ (p : Program) (e : Env) (s : State) (m : MethodId) (below : List Frame) (meth : Method) (c : Code) (ls : Array Slot), Cx g p s m av.toArray meth c cc maxL y.cls ret → meth.name = y.name → SH g w v s s.heap [] → lv_has ls maxL (lv_args 0 av) → W p l e rm s m av.toArray below meth c s.heap [] 0 0 (MQ below Qc av.toArray s mc ms (gA g)) (F0 m 0 ls [])) :
    Met l y (ws_ y cc maxL ret) rm (gP g av w v) Qc mc ms (gA g) := by
  refine MetFree.of_bodySF (code := cc) (maxLocals := maxL) (ret := ret) hy ?_ ?_
  · intro args s m h hn
    obtain ⟨meth, c, h1, h2, h3, h4, h5, h6, -, -⟩ := Cond.code_spec hn (atoms_spec (ws := ws_ y cc maxL ret) h _ List.mem_cons_self)
    exact ⟨meth, c, h1, h2, h3, h4, h5, h6⟩
  · intro p e s m args below meth c s₁ B hml hv _
    obtain ⟨rfl, hG, hH⟩ := hv
    have hts := atoms_spec (ws := ws_ y cc maxL ret) B.pre
    have hts : ∀ w ∈ lw_all, w.before _ s = true := fun w h => hts w (List.mem_cons_of_mem _ h)
    have hh0 : s₁.heap = s.heap := by rw [B.state]; rfl
    have K := body p e s m below meth c _ ⟨B.exec, B.bytes, hml, findClass_of_methodNamed B.named, hts, B.returns, B.notSynchronized, hG⟩ (name_of_methodNamed B.named B.method).1 ⟨hH, va_S.rf⟩ (lv_entry av hav)
    rw [← lg_entry_eq] at K
    obtain ⟨t, a1, o, b1, b2, b3⟩ := K s₁ hh0 (Stand.of_body B)
    exact ⟨t, o, a1, b1, b2, ⟨b3.1, b3.2⟩⟩
