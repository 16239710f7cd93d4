set_option maxRecDepth 100000
/-! THE CLAIM OUT OF ONE WALK OF THE LAW'S BODY (kit/laws/SKELETON.whole) -/
def R_law : String := "KnowDiskLaw"
def lw_P (b : Addr) (xs : List Int32) (args : Array Value) (s : State) : Prop := args = #[.ref b] ∧ s.IntsAt b xs ∧ xs.length ≤ 321 ∧ (Jvm.Cond.and given_1 narrow_1).before args s = true
def lw_Q (_ : Array Value) (s : State) (o : Outcome) (t : State) : Prop := o = .returned (some (.int 1)) ∧ Framed s o t [] 603072 7206600
def lw_Z (below : List Frame) (a : Array Value) (s : State) : State → Prop := fun t => ∃ o, t.status = .running ∧ Ended t below o ∧ lw_Q a s o t
/-- the law's own end, with 1 on the stack, nothing written that was there before, its room as the claim has it -/
theorem lw_ret {p : Program} {l : Launch} {e : Env} {s : State} {m : MethodId} {below : List Frame} {meth : Method} {c : Code} {b : Nat} (hx : p.tables.exec = Jvm.exec) (hb : c.code = code) (hr : meth.sig.returnType = ret) (hlocks : meth.locks = false) {pc : Nat} {H : Heap} {ls : Array Slot} (hdg : decode code pc = .ok (.ireturn, 1)) : W p l e room_1 s m #[Value.ref b] below meth c H [] 603072 7206600 (lw_Z below #[Value.ref b] s) (F0 m pc ls [.int 1]) := by
  intro T hT X
  obtain ⟨fs, hret, hrun, hended, hW, hframe⟩ := X.leave (v := some (.int 1)) (hlocks := hlocks) (fun h => by rw [hr] at h; cases h)
  have hmeth' : T.vm.method? m = some meth := X.method'
  refine ⟨T.setFrames fs, ?_, .returned (some (.int 1)), hrun, hended, rfl, ⟨_, rfl⟩, hW, hframe⟩
  jvm_step X.here [X.here.top, hx, hb, hdg, hmeth', hr, ret, narrow_b1]
  (try refine ⟨rfl, ?_⟩); (try refine ⟨rfl, ?_⟩)
  first | (intro acts; rw [hret _ acts rfl rfl rfl]) | rw [hret _ _ rfl rfl rfl]
  exact Steps.refl _
/-- what holds at the law's entry: the machine, the code, the tables' words (any of lw_tbl by 'hts w (by decide +kernel)'), the script of L ints xs at the cell b, what the Statement gives of the start (any of its parts by flat_of_before) -/
def lw_At (p : Program) (s : State) (m : MethodId) (meth : Method) (c : Code) (b L : Nat) (xs : Nat → Int32) : Prop :=
  p.tables.exec = Jvm.exec ∧ c.code = code ∧ meth.sig.returnType = ret ∧ c.maxLocals = 7 ∧ s.vm.findClass R_law = some m.cls ∧ (∀ w ∈ lw_tbl, w.before #[Value.ref b] s = true) ∧ va_X b L xs s s.heap ∧ b < s.heap.size ∧ meth.locks = false ∧ (Jvm.Cond.and given_1 narrow_1).before #[Value.ref b] s = true

theorem lt_in {L N : Nat} (hL : L ≤ 321) (hN : N ≤ 64) (h : ¬ nI L - nI 5 < nI (1 + 5 * N)) : 5 * N + 6 ≤ L := by
  rw [Int32.lt_iff_toInt_lt, Int32.toInt_sub, nI_toInt (n := L) (by omega), nI_toInt (n := 1 + 5 * N) (by omega), show (nI 5).toInt = 5 by decide, Int.bmod_eq_of_le (by omega) (by omega)] at h
  omega
theorem and15 (x : Int32) : ∃ k, k < 16 ∧ x &&& nI 15 = nI k := by
  refine ⟨(x &&& nI 15).toBitVec.toNat, ?_, ?_⟩
  · rw [Int32.toBitVec_and, BitVec.toNat_and]
    exact Nat.lt_of_le_of_lt Nat.and_le_right (by decide)
  · apply Int32.toBitVec_inj.mp
    apply BitVec.eq_of_toNat_eq
    have hl : (x &&& nI 15).toBitVec.toNat < 2 ^ 32 := (x &&& nI 15).toBitVec.isLt
    show _ = (Int32.ofNat _).toBitVec.toNat
    rw [Int32.toBitVec_ofNat', BitVec.toNat_ofNat, Nat.mod_eq_of_lt hl]
theorem rm_B {g : GG} {w : GW} {ad : Nat → Nat} {N cn : Nat} {ru fu ch : Bool} {dk : Sec} {wt : List (Nat × Sec)} {ld : Nat → Option Sec} {pl : Nat → Option Nat} {st kp : List (Int32 × Int64)} (h : RM g w ad N (cn, ru, fu, ch, dk, wt, ld, pl, st, kp)) (hN : N < 64) : wt.length + cntL ld ≤ 64 ∧ st.length ≤ 64 := by
  obtain ⟨th, fi, be, ne, ke, fD, fL, fO, zz, fP2, fT, fY, fN, fS, fKn, fK, fH, -, -, -, -, -, -, h6, -, -, -, -, -, h12, h13⟩ := h
  omega
theorem opt_some {α : Type} {x : Option α} (h : x.isNone = false) : ∃ y, x = some y := by
  cases x with
  | none => cases h
  | some y => exact ⟨y, rfl⟩
set_option maxHeartbeats 16000000 in
/-- the law's loop: both answer alike, call by call -/
theorem law_loop {p : Program} {e : Env} {s : State} {m : MethodId} {below : List Frame} {meth : Method} {c : Code} (l : Launch) (hst : l.stackTraces = false) (g : GG) {b L : Nat} {xs : Nat → Int32} (hL : L ≤ 321) (C : Cx g p s m #[Value.ref b] meth c cL_law 7 RX0 ret) (hXs : va_X b L xs s s.heap) (hbl : b < s.heap.size) (hfl : g.2.2.1 = s.heap.size) (ax am : Nat → Nat) (o : Nat) : ∀ (n_ N cc cs : Nat) (σ : KS) (wX wM : GW) (f : Nat → Int64) (H : Heap) (locs : List Loc) (ls : Array Slot), 64 - N < n_ → N ≤ 64 → cc ≤ 100 + 500 * N → cs ≤ 60000 + 20000 * N → InvK σ → RX g wX ax σ → RM g wM am N σ → wM o = none → SH g wX (gu wM o (eL g 1 f)) s H locs → lv_has ls 7 [(4, .int (nI (1 + 5 * N))), (0, .ref b), (1, .ref (ax 0)), (2, .ref (am 0)), (3, .ref o)] → W p l e room_1 s m #[Value.ref b] below meth c H locs cc cs (lw_Z below #[Value.ref b] s) (F0 m 33 ls []) := by
  intro n_
  induction n_ with
  | zero => intros; exact absurd ‹_ < 0› (Nat.not_lt_zero _)
  | succ n_ ih =>
    intro N cc cs σ wX wM f H locs ls hf hN64 hc1 hc2 hI hRX hRM hMo h hl
    obtain ⟨cn, ru, fu, ch, dk, wt, ld, pl, st, kp⟩ := σ
    obtain ⟨hx, hb, hml, hown, hts, hr, hlk, hG⟩ := id C
    have hbA : ¬ g.2.2.1 ≤ b := by omega
    refine lv_iload hx hb dL_law_33 (lv_at hl 0 rfl) ?_
    refine lv_aload_n hx hb dL_law_35 rfl (lv_at hl 1 rfl) ?_
    refine gx_slen C h hXs hbl hbA dL_law_36 ?_
    refine lv_iconst (v := nI 5) hx hb dL_law_37 (by decide) ?_
    refine lv_isub hx hb dL_law_38 ?_
    refine lv_icmp_gt (tgt := 543) hx hb dL_law_39 (by decide) (fun c1 => ?_) (fun c1 => ?_)
    · skip
      refine lv_iconst (v := (1)) hx hb dL_law_543 (by decide) ?_
      refine va_forget (fun q hq => by have z9 : g.2.2.1 ≤ q.base := h.2.2.2 q hq; omega) ?_
      refine W.widen (k := 603072) (n := 7206600) (by omega) (by omega) ?_
      exact lw_ret hx hb hr hlk dL_law_544
    · skip
      have c1 : 5 * N + 6 ≤ L := lt_in (by omega) (by omega) c1
      have hN : N < 64 := by omega
      obtain ⟨fP, fl, lb, wE, sE, kE, hXW⟩ := id hRX
      have hx0 := hXW.1.1
      have hB : wt.length + cntL ld ≤ 64 ∧ st.length ≤ 64 := rm_B hRM hN
      obtain ⟨th, fi, be, ne, ke, fD, fL, fO, zz, fP2, fT, fY, fN, fS, fKn, fK, fH, hMW, -⟩ := id hRM
      have hm0 := hMW.2.1
      have nxt : ∀ (cc2 cs2 : Nat) (σ2 : KS) (wX2 wM2 : GW) (f2 : Nat → Int64) (H2 : Heap) (locs2 : List Loc) (ls2 : Array Slot), cc2 ≤ 100 + 500 * (N + 1) → cs2 ≤ 60000 + 20000 * (N + 1) → InvK σ2 → RX g wX2 ax σ2 → RM g wM2 am (N + 1) σ2 → wM2 o = none → SH g wX2 (gu wM2 o (eL g 1 f2)) s H2 locs2 → lv_has ls2 7 [(4, .int (nI (1 + 5 * N))), (0, .ref b), (1, .ref (ax 0)), (2, .ref (am 0)), (3, .ref o)] → W p l e room_1 s m #[Value.ref b] below meth c H2 locs2 cc2 cs2 (lw_Z below #[Value.ref b] s) (F0 m 537 ls2 []) := by
        intro cc2 cs2 σ2 wX2 wM2 f2 H locs ls k1 k2 k3 k4 k5 k6 h hl
        refine lv_iinc (v := nI (1 + 5 * N + 5)) (lv' := [(4, .int (nI (1 + 5 * N + 5))), (0, .ref b), (1, .ref (ax 0)), (2, .ref (am 0)), (3, .ref o)]) hx hb dL_law_537 hl (k := 0) rfl (gi_inc _ 5) (by decide) rfl (fun ls hl => ?_)
        have hl : lv_has ls 7 [(4, .int (nI (1 + 5 * (N + 1)))), (0, .ref b), (1, .ref (ax 0)), (2, .ref (am 0)), (3, .ref o)] := by rw [show 1 + 5 * (N + 1) = 1 + 5 * N + 5 by omega]; exact hl
        refine lv_goto (tgt := 33) hx hb dL_law_540 (by decide) ?_
        exact ih (N + 1) cc2 cs2 σ2 wX2 wM2 f2 H locs ls (by omega) (by omega) k1 k2 k3 k4 k5 k6 h (lv_sub hl [0, 1, 2, 3, 4] rfl)
      refine lv_aload_n hx hb dL_law_42 rfl (lv_at hl 1 rfl) ?_
      refine lv_iload hx hb dL_law_43 (lv_at hl 0 rfl) ?_
      refine gx_sld C h hXs hbl hbA (1 + 5 * N) rfl (by omega) dL_law_45 ?_
      refine lv_bipush (v := nI 15) hx hb dL_law_46 (by decide) ?_
      refine lv_iand hx hb dL_law_48 ?_
      obtain ⟨k, hk, hkv⟩ := and15 (xs (1 + 5 * N))
      rw [hkv]
      rcases (show k = 0 ∨ k = 1 ∨ k = 2 ∨ k = 3 ∨ k = 4 ∨ k = 5 ∨ k = 6 ∨ k = 7 ∨ k = 8 ∨ k = 9 ∨ k = 10 ∨ k = 11 ∨ 12 ≤ k by omega) with rfl | rfl | rfl | rfl | rfl | rfl | rfl | rfl | rfl | rfl | rfl | rfl | hk12
      · skip
        refine lv_tableIn (off := 63) (tgt := 112) hx hb dL_law_49 (by decide) (by decide) (by decide) (by decide) ?_
        refine lv_aload_n hx hb dL_law_112 rfl (lv_at hl 2 rfl) ?_
        refine lv_aload_n hx hb dL_law_113 rfl (lv_at hl 1 rfl) ?_
        refine lv_iload hx hb dL_law_114 (lv_at hl 0 rfl) ?_
        refine lv_iconst (v := nI 1) hx hb dL_law_116 (by decide) ?_
        refine gn_iadd hx hb dL_law_117 ?_
        refine gx_sld C h hXs hbl hbA ((1 + 5 * N) + 1) rfl (by omega) dL_law_118 ?_
        refine lv_aload_n hx hb dL_law_119 rfl (lv_at hl 1 rfl) ?_
        refine lv_iload hx hb dL_law_120 (lv_at hl 0 rfl) ?_
        refine lv_iconst (v := nI 2) hx hb dL_law_122 (by decide) ?_
        refine gn_iadd hx hb dL_law_123 ?_
        refine gx_sld C h hXs hbl hbA ((1 + 5 * N) + 2) rfl (by omega) dL_law_124 ?_
        refine lv_aload_n hx hb dL_law_125 rfl (lv_at hl 1 rfl) ?_
        refine lv_iload hx hb dL_law_126 (lv_at hl 0 rfl) ?_
        refine lv_iconst (v := nI 3) hx hb dL_law_128 (by decide) ?_
        refine gn_iadd hx hb dL_law_129 ?_
        refine gx_sld C h hXs hbl hbA ((1 + 5 * N) + 3) rfl (by omega) dL_law_130 ?_
        refine lv_i2l hx hb dL_law_131 rfl ?_
        refine lv_bipush (v := nI 32) hx hb dL_law_132 (by decide) ?_
        refine lv_lshl hx hb dL_law_134 rfl ?_
        refine lv_aload_n hx hb dL_law_135 rfl (lv_at hl 1 rfl) ?_
        refine lv_iload hx hb dL_law_136 (lv_at hl 0 rfl) ?_
        refine lv_iconst (v := nI 4) hx hb dL_law_138 (by decide) ?_
        refine gn_iadd hx hb dL_law_139 ?_
        refine gx_sld C h hXs hbl hbA ((1 + 5 * N) + 4) rfl (by omega) dL_law_140 ?_
        refine lv_i2l hx hb dL_law_141 rfl ?_
        refine lv_ldc2 (v := 4294967295) hx hb hown (hts _ q944) dL_law_142 ?_
        refine lv_land hx hb dL_law_145 ?_
        refine lv_lor hx hb dL_law_146 ?_
        refine gc_i (va_runV (As := [.int (xs ((1 + 5 * N) + 1)), .int (xs ((1 + 5 * N) + 2)), .long (((((xs ((1 + 5 * N) + 3))).toInt64) <<< ((nI 32).toInt64 &&& 63)) ||| ((((xs ((1 + 5 * N) + 4))).toInt64) &&& 4294967295))]) (rest := []) C.fix (m_X1_page l g wX (gu wM o (eL g 1 f)) ax cn ru fu ch dk wt ld pl st kp hRX hI (xs ((1 + 5 * N) + 1)) (xs ((1 + 5 * N) + 2)) (((((xs ((1 + 5 * N) + 3))).toInt64) <<< ((nI 32).toInt64 &&& 63)) ||| ((((xs ((1 + 5 * N) + 4))).toInt64) &&& 4294967295))) (cwV 3 hts (lw_V q246 q247 q248 q43 q249) rfl rfl rfl (by decide +kernel) ⟨Nat.le_of_ble_eq_true rfl, Nat.le_of_ble_eq_true rfl⟩) (gp_V C h [.int (xs ((1 + 5 * N) + 1)), .int (xs ((1 + 5 * N) + 2)), .long (((((xs ((1 + 5 * N) + 3))).toInt64) <<< ((nI 32).toInt64 &&& 63)) ||| ((((xs ((1 + 5 * N) + 4))).toInt64) &&& 4294967295))] (Cn := RX1) (T := TX1) (N := 10) rfl hx0) rfl rfl hl.1 rfl (lv_room (Nat.le_of_ble_eq_true rfl)) dL_law_147 ⟨(by show cc + 11 ≤ 603072; omega), (by show cs + 119 ≤ 7206600; omega)⟩) h (fun r_1 w_2 H locs hp h => ?_)
        obtain ⟨er1, hX1⟩ := hp
        rw [er1]
        obtain ⟨h, ho1⟩ := h.rot hMo
        refine lv_aload_n hx hb dL_law_150 rfl (lv_at hl 3 rfl) ?_
        refine lv_aload_n hx hb dL_law_151 rfl (lv_at hl 1 rfl) ?_
        refine lv_iload hx hb dL_law_152 (lv_at hl 0 rfl) ?_
        refine lv_iconst (v := nI 1) hx hb dL_law_154 (by decide) ?_
        refine gn_iadd hx hb dL_law_155 ?_
        refine gx_sld C h hXs hbl hbA ((1 + 5 * N) + 1) rfl (by omega) dL_law_156 ?_
        refine lv_aload_n hx hb dL_law_157 rfl (lv_at hl 1 rfl) ?_
        refine lv_iload hx hb dL_law_158 (lv_at hl 0 rfl) ?_
        refine lv_iconst (v := nI 2) hx hb dL_law_160 (by decide) ?_
        refine gn_iadd hx hb dL_law_161 ?_
        refine gx_sld C h hXs hbl hbA ((1 + 5 * N) + 2) rfl (by omega) dL_law_162 ?_
        refine lv_aload_n hx hb dL_law_163 rfl (lv_at hl 1 rfl) ?_
        refine lv_iload hx hb dL_law_164 (lv_at hl 0 rfl) ?_
        refine lv_iconst (v := nI 3) hx hb dL_law_166 (by decide) ?_
        refine gn_iadd hx hb dL_law_167 ?_
        refine gx_sld C h hXs hbl hbA ((1 + 5 * N) + 3) rfl (by omega) dL_law_168 ?_
        refine lv_i2l hx hb dL_law_169 rfl ?_
        refine lv_bipush (v := nI 32) hx hb dL_law_170 (by decide) ?_
        refine lv_lshl hx hb dL_law_172 rfl ?_
        refine lv_aload_n hx hb dL_law_173 rfl (lv_at hl 1 rfl) ?_
        refine lv_iload hx hb dL_law_174 (lv_at hl 0 rfl) ?_
        refine lv_iconst (v := nI 4) hx hb dL_law_176 (by decide) ?_
        refine gn_iadd hx hb dL_law_177 ?_
        refine gx_sld C h hXs hbl hbA ((1 + 5 * N) + 4) rfl (by omega) dL_law_178 ?_
        refine lv_i2l hx hb dL_law_179 rfl ?_
        refine lv_ldc2 (v := 4294967295) hx hb hown (hts _ q944) dL_law_180 ?_
        refine lv_land hx hb dL_law_183 ?_
        refine lv_lor hx hb dL_law_184 ?_
        refine gc_i (va_runV (As := [.int (xs ((1 + 5 * N) + 1)), .int (xs ((1 + 5 * N) + 2)), .long (((((xs ((1 + 5 * N) + 3))).toInt64) <<< ((nI 32).toInt64 &&& 63)) ||| ((((xs ((1 + 5 * N) + 4))).toInt64) &&& 4294967295))]) (rest := [.int ((opPage (cn, ru, fu, ch, dk, wt, ld, pl, st, kp) (xs ((1 + 5 * N) + 1)) (xs ((1 + 5 * N) + 2)) (((((xs ((1 + 5 * N) + 3))).toInt64) <<< ((nI 32).toInt64 &&& 63)) ||| ((((xs ((1 + 5 * N) + 4))).toInt64) &&& 4294967295))).1)]) C.fix (m_X3_page l g wM (gu w_2 o (eL g 1 f)) am N cn ru fu ch dk wt ld pl st kp hRM hI hN (xs ((1 + 5 * N) + 1)) (xs ((1 + 5 * N) + 2)) (((((xs ((1 + 5 * N) + 3))).toInt64) <<< ((nI 32).toInt64 &&& 63)) ||| ((((xs ((1 + 5 * N) + 4))).toInt64) &&& 4294967295))) (cwV 3 hts (lw_V q801 q802 q803 q53 q804) rfl rfl rfl (by decide +kernel) ⟨Nat.le_of_ble_eq_true rfl, Nat.le_of_ble_eq_true rfl⟩) (gp_V C h [.int (xs ((1 + 5 * N) + 1)), .int (xs ((1 + 5 * N) + 2)), .long (((((xs ((1 + 5 * N) + 3))).toInt64) <<< ((nI 32).toInt64 &&& 63)) ||| ((((xs ((1 + 5 * N) + 4))).toInt64) &&& 4294967295))] (Cn := RX3) (T := TX3) (N := 22) rfl hm0) rfl rfl hl.1 rfl (lv_room (Nat.le_of_ble_eq_true rfl)) dL_law_185 ⟨(by show cc + 11 + 0 ≤ 603072; omega), (by show cs + 119 + 0 ≤ 7206600; omega)⟩) h (fun r_3 w_4 H locs hp h => ?_)
        obtain ⟨er2, hM2⟩ := hp
        rw [er2]
        obtain ⟨h, ho2⟩ := h.rot ho1
        refine lv_icmp_eq (tgt := 537) hx hb dL_law_188 (by decide) (fun _ => ?_) (fun c9 => absurd rfl c9)
        exact nxt _ _ _ _ _ _ _ _ _ (by omega) (by omega) (inv_page hI (xs ((1 + 5 * N) + 1)) (xs ((1 + 5 * N) + 2)) (((((xs ((1 + 5 * N) + 3))).toInt64) <<< ((nI 32).toInt64 &&& 63)) ||| ((((xs ((1 + 5 * N) + 4))).toInt64) &&& 4294967295))) hX1 hM2 ho2 h (lv_sub hl [0, 1, 2, 3, 4] rfl)
      · skip
        refine lv_tableIn (off := 144) (tgt := 193) hx hb dL_law_49 (by decide) (by decide) (by decide) (by decide) ?_
        refine lv_aload_n hx hb dL_law_193 rfl (lv_at hl 2 rfl) ?_
        refine lv_aload_n hx hb dL_law_194 rfl (lv_at hl 1 rfl) ?_
        refine lv_iload hx hb dL_law_195 (lv_at hl 0 rfl) ?_
        refine lv_iconst (v := nI 1) hx hb dL_law_197 (by decide) ?_
        refine gn_iadd hx hb dL_law_198 ?_
        refine gx_sld C h hXs hbl hbA ((1 + 5 * N) + 1) rfl (by omega) dL_law_199 ?_
        refine gc_i (va_runV (As := [.int (xs ((1 + 5 * N) + 1))]) (rest := []) C.fix (m_X1_commit l g wX (gu wM o (eL g 1 f)) ax cn ru fu ch dk wt ld pl st kp hRX hI (xs ((1 + 5 * N) + 1)) hB) (cwV 1 hts (lw_V q458 q459 q460 q43 q461) rfl rfl rfl (by decide +kernel) ⟨Nat.le_of_ble_eq_true rfl, Nat.le_of_ble_eq_true rfl⟩) (gp_V C h [.int (xs ((1 + 5 * N) + 1))] (Cn := RX1) (T := TX1) (N := 10) rfl hx0) rfl rfl hl.1 rfl (lv_room (Nat.le_of_ble_eq_true rfl)) dL_law_200 ⟨(by show cc + 316 ≤ 603072; omega), (by show cs + 15300 ≤ 7206600; omega)⟩) h (fun r_5 w_6 H locs hp h => ?_)
        obtain ⟨er1, hX1⟩ := hp
        rw [er1]
        obtain ⟨h, ho1⟩ := h.rot hMo
        refine lv_aload_n hx hb dL_law_203 rfl (lv_at hl 3 rfl) ?_
        refine lv_aload_n hx hb dL_law_204 rfl (lv_at hl 1 rfl) ?_
        refine lv_iload hx hb dL_law_205 (lv_at hl 0 rfl) ?_
        refine lv_iconst (v := nI 1) hx hb dL_law_207 (by decide) ?_
        refine gn_iadd hx hb dL_law_208 ?_
        refine gx_sld C h hXs hbl hbA ((1 + 5 * N) + 1) rfl (by omega) dL_law_209 ?_
        refine gc_i (va_runV (As := [.int (xs ((1 + 5 * N) + 1))]) (rest := [.int ((opCommit (cn, ru, fu, ch, dk, wt, ld, pl, st, kp) (xs ((1 + 5 * N) + 1))).1)]) C.fix (m_X3_commit l g wM (gu w_6 o (eL g 1 f)) am N cn ru fu ch dk wt ld pl st kp hRM hI hN (xs ((1 + 5 * N) + 1))) (cwV 1 hts (lw_V q876 q877 q878 q53 q879) rfl rfl rfl (by decide +kernel) ⟨Nat.le_of_ble_eq_true rfl, Nat.le_of_ble_eq_true rfl⟩) (gp_V C h [.int (xs ((1 + 5 * N) + 1))] (Cn := RX3) (T := TX3) (N := 22) rfl hm0) rfl rfl hl.1 rfl (lv_room (Nat.le_of_ble_eq_true rfl)) dL_law_210 ⟨(by show cc + 316 + 0 ≤ 603072; omega), (by show cs + 15300 + 0 ≤ 7206600; omega)⟩) h (fun r_7 w_8 H locs hp h => ?_)
        obtain ⟨er2, hM2⟩ := hp
        rw [er2]
        obtain ⟨h, ho2⟩ := h.rot ho1
        refine lv_icmp_eq (tgt := 537) hx hb dL_law_213 (by decide) (fun _ => ?_) (fun c9 => absurd rfl c9)
        exact nxt _ _ _ _ _ _ _ _ _ (by omega) (by omega) (inv_commit hI (xs ((1 + 5 * N) + 1))) hX1 hM2 ho2 h (lv_sub hl [0, 1, 2, 3, 4] rfl)
      · skip
        refine lv_tableIn (off := 169) (tgt := 218) hx hb dL_law_49 (by decide) (by decide) (by decide) (by decide) ?_
        refine lv_aload_n hx hb dL_law_218 rfl (lv_at hl 2 rfl) ?_
        refine gc_i (va_runV (As := []) (rest := []) C.fix (m_X1_sync l g wX (gu wM o (eL g 1 f)) ax cn ru fu ch dk wt ld pl st kp hRX hI ) (cwV 0 hts (lw_V q501 q502 q503 q43 q504) rfl rfl rfl (by decide +kernel) ⟨Nat.le_of_ble_eq_true rfl, Nat.le_of_ble_eq_true rfl⟩) (gp_V C h [] (Cn := RX1) (T := TX1) (N := 10) rfl hx0) rfl rfl hl.1 rfl (lv_room (Nat.le_of_ble_eq_true rfl)) dL_law_219 ⟨(by show cc + 0 ≤ 603072; omega), (by show cs + 0 ≤ 7206600; omega)⟩) h (fun r_9 w_10 H locs hp h => ?_)
        obtain ⟨er1, hX1⟩ := hp
        rw [er1]
        obtain ⟨h, ho1⟩ := h.rot hMo
        refine lv_aload_n hx hb dL_law_222 rfl (lv_at hl 3 rfl) ?_
        refine gc_i (va_runV (As := []) (rest := [.int ((opSync (cn, ru, fu, ch, dk, wt, ld, pl, st, kp)).1)]) C.fix (m_X3_sync l g wM (gu w_10 o (eL g 1 f)) am N cn ru fu ch dk wt ld pl st kp hRM hI hN ) (cwV 0 hts (lw_V q885 q886 q887 q53 q888) rfl rfl rfl (by decide +kernel) ⟨Nat.le_of_ble_eq_true rfl, Nat.le_of_ble_eq_true rfl⟩) (gp_V C h [] (Cn := RX3) (T := TX3) (N := 22) rfl hm0) rfl rfl hl.1 rfl (lv_room (Nat.le_of_ble_eq_true rfl)) dL_law_223 ⟨(by show cc + 0 + 0 ≤ 603072; omega), (by show cs + 0 + 0 ≤ 7206600; omega)⟩) h (fun r_11 w_12 H locs hp h => ?_)
        obtain ⟨er2, hM2⟩ := hp
        rw [er2]
        obtain ⟨h, ho2⟩ := h.rot ho1
        refine lv_icmp_eq (tgt := 537) hx hb dL_law_226 (by decide) (fun _ => ?_) (fun c9 => absurd rfl c9)
        exact nxt _ _ _ _ _ _ _ _ _ (by omega) (by omega) (inv_sync hI) hX1 hM2 ho2 h (lv_sub hl [0, 1, 2, 3, 4] rfl)
      · skip
        refine lv_tableIn (off := 182) (tgt := 231) hx hb dL_law_49 (by decide) (by decide) (by decide) (by decide) ?_
        refine lv_aload_n hx hb dL_law_231 rfl (lv_at hl 2 rfl) ?_
        refine lv_aload_n hx hb dL_law_232 rfl (lv_at hl 1 rfl) ?_
        refine lv_iload hx hb dL_law_233 (lv_at hl 0 rfl) ?_
        refine lv_iconst (v := nI 1) hx hb dL_law_235 (by decide) ?_
        refine gn_iadd hx hb dL_law_236 ?_
        refine gx_sld C h hXs hbl hbA ((1 + 5 * N) + 1) rfl (by omega) dL_law_237 ?_
        refine lv_aload_n hx hb dL_law_238 rfl (lv_at hl 1 rfl) ?_
        refine lv_iload hx hb dL_law_239 (lv_at hl 0 rfl) ?_
        refine lv_iconst (v := nI 2) hx hb dL_law_241 (by decide) ?_
        refine gn_iadd hx hb dL_law_242 ?_
        refine gx_sld C h hXs hbl hbA ((1 + 5 * N) + 2) rfl (by omega) dL_law_243 ?_
        refine gc_v (va_runV (As := [.int (xs ((1 + 5 * N) + 1)), .int (xs ((1 + 5 * N) + 2))]) (rest := []) C.fix (m_X1_cut l g wX (gu wM o (eL g 1 f)) ax cn ru fu ch dk wt ld pl st kp hRX hI (xs ((1 + 5 * N) + 1)) (xs ((1 + 5 * N) + 2))) (cwV 2 hts (lw_V q521 q522 q523 q43 q524) rfl rfl rfl (by decide +kernel) ⟨Nat.le_of_ble_eq_true rfl, Nat.le_of_ble_eq_true rfl⟩) (gp_V C h [.int (xs ((1 + 5 * N) + 1)), .int (xs ((1 + 5 * N) + 2))] (Cn := RX1) (T := TX1) (N := 10) rfl hx0) rfl rfl hl.1 rfl (lv_room (Nat.le_of_ble_eq_true rfl)) dL_law_244 ⟨(by show cc + 2 ≤ 603072; omega), (by show cs + 202 ≤ 7206600; omega)⟩) h (fun w_14 H locs hp h => ?_)
        have hX1 := hp
        obtain ⟨h, ho1⟩ := h.rot hMo
        refine lv_aload_n hx hb dL_law_247 rfl (lv_at hl 3 rfl) ?_
        refine lv_aload_n hx hb dL_law_248 rfl (lv_at hl 1 rfl) ?_
        refine lv_iload hx hb dL_law_249 (lv_at hl 0 rfl) ?_
        refine lv_iconst (v := nI 1) hx hb dL_law_251 (by decide) ?_
        refine gn_iadd hx hb dL_law_252 ?_
        refine gx_sld C h hXs hbl hbA ((1 + 5 * N) + 1) rfl (by omega) dL_law_253 ?_
        refine lv_aload_n hx hb dL_law_254 rfl (lv_at hl 1 rfl) ?_
        refine lv_iload hx hb dL_law_255 (lv_at hl 0 rfl) ?_
        refine lv_iconst (v := nI 2) hx hb dL_law_257 (by decide) ?_
        refine gn_iadd hx hb dL_law_258 ?_
        refine gx_sld C h hXs hbl hbA ((1 + 5 * N) + 2) rfl (by omega) dL_law_259 ?_
        refine gc_v (va_runV (As := [.int (xs ((1 + 5 * N) + 1)), .int (xs ((1 + 5 * N) + 2))]) (rest := []) C.fix (m_X3_cut l g wM (gu w_14 o (eL g 1 f)) am N cn ru fu ch dk wt ld pl st kp hRM hI hN (xs ((1 + 5 * N) + 1)) (xs ((1 + 5 * N) + 2))) (cwV 2 hts (lw_V q897 q898 q899 q53 q900) rfl rfl rfl (by decide +kernel) ⟨Nat.le_of_ble_eq_true rfl, Nat.le_of_ble_eq_true rfl⟩) (gp_V C h [.int (xs ((1 + 5 * N) + 1)), .int (xs ((1 + 5 * N) + 2))] (Cn := RX3) (T := TX3) (N := 22) rfl hm0) rfl rfl hl.1 rfl (lv_room (Nat.le_of_ble_eq_true rfl)) dL_law_260 ⟨(by show cc + 2 + 0 ≤ 603072; omega), (by show cs + 202 + 0 ≤ 7206600; omega)⟩) h (fun w_16 H locs hp h => ?_)
        have hM2 := hp
        obtain ⟨h, ho2⟩ := h.rot ho1
        refine lv_goto (tgt := 537) hx hb dL_law_263 (by decide) ?_
        exact nxt _ _ _ _ _ _ _ _ _ (by omega) (by omega) (inv_cut hI (xs ((1 + 5 * N) + 1)) (xs ((1 + 5 * N) + 2))) hX1 hM2 ho2 h (lv_sub hl [0, 1, 2, 3, 4] rfl)
      · skip
        refine lv_tableIn (off := 217) (tgt := 266) hx hb dL_law_49 (by decide) (by decide) (by decide) (by decide) ?_
        refine lv_aload_n hx hb dL_law_266 rfl (lv_at hl 2 rfl) ?_
        refine gc_i (va_runV (As := []) (rest := []) C.fix (m_X1_start l g wX (gu wM o (eL g 1 f)) ax cn ru fu ch dk wt ld pl st kp hRX hI ) (cwV 0 hts (lw_V q529 q530 q531 q43 q532) rfl rfl rfl (by decide +kernel) ⟨Nat.le_of_ble_eq_true rfl, Nat.le_of_ble_eq_true rfl⟩) (gp_V C h [] (Cn := RX1) (T := TX1) (N := 10) rfl hx0) rfl rfl hl.1 rfl (lv_room (Nat.le_of_ble_eq_true rfl)) dL_law_267 ⟨(by show cc + 420 ≤ 603072; omega), (by show cs + 7100 ≤ 7206600; omega)⟩) h (fun r_17 w_18 H locs hp h => ?_)
        obtain ⟨er1, hX1⟩ := hp
        rw [er1]
        obtain ⟨h, ho1⟩ := h.rot hMo
        refine lv_aload_n hx hb dL_law_270 rfl (lv_at hl 3 rfl) ?_
        refine gc_i (va_runV (As := []) (rest := [.int ((opStart (cn, ru, fu, ch, dk, wt, ld, pl, st, kp)).1)]) C.fix (m_X3_start l g wM (gu w_18 o (eL g 1 f)) am N cn ru fu ch dk wt ld pl st kp hRM hI hN ) (cwV 0 hts (lw_V q901 q902 q903 q53 q904) rfl rfl rfl (by decide +kernel) ⟨Nat.le_of_ble_eq_true rfl, Nat.le_of_ble_eq_true rfl⟩) (gp_V C h [] (Cn := RX3) (T := TX3) (N := 22) rfl hm0) rfl rfl hl.1 rfl (lv_room (Nat.le_of_ble_eq_true rfl)) dL_law_271 ⟨(by show cc + 420 + 0 ≤ 603072; omega), (by show cs + 7100 + 0 ≤ 7206600; omega)⟩) h (fun r_19 w_20 H locs hp h => ?_)
        obtain ⟨er2, hM2⟩ := hp
        rw [er2]
        obtain ⟨h, ho2⟩ := h.rot ho1
        refine lv_icmp_eq (tgt := 537) hx hb dL_law_274 (by decide) (fun _ => ?_) (fun c9 => absurd rfl c9)
        exact nxt _ _ _ _ _ _ _ _ _ (by omega) (by omega) (inv_start hI) hX1 hM2 ho2 h (lv_sub hl [0, 1, 2, 3, 4] rfl)
      · skip
        refine lv_tableIn (off := 230) (tgt := 279) hx hb dL_law_49 (by decide) (by decide) (by decide) (by decide) ?_
        refine lv_aload_n hx hb dL_law_279 rfl (lv_at hl 2 rfl) ?_
        refine lv_aload_n hx hb dL_law_280 rfl (lv_at hl 1 rfl) ?_
        refine lv_iload hx hb dL_law_281 (lv_at hl 0 rfl) ?_
        refine lv_iconst (v := nI 1) hx hb dL_law_283 (by decide) ?_
        refine gn_iadd hx hb dL_law_284 ?_
        refine gx_sld C h hXs hbl hbA ((1 + 5 * N) + 1) rfl (by omega) dL_law_285 ?_
        refine lv_aload_n hx hb dL_law_286 rfl (lv_at hl 1 rfl) ?_
        refine lv_iload hx hb dL_law_287 (lv_at hl 0 rfl) ?_
        refine lv_iconst (v := nI 2) hx hb dL_law_289 (by decide) ?_
        refine gn_iadd hx hb dL_law_290 ?_
        refine gx_sld C h hXs hbl hbA ((1 + 5 * N) + 2) rfl (by omega) dL_law_291 ?_
        refine lv_aload_n hx hb dL_law_292 rfl (lv_at hl 4 rfl) ?_
        obtain ⟨h, hXo⟩ := h.mv hMo
        refine gc_i (vx_runSW (As := [.ref (ax 0), .int (xs ((1 + 5 * N) + 1)), .int (xs ((1 + 5 * N) + 2)), .ref o]) (rest := []) C.fix (m_X0_at l hst g wX wM ax o f cn ru fu ch dk wt ld pl st kp hRX hI hXo (xs ((1 + 5 * N) + 1)) (xs ((1 + 5 * N) + 2))) (vx_cwSW 4 hts (lw_SW q638 q639 q42 q640) rfl rfl rfl (by decide +kernel) ⟨Nat.le_of_ble_eq_true rfl, Nat.le_of_ble_eq_true rfl⟩) (gp_S C h _) rfl rfl hl.1 rfl (lv_room (Nat.le_of_ble_eq_true rfl)) dL_law_293 ⟨(by show cc + 6 ≤ 603072; omega), (by show cs + 259 ≤ 7206600; omega)⟩) h (fun r1 w1 H locs hp h => ?_)
        obtain ⟨wX1, f1, ew1, hXo1, hX1, er1, hf1⟩ := hp
        rw [ew1] at h
        rw [er1]
        obtain ⟨h, -⟩ := h.mb hXo1
        obtain ⟨h, ho1⟩ := h.rot hMo
        refine lv_istore (lv' := [(5, .int (bI ((opAt (cn, ru, fu, ch, dk, wt, ld, pl, st, kp) (xs ((1 + 5 * N) + 1)) (xs ((1 + 5 * N) + 2))).isNone))), (4, .int (nI (1 + 5 * N))), (0, .ref b), (1, .ref (ax 0)), (2, .ref (am 0)), (3, .ref o)]) hx hb dL_law_296 hl (by decide) rfl (fun ls hl => ?_)
        refine lv_aload_n hx hb dL_law_298 rfl (lv_at hl 4 rfl) ?_
        refine lv_aload_n hx hb dL_law_299 rfl (lv_at hl 2 rfl) ?_
        refine lv_iload hx hb dL_law_300 (lv_at hl 1 rfl) ?_
        refine lv_iconst (v := nI 1) hx hb dL_law_302 (by decide) ?_
        refine gn_iadd hx hb dL_law_303 ?_
        refine gx_sld C h hXs hbl hbA ((1 + 5 * N) + 1) rfl (by omega) dL_law_304 ?_
        refine lv_aload_n hx hb dL_law_305 rfl (lv_at hl 2 rfl) ?_
        refine lv_iload hx hb dL_law_306 (lv_at hl 1 rfl) ?_
        refine lv_iconst (v := nI 2) hx hb dL_law_308 (by decide) ?_
        refine gn_iadd hx hb dL_law_309 ?_
        refine gx_sld C h hXs hbl hbA ((1 + 5 * N) + 2) rfl (by omega) dL_law_310 ?_
        refine gc_i (va_runV (As := [.int (xs ((1 + 5 * N) + 1)), .int (xs ((1 + 5 * N) + 2))]) (rest := []) C.fix (m_X3_at l g wM (gu wX1 o (eL g 1 f1)) am N cn ru fu ch dk wt ld pl st kp hRM hI hN (xs ((1 + 5 * N) + 1)) (xs ((1 + 5 * N) + 2))) (cwV 2 hts (lw_V q909 q910 q911 q53 q912) rfl rfl rfl (by decide +kernel) ⟨Nat.le_of_ble_eq_true rfl, Nat.le_of_ble_eq_true rfl⟩) (gp_V C h [.int (xs ((1 + 5 * N) + 1)), .int (xs ((1 + 5 * N) + 2))] (Cn := RX3) (T := TX3) (N := 22) rfl hm0) rfl rfl hl.1 rfl (lv_room (Nat.le_of_ble_eq_true rfl)) dL_law_311 ⟨(by show cc + 6 + 0 ≤ 603072; omega), (by show cs + 259 + 0 ≤ 7206600; omega)⟩) h (fun r_21 w_22 H locs hp h => ?_)
        obtain ⟨hb2, hM2, fi2, be2, ne2, ke2, hmo2⟩ := hp
        refine lv_istore (lv' := [(6, .int r_21), (5, .int (bI ((opAt (cn, ru, fu, ch, dk, wt, ld, pl, st, kp) (xs ((1 + 5 * N) + 1)) (xs ((1 + 5 * N) + 2))).isNone))), (4, .int (nI (1 + 5 * N))), (0, .ref b), (1, .ref (ax 0)), (2, .ref (am 0)), (3, .ref o)]) hx hb dL_law_314 hl (by decide) rfl (fun ls hl => ?_)
        refine lv_aload_n hx hb dL_law_316 rfl (lv_at hl 5 rfl) ?_
        refine gc_i (va_runV (As := []) (rest := []) C.fix (m_X3_thrown l g w_22 (gu wX1 o (eL g 1 f1)) am cn ru fu ch (opAt (cn, ru, fu, ch, dk, wt, ld, pl, st, kp) (xs ((1 + 5 * N) + 1)) (xs ((1 + 5 * N) + 2))).isNone fi2 be2 ne2 ke2 hmo2) (cwV 0 hts (lw_V q913 q914 q915 q53 q916) rfl rfl rfl (by decide +kernel) ⟨Nat.le_of_ble_eq_true rfl, Nat.le_of_ble_eq_true rfl⟩) (gp_V C h [] (Cn := RX3) (T := TX3) (N := 22) rfl hmo2) rfl rfl hl.1 rfl (lv_room (Nat.le_of_ble_eq_true rfl)) dL_law_317 ⟨(by show cc + 6 + 0 + 0 ≤ 603072; omega), (by show cs + 259 + 0 + 0 ≤ 7206600; omega)⟩) h (fun r_23 w_24 H locs hp h => ?_)
        obtain ⟨er_r_23, ew_r_23⟩ := hp
        rw [er_r_23]
        rw [ew_r_23] at h
        refine lv_iload hx hb dL_law_320 (lv_at hl 1 rfl) ?_
        refine lv_icmp_eq (tgt := 327) hx hb dL_law_322 (by decide) (fun _ => ?_) (fun c9 => absurd rfl c9)
        obtain ⟨h, ho2⟩ := h.rot ho1
        refine lv_iload hx hb dL_law_327 (lv_at hl 1 rfl) ?_
        refine lv_if_ne (tgt := 344) hx hb dL_law_329 (by decide) (fun c3 => ?_) (fun c3 => ?_)
        · skip
          refine lv_goto (tgt := 537) hx hb dL_law_344 (by decide) ?_
          exact nxt _ _ _ _ _ _ _ _ _ (by omega) (by omega) hI hX1 hM2 ho2 h (lv_sub hl [2, 3, 4, 5, 6] rfl)
        · skip
          obtain ⟨bb, hbb⟩ : ∃ bb, opAt (cn, ru, fu, ch, dk, wt, ld, pl, st, kp) (xs ((1 + 5 * N) + 1)) (xs ((1 + 5 * N) + 2)) = some bb := opt_some (bI_eq0.mp c3)
          obtain ⟨h, hXo3⟩ := h.mv ho2
          refine lv_aload_n hx hb dL_law_332 rfl (lv_at hl 6 rfl) ?_
          refine lv_iconst (v := nI 0) hx hb dL_law_333 (by decide) ?_
          refine gx_lald C h (a := o) gu_s 0 rfl ⟨by decide, by decide⟩ dL_law_334 ?_
          refine lv_iload hx hb dL_law_335 (lv_at hl 0 rfl) ?_
          refine lv_i2l hx hb dL_law_337 rfl ?_
          refine W.lcmp hx hb dL_law_338 ?_
          refine lv_if_eq (tgt := 344) hx hb dL_law_339 (by decide) (fun _ => ?_) (fun c9 => absurd ((lg_cmp_eq _ _).mpr (by rw [hf1 bb hbb, hb2 bb hbb])) c9)
          obtain ⟨h, -⟩ := h.mb hXo3
          refine lv_goto (tgt := 537) hx hb dL_law_344 (by decide) ?_
          exact nxt _ _ _ _ _ _ _ _ _ (by omega) (by omega) hI hX1 hM2 ho2 h (lv_sub hl [2, 3, 4, 5, 6] rfl)
      · skip
        refine lv_tableIn (off := 298) (tgt := 347) hx hb dL_law_49 (by decide) (by decide) (by decide) (by decide) ?_
        refine lv_aload_n hx hb dL_law_347 rfl (lv_at hl 2 rfl) ?_
        refine lv_aload_n hx hb dL_law_348 rfl (lv_at hl 1 rfl) ?_
        refine lv_iload hx hb dL_law_349 (lv_at hl 0 rfl) ?_
        refine lv_iconst (v := nI 1) hx hb dL_law_351 (by decide) ?_
        refine gn_iadd hx hb dL_law_352 ?_
        refine gx_sld C h hXs hbl hbA ((1 + 5 * N) + 1) rfl (by omega) dL_law_353 ?_
        refine lv_aload_n hx hb dL_law_354 rfl (lv_at hl 1 rfl) ?_
        refine lv_iload hx hb dL_law_355 (lv_at hl 0 rfl) ?_
        refine lv_iconst (v := nI 2) hx hb dL_law_357 (by decide) ?_
        refine gn_iadd hx hb dL_law_358 ?_
        refine gx_sld C h hXs hbl hbA ((1 + 5 * N) + 2) rfl (by omega) dL_law_359 ?_
        refine lv_aload_n hx hb dL_law_360 rfl (lv_at hl 1 rfl) ?_
        refine lv_iload hx hb dL_law_361 (lv_at hl 0 rfl) ?_
        refine lv_iconst (v := nI 3) hx hb dL_law_363 (by decide) ?_
        refine gn_iadd hx hb dL_law_364 ?_
        refine gx_sld C h hXs hbl hbA ((1 + 5 * N) + 3) rfl (by omega) dL_law_365 ?_
        refine gc_i (va_runV (As := [.int (xs ((1 + 5 * N) + 1)), .int (xs ((1 + 5 * N) + 2)), .int (xs ((1 + 5 * N) + 3))]) (rest := []) C.fix (m_X1_poke l g wX (gu wM o (eL g 1 f)) ax cn ru fu ch dk wt ld pl st kp hRX hI (xs ((1 + 5 * N) + 1)) (xs ((1 + 5 * N) + 2)) (xs ((1 + 5 * N) + 3))) (cwV 3 hts (lw_V q550 q551 q552 q43 q553) rfl rfl rfl (by decide +kernel) ⟨Nat.le_of_ble_eq_true rfl, Nat.le_of_ble_eq_true rfl⟩) (gp_V C h [.int (xs ((1 + 5 * N) + 1)), .int (xs ((1 + 5 * N) + 2)), .int (xs ((1 + 5 * N) + 3))] (Cn := RX1) (T := TX1) (N := 10) rfl hx0) rfl rfl hl.1 rfl (lv_room (Nat.le_of_ble_eq_true rfl)) dL_law_366 ⟨(by show cc + 1 ≤ 603072; omega), (by show cs + 4 ≤ 7206600; omega)⟩) h (fun r_25 w_26 H locs hp h => ?_)
        obtain ⟨er1, hX1⟩ := hp
        rw [er1]
        obtain ⟨h, ho1⟩ := h.rot hMo
        refine lv_aload_n hx hb dL_law_369 rfl (lv_at hl 3 rfl) ?_
        refine lv_aload_n hx hb dL_law_370 rfl (lv_at hl 1 rfl) ?_
        refine lv_iload hx hb dL_law_371 (lv_at hl 0 rfl) ?_
        refine lv_iconst (v := nI 1) hx hb dL_law_373 (by decide) ?_
        refine gn_iadd hx hb dL_law_374 ?_
        refine gx_sld C h hXs hbl hbA ((1 + 5 * N) + 1) rfl (by omega) dL_law_375 ?_
        refine lv_aload_n hx hb dL_law_376 rfl (lv_at hl 1 rfl) ?_
        refine lv_iload hx hb dL_law_377 (lv_at hl 0 rfl) ?_
        refine lv_iconst (v := nI 2) hx hb dL_law_379 (by decide) ?_
        refine gn_iadd hx hb dL_law_380 ?_
        refine gx_sld C h hXs hbl hbA ((1 + 5 * N) + 2) rfl (by omega) dL_law_381 ?_
        refine lv_aload_n hx hb dL_law_382 rfl (lv_at hl 1 rfl) ?_
        refine lv_iload hx hb dL_law_383 (lv_at hl 0 rfl) ?_
        refine lv_iconst (v := nI 3) hx hb dL_law_385 (by decide) ?_
        refine gn_iadd hx hb dL_law_386 ?_
        refine gx_sld C h hXs hbl hbA ((1 + 5 * N) + 3) rfl (by omega) dL_law_387 ?_
        refine gc_i (va_runV (As := [.int (xs ((1 + 5 * N) + 1)), .int (xs ((1 + 5 * N) + 2)), .int (xs ((1 + 5 * N) + 3))]) (rest := [.int ((opPoke (cn, ru, fu, ch, dk, wt, ld, pl, st, kp) (xs ((1 + 5 * N) + 1)) (xs ((1 + 5 * N) + 2)) (xs ((1 + 5 * N) + 3))).1)]) C.fix (m_X3_poke l g wM (gu w_26 o (eL g 1 f)) am N cn ru fu ch dk wt ld pl st kp hRM hI hN (xs ((1 + 5 * N) + 1)) (xs ((1 + 5 * N) + 2)) (xs ((1 + 5 * N) + 3))) (cwV 3 hts (lw_V q917 q918 q919 q53 q920) rfl rfl rfl (by decide +kernel) ⟨Nat.le_of_ble_eq_true rfl, Nat.le_of_ble_eq_true rfl⟩) (gp_V C h [.int (xs ((1 + 5 * N) + 1)), .int (xs ((1 + 5 * N) + 2)), .int (xs ((1 + 5 * N) + 3))] (Cn := RX3) (T := TX3) (N := 22) rfl hm0) rfl rfl hl.1 rfl (lv_room (Nat.le_of_ble_eq_true rfl)) dL_law_388 ⟨(by show cc + 1 + 0 ≤ 603072; omega), (by show cs + 4 + 0 ≤ 7206600; omega)⟩) h (fun r_27 w_28 H locs hp h => ?_)
        obtain ⟨er2, hM2⟩ := hp
        rw [er2]
        obtain ⟨h, ho2⟩ := h.rot ho1
        refine lv_icmp_eq (tgt := 537) hx hb dL_law_391 (by decide) (fun _ => ?_) (fun c9 => absurd rfl c9)
        exact nxt _ _ _ _ _ _ _ _ _ (by omega) (by omega) (inv_poke hI (xs ((1 + 5 * N) + 1)) (xs ((1 + 5 * N) + 2)) (xs ((1 + 5 * N) + 3))) hX1 hM2 ho2 h (lv_sub hl [0, 1, 2, 3, 4] rfl)
      · skip
        refine lv_tableIn (off := 347) (tgt := 396) hx hb dL_law_49 (by decide) (by decide) (by decide) (by decide) ?_
        refine lv_aload_n hx hb dL_law_396 rfl (lv_at hl 2 rfl) ?_
        refine lv_aload_n hx hb dL_law_397 rfl (lv_at hl 1 rfl) ?_
        refine lv_iload hx hb dL_law_398 (lv_at hl 0 rfl) ?_
        refine lv_iconst (v := nI 1) hx hb dL_law_400 (by decide) ?_
        refine gn_iadd hx hb dL_law_401 ?_
        refine gx_sld C h hXs hbl hbA ((1 + 5 * N) + 1) rfl (by omega) dL_law_402 ?_
        refine gc_i (va_runV (As := [.int (xs ((1 + 5 * N) + 1))]) (rest := []) C.fix (m_X1_wrong l g wX (gu wM o (eL g 1 f)) ax cn ru fu ch dk wt ld pl st kp hRX hI (xs ((1 + 5 * N) + 1))) (cwV 1 hts (lw_V q558 q559 q560 q43 q561) rfl rfl rfl (by decide +kernel) ⟨Nat.le_of_ble_eq_true rfl, Nat.le_of_ble_eq_true rfl⟩) (gp_V C h [.int (xs ((1 + 5 * N) + 1))] (Cn := RX1) (T := TX1) (N := 10) rfl hx0) rfl rfl hl.1 rfl (lv_room (Nat.le_of_ble_eq_true rfl)) dL_law_403 ⟨(by show cc + 90 ≤ 603072; omega), (by show cs + 1110 ≤ 7206600; omega)⟩) h (fun r_29 w_30 H locs hp h => ?_)
        obtain ⟨er1, hX1⟩ := hp
        rw [er1]
        obtain ⟨h, ho1⟩ := h.rot hMo
        refine lv_aload_n hx hb dL_law_406 rfl (lv_at hl 3 rfl) ?_
        refine lv_aload_n hx hb dL_law_407 rfl (lv_at hl 1 rfl) ?_
        refine lv_iload hx hb dL_law_408 (lv_at hl 0 rfl) ?_
        refine lv_iconst (v := nI 1) hx hb dL_law_410 (by decide) ?_
        refine gn_iadd hx hb dL_law_411 ?_
        refine gx_sld C h hXs hbl hbA ((1 + 5 * N) + 1) rfl (by omega) dL_law_412 ?_
        refine gc_i (va_runV (As := [.int (xs ((1 + 5 * N) + 1))]) (rest := [.int ((opWrong (cn, ru, fu, ch, dk, wt, ld, pl, st, kp) (xs ((1 + 5 * N) + 1))).1)]) C.fix (m_X3_wrong l g wM (gu w_30 o (eL g 1 f)) am N cn ru fu ch dk wt ld pl st kp hRM hI hN (xs ((1 + 5 * N) + 1))) (cwV 1 hts (lw_V q921 q922 q923 q53 q924) rfl rfl rfl (by decide +kernel) ⟨Nat.le_of_ble_eq_true rfl, Nat.le_of_ble_eq_true rfl⟩) (gp_V C h [.int (xs ((1 + 5 * N) + 1))] (Cn := RX3) (T := TX3) (N := 22) rfl hm0) rfl rfl hl.1 rfl (lv_room (Nat.le_of_ble_eq_true rfl)) dL_law_413 ⟨(by show cc + 90 + 0 ≤ 603072; omega), (by show cs + 1110 + 0 ≤ 7206600; omega)⟩) h (fun r_31 w_32 H locs hp h => ?_)
        obtain ⟨er2, hM2⟩ := hp
        rw [er2]
        obtain ⟨h, ho2⟩ := h.rot ho1
        refine lv_icmp_eq (tgt := 537) hx hb dL_law_416 (by decide) (fun _ => ?_) (fun c9 => absurd rfl c9)
        exact nxt _ _ _ _ _ _ _ _ _ (by omega) (by omega) (inv_wrong hI (xs ((1 + 5 * N) + 1))) hX1 hM2 ho2 h (lv_sub hl [0, 1, 2, 3, 4] rfl)
      · skip
        refine lv_tableIn (off := 372) (tgt := 421) hx hb dL_law_49 (by decide) (by decide) (by decide) (by decide) ?_
        refine lv_aload_n hx hb dL_law_421 rfl (lv_at hl 2 rfl) ?_
        refine lv_aload_n hx hb dL_law_422 rfl (lv_at hl 1 rfl) ?_
        refine lv_iload hx hb dL_law_423 (lv_at hl 0 rfl) ?_
        refine lv_iconst (v := nI 1) hx hb dL_law_425 (by decide) ?_
        refine gn_iadd hx hb dL_law_426 ?_
        refine gx_sld C h hXs hbl hbA ((1 + 5 * N) + 1) rfl (by omega) dL_law_427 ?_
        refine gc_i (va_runV (As := [.int (xs ((1 + 5 * N) + 1))]) (rest := []) C.fix (m_X1_backup l g wX (gu wM o (eL g 1 f)) ax cn ru fu ch dk wt ld pl st kp hRX hI (xs ((1 + 5 * N) + 1))) (cwV 1 hts (lw_V q562 q563 q564 q43 q565) rfl rfl rfl (by decide +kernel) ⟨Nat.le_of_ble_eq_true rfl, Nat.le_of_ble_eq_true rfl⟩) (gp_V C h [.int (xs ((1 + 5 * N) + 1))] (Cn := RX1) (T := TX1) (N := 10) rfl hx0) rfl rfl hl.1 rfl (lv_room (Nat.le_of_ble_eq_true rfl)) dL_law_428 ⟨(by show cc + 1 ≤ 603072; omega), (by show cs + 10 ≤ 7206600; omega)⟩) h (fun r_33 w_34 H locs hp h => ?_)
        obtain ⟨er1, hX1⟩ := hp
        rw [er1]
        obtain ⟨h, ho1⟩ := h.rot hMo
        refine lv_aload_n hx hb dL_law_431 rfl (lv_at hl 3 rfl) ?_
        refine lv_aload_n hx hb dL_law_432 rfl (lv_at hl 1 rfl) ?_
        refine lv_iload hx hb dL_law_433 (lv_at hl 0 rfl) ?_
        refine lv_iconst (v := nI 1) hx hb dL_law_435 (by decide) ?_
        refine gn_iadd hx hb dL_law_436 ?_
        refine gx_sld C h hXs hbl hbA ((1 + 5 * N) + 1) rfl (by omega) dL_law_437 ?_
        refine gc_i (va_runV (As := [.int (xs ((1 + 5 * N) + 1))]) (rest := [.int ((opBackup (cn, ru, fu, ch, dk, wt, ld, pl, st, kp) (xs ((1 + 5 * N) + 1))).1)]) C.fix (m_X3_backup l g wM (gu w_34 o (eL g 1 f)) am N cn ru fu ch dk wt ld pl st kp hRM hI hN (xs ((1 + 5 * N) + 1))) (cwV 1 hts (lw_V q925 q926 q927 q53 q928) rfl rfl rfl (by decide +kernel) ⟨Nat.le_of_ble_eq_true rfl, Nat.le_of_ble_eq_true rfl⟩) (gp_V C h [.int (xs ((1 + 5 * N) + 1))] (Cn := RX3) (T := TX3) (N := 22) rfl hm0) rfl rfl hl.1 rfl (lv_room (Nat.le_of_ble_eq_true rfl)) dL_law_438 ⟨(by show cc + 1 + 0 ≤ 603072; omega), (by show cs + 10 + 0 ≤ 7206600; omega)⟩) h (fun r_35 w_36 H locs hp h => ?_)
        obtain ⟨er2, hM2⟩ := hp
        rw [er2]
        obtain ⟨h, ho2⟩ := h.rot ho1
        refine lv_icmp_eq (tgt := 537) hx hb dL_law_441 (by decide) (fun _ => ?_) (fun c9 => absurd rfl c9)
        exact nxt _ _ _ _ _ _ _ _ _ (by omega) (by omega) (inv_backup hI (xs ((1 + 5 * N) + 1))) hX1 hM2 ho2 h (lv_sub hl [0, 1, 2, 3, 4] rfl)
      · skip
        refine lv_tableIn (off := 397) (tgt := 446) hx hb dL_law_49 (by decide) (by decide) (by decide) (by decide) ?_
        refine lv_aload_n hx hb dL_law_446 rfl (lv_at hl 2 rfl) ?_
        refine lv_aload_n hx hb dL_law_447 rfl (lv_at hl 1 rfl) ?_
        refine lv_iload hx hb dL_law_448 (lv_at hl 0 rfl) ?_
        refine lv_iconst (v := nI 1) hx hb dL_law_450 (by decide) ?_
        refine gn_iadd hx hb dL_law_451 ?_
        refine gx_sld C h hXs hbl hbA ((1 + 5 * N) + 1) rfl (by omega) dL_law_452 ?_
        refine gc_i (va_runV (As := [.int (xs ((1 + 5 * N) + 1))]) (rest := []) C.fix (m_X1_drop l g wX (gu wM o (eL g 1 f)) ax cn ru fu ch dk wt ld pl st kp hRX hI (xs ((1 + 5 * N) + 1))) (cwV 1 hts (lw_V q603 q604 q605 q43 q606) rfl rfl rfl (by decide +kernel) ⟨Nat.le_of_ble_eq_true rfl, Nat.le_of_ble_eq_true rfl⟩) (gp_V C h [.int (xs ((1 + 5 * N) + 1))] (Cn := RX1) (T := TX1) (N := 10) rfl hx0) rfl rfl hl.1 rfl (lv_room (Nat.le_of_ble_eq_true rfl)) dL_law_453 ⟨(by show cc + 6 ≤ 603072; omega), (by show cs + 24 ≤ 7206600; omega)⟩) h (fun r_37 w_38 H locs hp h => ?_)
        obtain ⟨er1, hX1⟩ := hp
        rw [er1]
        obtain ⟨h, ho1⟩ := h.rot hMo
        refine lv_aload_n hx hb dL_law_456 rfl (lv_at hl 3 rfl) ?_
        refine lv_aload_n hx hb dL_law_457 rfl (lv_at hl 1 rfl) ?_
        refine lv_iload hx hb dL_law_458 (lv_at hl 0 rfl) ?_
        refine lv_iconst (v := nI 1) hx hb dL_law_460 (by decide) ?_
        refine gn_iadd hx hb dL_law_461 ?_
        refine gx_sld C h hXs hbl hbA ((1 + 5 * N) + 1) rfl (by omega) dL_law_462 ?_
        refine gc_i (va_runV (As := [.int (xs ((1 + 5 * N) + 1))]) (rest := [.int ((opDrop (cn, ru, fu, ch, dk, wt, ld, pl, st, kp) (xs ((1 + 5 * N) + 1))).1)]) C.fix (m_X3_drop l g wM (gu w_38 o (eL g 1 f)) am N cn ru fu ch dk wt ld pl st kp hRM hI hN (xs ((1 + 5 * N) + 1))) (cwV 1 hts (lw_V q932 q933 q934 q53 q935) rfl rfl rfl (by decide +kernel) ⟨Nat.le_of_ble_eq_true rfl, Nat.le_of_ble_eq_true rfl⟩) (gp_V C h [.int (xs ((1 + 5 * N) + 1))] (Cn := RX3) (T := TX3) (N := 22) rfl hm0) rfl rfl hl.1 rfl (lv_room (Nat.le_of_ble_eq_true rfl)) dL_law_463 ⟨(by show cc + 6 + 0 ≤ 603072; omega), (by show cs + 24 + 0 ≤ 7206600; omega)⟩) h (fun r_39 w_40 H locs hp h => ?_)
        obtain ⟨er2, hM2⟩ := hp
        rw [er2]
        obtain ⟨h, ho2⟩ := h.rot ho1
        refine lv_icmp_eq (tgt := 537) hx hb dL_law_466 (by decide) (fun _ => ?_) (fun c9 => absurd rfl c9)
        exact nxt _ _ _ _ _ _ _ _ _ (by omega) (by omega) (inv_drop hI (xs ((1 + 5 * N) + 1))) hX1 hM2 ho2 h (lv_sub hl [0, 1, 2, 3, 4] rfl)
      · skip
        refine lv_tableIn (off := 422) (tgt := 471) hx hb dL_law_49 (by decide) (by decide) (by decide) (by decide) ?_
        refine lv_aload_n hx hb dL_law_471 rfl (lv_at hl 2 rfl) ?_
        refine lv_aload_n hx hb dL_law_472 rfl (lv_at hl 1 rfl) ?_
        refine lv_iload hx hb dL_law_473 (lv_at hl 0 rfl) ?_
        refine lv_iconst (v := nI 1) hx hb dL_law_475 (by decide) ?_
        refine gn_iadd hx hb dL_law_476 ?_
        refine gx_sld C h hXs hbl hbA ((1 + 5 * N) + 1) rfl (by omega) dL_law_477 ?_
        refine gc_i (va_runV (As := [.int (xs ((1 + 5 * N) + 1))]) (rest := []) C.fix (m_X1_derived l g wX (gu wM o (eL g 1 f)) ax cn ru fu ch dk wt ld pl st kp hRX hI (xs ((1 + 5 * N) + 1))) (cwV 1 hts (lw_V q438 q439 q440 q43 q441) rfl rfl rfl (by decide +kernel) ⟨Nat.le_of_ble_eq_true rfl, Nat.le_of_ble_eq_true rfl⟩) (gp_V C h [.int (xs ((1 + 5 * N) + 1))] (Cn := RX1) (T := TX1) (N := 10) rfl hx0) rfl rfl hl.1 rfl (lv_room (Nat.le_of_ble_eq_true rfl)) dL_law_478 ⟨(by show cc + 11 ≤ 603072; omega), (by show cs + 119 ≤ 7206600; omega)⟩) h (fun r_41 w_42 H locs hp h => ?_)
        obtain ⟨er1, hX1⟩ := hp
        rw [er1]
        obtain ⟨h, ho1⟩ := h.rot hMo
        refine lv_aload_n hx hb dL_law_481 rfl (lv_at hl 3 rfl) ?_
        refine lv_aload_n hx hb dL_law_482 rfl (lv_at hl 1 rfl) ?_
        refine lv_iload hx hb dL_law_483 (lv_at hl 0 rfl) ?_
        refine lv_iconst (v := nI 1) hx hb dL_law_485 (by decide) ?_
        refine gn_iadd hx hb dL_law_486 ?_
        refine gx_sld C h hXs hbl hbA ((1 + 5 * N) + 1) rfl (by omega) dL_law_487 ?_
        refine gc_i (va_runV (As := [.int (xs ((1 + 5 * N) + 1))]) (rest := [.int ((opDerived (cn, ru, fu, ch, dk, wt, ld, pl, st, kp) (xs ((1 + 5 * N) + 1))).1)]) C.fix (m_X3_derived l g wM (gu w_42 o (eL g 1 f)) am N cn ru fu ch dk wt ld pl st kp hRM hI hN (xs ((1 + 5 * N) + 1))) (cwV 1 hts (lw_V q869 q870 q871 q53 q872) rfl rfl rfl (by decide +kernel) ⟨Nat.le_of_ble_eq_true rfl, Nat.le_of_ble_eq_true rfl⟩) (gp_V C h [.int (xs ((1 + 5 * N) + 1))] (Cn := RX3) (T := TX3) (N := 22) rfl hm0) rfl rfl hl.1 rfl (lv_room (Nat.le_of_ble_eq_true rfl)) dL_law_488 ⟨(by show cc + 11 + 0 ≤ 603072; omega), (by show cs + 119 + 0 ≤ 7206600; omega)⟩) h (fun r_43 w_44 H locs hp h => ?_)
        obtain ⟨er2, hM2⟩ := hp
        rw [er2]
        obtain ⟨h, ho2⟩ := h.rot ho1
        refine lv_icmp_eq (tgt := 537) hx hb dL_law_491 (by decide) (fun _ => ?_) (fun c9 => absurd rfl c9)
        exact nxt _ _ _ _ _ _ _ _ _ (by omega) (by omega) (inv_derived hI (xs ((1 + 5 * N) + 1))) hX1 hM2 ho2 h (lv_sub hl [0, 1, 2, 3, 4] rfl)
      · skip
        refine lv_tableIn (off := 447) (tgt := 496) hx hb dL_law_49 (by decide) (by decide) (by decide) (by decide) ?_
        refine lv_aload_n hx hb dL_law_496 rfl (lv_at hl 2 rfl) ?_
        refine lv_aload_n hx hb dL_law_497 rfl (lv_at hl 1 rfl) ?_
        refine lv_iload hx hb dL_law_498 (lv_at hl 0 rfl) ?_
        refine lv_iconst (v := nI 1) hx hb dL_law_500 (by decide) ?_
        refine gn_iadd hx hb dL_law_501 ?_
        refine gx_sld C h hXs hbl hbA ((1 + 5 * N) + 1) rfl (by omega) dL_law_502 ?_
        refine lv_if_eq (tgt := 510) hx hb dL_law_503 (by decide) (fun c3 => ?_) (fun c3 => ?_)
        · skip
          refine lv_iconst (v := bI false) hx hb dL_law_510 (by decide) ?_
          refine gc_i (va_runV (As := [.int (bI false)]) (rest := []) C.fix (m_X1_full l g wX (gu wM o (eL g 1 f)) ax cn ru fu ch dk wt ld pl st kp hRX hI false) (cwV 1 hts (lw_V q631 q632 q633 q43 q634) rfl rfl rfl (by decide +kernel) ⟨Nat.le_of_ble_eq_true rfl, Nat.le_of_ble_eq_true rfl⟩) (gp_V C h [.int (bI false)] (Cn := RX1) (T := TX1) (N := 10) rfl hx0) rfl rfl hl.1 rfl (lv_room (Nat.le_of_ble_eq_true rfl)) dL_law_511 ⟨(by show cc + 0 ≤ 603072; omega), (by show cs + 0 ≤ 7206600; omega)⟩) h (fun r_45 w_46 H locs hp h => ?_)
          obtain ⟨er1, hX1⟩ := hp
          rw [er1]
          obtain ⟨h, ho1⟩ := h.rot hMo
          refine lv_aload_n hx hb dL_law_514 rfl (lv_at hl 3 rfl) ?_
          refine lv_aload_n hx hb dL_law_515 rfl (lv_at hl 1 rfl) ?_
          refine lv_iload hx hb dL_law_516 (lv_at hl 0 rfl) ?_
          refine lv_iconst (v := nI 1) hx hb dL_law_518 (by decide) ?_
          refine gn_iadd hx hb dL_law_519 ?_
          refine gx_sld C h hXs hbl hbA ((1 + 5 * N) + 1) rfl (by omega) dL_law_520 ?_
          refine lv_if_eq (tgt := 528) hx hb dL_law_521 (by decide) (fun c4 => ?_) (fun c4 => ?_)
          · skip
            refine lv_iconst (v := bI false) hx hb dL_law_528 (by decide) ?_
            refine gc_i (va_runV (As := [.int (bI false)]) (rest := [.int ((opFull (cn, ru, fu, ch, dk, wt, ld, pl, st, kp) false).1)]) C.fix (n_X3_full l g wM (gu w_46 o (eL g 1 f)) am N cn ru fu ch dk wt ld pl st kp hRM hI hN false) (cwV 1 hts (lw_V q940 q941 q942 q53 q943) rfl rfl rfl (by decide +kernel) ⟨Nat.le_of_ble_eq_true rfl, Nat.le_of_ble_eq_true rfl⟩) (gp_V C h [.int (bI false)] (Cn := RX3) (T := TX3) (N := 22) rfl hm0) rfl rfl hl.1 rfl (lv_room (Nat.le_of_ble_eq_true rfl)) dL_law_529 ⟨(by show cc + 0 + 0 ≤ 603072; omega), (by show cs + 0 + 0 ≤ 7206600; omega)⟩) h (fun r_47 w_48 H locs hp h => ?_)
            obtain ⟨er2, hM2⟩ := hp
            rw [er2]
            obtain ⟨h, ho2⟩ := h.rot ho1
            refine lv_icmp_eq (tgt := 537) hx hb dL_law_532 (by decide) (fun _ => ?_) (fun c9 => absurd rfl c9)
            exact nxt _ _ _ _ _ _ _ _ _ (by omega) (by omega) (inv_full hI false) hX1 hM2 ho2 h (lv_sub hl [0, 1, 2, 3, 4] rfl)
          · skip
            exact absurd c3 c4
        · skip
          refine lv_iconst (v := bI true) hx hb dL_law_506 (by decide) ?_
          refine lv_goto (tgt := 511) hx hb dL_law_507 (by decide) ?_
          refine gc_i (va_runV (As := [.int (bI true)]) (rest := []) C.fix (m_X1_full l g wX (gu wM o (eL g 1 f)) ax cn ru fu ch dk wt ld pl st kp hRX hI true) (cwV 1 hts (lw_V q631 q632 q633 q43 q634) rfl rfl rfl (by decide +kernel) ⟨Nat.le_of_ble_eq_true rfl, Nat.le_of_ble_eq_true rfl⟩) (gp_V C h [.int (bI true)] (Cn := RX1) (T := TX1) (N := 10) rfl hx0) rfl rfl hl.1 rfl (lv_room (Nat.le_of_ble_eq_true rfl)) dL_law_511 ⟨(by show cc + 0 ≤ 603072; omega), (by show cs + 0 ≤ 7206600; omega)⟩) h (fun r_49 w_50 H locs hp h => ?_)
          obtain ⟨er1, hX1⟩ := hp
          rw [er1]
          obtain ⟨h, ho1⟩ := h.rot hMo
          refine lv_aload_n hx hb dL_law_514 rfl (lv_at hl 3 rfl) ?_
          refine lv_aload_n hx hb dL_law_515 rfl (lv_at hl 1 rfl) ?_
          refine lv_iload hx hb dL_law_516 (lv_at hl 0 rfl) ?_
          refine lv_iconst (v := nI 1) hx hb dL_law_518 (by decide) ?_
          refine gn_iadd hx hb dL_law_519 ?_
          refine gx_sld C h hXs hbl hbA ((1 + 5 * N) + 1) rfl (by omega) dL_law_520 ?_
          refine lv_if_eq (tgt := 528) hx hb dL_law_521 (by decide) (fun c4 => ?_) (fun c4 => ?_)
          · skip
            exact absurd c4 c3
          · skip
            refine lv_iconst (v := bI true) hx hb dL_law_524 (by decide) ?_
            refine lv_goto (tgt := 529) hx hb dL_law_525 (by decide) ?_
            refine gc_i (va_runV (As := [.int (bI true)]) (rest := [.int ((opFull (cn, ru, fu, ch, dk, wt, ld, pl, st, kp) true).1)]) C.fix (n_X3_full l g wM (gu w_50 o (eL g 1 f)) am N cn ru fu ch dk wt ld pl st kp hRM hI hN true) (cwV 1 hts (lw_V q940 q941 q942 q53 q943) rfl rfl rfl (by decide +kernel) ⟨Nat.le_of_ble_eq_true rfl, Nat.le_of_ble_eq_true rfl⟩) (gp_V C h [.int (bI true)] (Cn := RX3) (T := TX3) (N := 22) rfl hm0) rfl rfl hl.1 rfl (lv_room (Nat.le_of_ble_eq_true rfl)) dL_law_529 ⟨(by show cc + 0 + 0 ≤ 603072; omega), (by show cs + 0 + 0 ≤ 7206600; omega)⟩) h (fun r_51 w_52 H locs hp h => ?_)
            obtain ⟨er2, hM2⟩ := hp
            rw [er2]
            obtain ⟨h, ho2⟩ := h.rot ho1
            refine lv_icmp_eq (tgt := 537) hx hb dL_law_532 (by decide) (fun _ => ?_) (fun c9 => absurd rfl c9)
            exact nxt _ _ _ _ _ _ _ _ _ (by omega) (by omega) (inv_full hI true) hX1 hM2 ho2 h (lv_sub hl [0, 1, 2, 3, 4] rfl)
      · skip
        refine lv_tableOut (tgt := 537) hx hb dL_law_49 (Or.inr (by rw [nI_toInt (by omega)]; omega)) (by decide) ?_
        exact nxt _ _ _ _ _ _ _ _ _ (by omega) (by omega) hI hRX hRM.mono hMo h (lv_sub hl [0, 1, 2, 3, 4] rfl)
