set_option maxRecDepth 100000
theorem lf_snoc (P : Nat → Bool) : ∀ (n i : Nat), lf P (n + 1) i = if lf P n i < i + n then lf P n i else if P (i + n) then i + n + 1 else i + n := by
  intro n
  induction n with
  | zero => intro i; simp [lf]
  | succ n ih =>
    intro i
    by_cases h : P i = true
    · rw [lf_t h, lf_t h, ih (i + 1)]
      rw [show i + 1 + n = i + (n + 1) by omega]
    · have h : P i = false := by simpa using h
      rw [lf_f h, lf_f h, if_pos (by omega)]
theorem lv_next_f {dk : Sec} {wt : List (Nat × Sec)} {ld : Nat → Option Sec} {pl : Nat → Option Nat} {i : Nat} (h : bad dk wt ld pl i = false) : (if lf (fun p => !(bad dk wt ld pl p)) (i + 1) 0 < (i + 1) then nI (lf (fun p => !(bad dk wt ld pl p)) (i + 1) 0) else -1) = (if lf (fun p => !(bad dk wt ld pl p)) i 0 < i then nI (lf (fun p => !(bad dk wt ld pl p)) i 0) else -1) := by
  rw [lf_snoc, Nat.zero_add, h]
  by_cases c : lf (fun p => !(bad dk wt ld pl p)) i 0 < i
  · rw [if_pos c, if_pos (show lf (fun p => !(bad dk wt ld pl p)) i 0 < i + 1 by omega), if_pos c]
  · rw [if_neg c, if_neg c]
    simp
theorem lv_next_lt {dk : Sec} {wt : List (Nat × Sec)} {ld : Nat → Option Sec} {pl : Nat → Option Nat} {i : Nat} (c : lf (fun p => !(bad dk wt ld pl p)) i 0 < i) : (if lf (fun p => !(bad dk wt ld pl p)) (i + 1) 0 < (i + 1) then nI (lf (fun p => !(bad dk wt ld pl p)) (i + 1) 0) else -1) = nI (lf (fun p => !(bad dk wt ld pl p)) i 0) := by
  rw [lf_snoc, Nat.zero_add, if_pos c, if_pos (by omega)]
theorem lv_next_b {dk : Sec} {wt : List (Nat × Sec)} {ld : Nat → Option Sec} {pl : Nat → Option Nat} {i : Nat} (h : bad dk wt ld pl i = true) (c : ¬ lf (fun p => !(bad dk wt ld pl p)) i 0 < i) : (if lf (fun p => !(bad dk wt ld pl p)) (i + 1) 0 < (i + 1) then nI (lf (fun p => !(bad dk wt ld pl p)) (i + 1) 0) else -1) = nI i := by
  rw [lf_snoc, Nat.zero_add, if_neg c, h]
  simp
theorem isNone_f {α : Type} {o : Option α} (h : o.isSome = true) : o.isNone = false := by cases o <;> simp_all
theorem isNone_t {α : Type} {o : Option α} (h : o.isSome = false) : o.isNone = true := by cases o <;> simp_all
theorem br_last {ne : Nat} {st : List (Int32 × Int64)} {fN : Nat → Int32} {fS : Nat → Int64} (r8 : ne + 1 = st.length) (r9 : ∀ (i : Nat) (x : Int32 × Int64), st[i]? = some x → fN i = x.1 ∧ fS i = x.2) : fN ne = (lastS st).1 ∧ fS ne = (lastS st).2 := by
  have e : st[ne]? = some (lastS st) := by
    unfold lastS
    rw [List.getD_eq_getElem?_getD, show st.length - 1 = ne by omega, List.getElem?_eq_getElem (by omega)]
    rfl
  exact r9 ne _ e
theorem bak_K {ke : Nat} {kp : List (Int32 × Int64)} {fKn : Nat → Int32} {fK : Nat → Int64} {n : Int32} {x : Int32 × Int64} (r10 : ke = kp.length) (r11 : ∀ (i : Nat) (x : Int32 × Int64), kp[i]? = some x → fKn i = x.1 ∧ fK i = x.2) (hn : n = x.1) : ∀ (i : Nat) (y : Int32 × Int64), (kp ++ [x])[i]? = some y → upd fKn ke n i = y.1 ∧ vp_updL fK ke x.2 i = y.2 := by
  intro i y hy
  unfold upd vp_updL
  by_cases hi : i < kp.length
  · rw [List.getElem?_append_left hi] at hy
    rw [if_neg (by omega), if_neg (by omega)]
    exact r11 i y hy
  · rw [List.getElem?_append_right (by omega)] at hy
    have hz : i - kp.length < 1 := (List.getElem?_eq_some_iff.mp hy).1
    have hi2 : i = kp.length := by omega
    subst hi2
    rw [Nat.sub_self] at hy
    cases hy
    rw [if_pos r10.symm, if_pos r10.symm]
    exact ⟨hn, rfl⟩
theorem br_kn {ke : Nat} {kp : List (Int32 × Int64)} {fKn : Nat → Int32} {fK : Nat → Int64} (r10 : ke = kp.length) (r11 : ∀ (i : Nat) (x : Int32 × Int64), kp[i]? = some x → fKn i = x.1 ∧ fK i = x.2) {i : Nat} (hi : i < ke) : fKn i = (kp.getD i (0, 0)).1 := by
  have e := List.getElem?_eq_getElem (l := kp) (i := i) (by omega)
  rw [List.getD_eq_getElem?_getD, e]
  exact (r11 i _ e).1
theorem cntB_congr {P Q : Nat → Bool} {a : Nat} : ∀ n, (∀ j, a ≤ j → j < a + n → P j = Q j) → cntB P a n = cntB Q a n := by
  intro n
  induction n with
  | zero => intro _; rfl
  | succ n ih =>
    intro h
    rw [cntB_s, cntB_s, ih (fun j h1 h2 => h j h1 (by omega)), h (a + n) (by omega) (by omega)]
theorem cpy_hi {α : Type} {f h : Nat → α} {sp dp n j : Nat} (q : dp + n ≤ j) : va_cpy f h sp dp n j = h j := pk_cpy_out (Or.inr q)
theorem cpyL_s (f h : Nat → Int64) (sp dp i : Nat) : vp_updL (va_cpy f h sp dp i) (dp + i) (f (sp + i)) = va_cpy f h sp dp (i + 1) := by
  funext j
  unfold vp_updL va_cpy
  by_cases c : j = dp + i
  · subst c
    rw [if_pos rfl, if_pos (by omega)]
    congr 1
    omega
  · rw [if_neg c]
    by_cases c2 : dp ≤ j ∧ j < dp + i
    · rw [if_pos c2, if_pos (by omega)]
    · rw [if_neg c2, if_neg (by omega)]
theorem drop_K {ke k : Nat} {kp : List (Int32 × Int64)} {fKn : Nat → Int32} {fK : Nat → Int64} (r10 : ke = kp.length) (r11 : ∀ (i : Nat) (x : Int32 × Int64), kp[i]? = some x → fKn i = x.1 ∧ fK i = x.2) (hk : k < ke) : ∀ (i : Nat) (x : Int32 × Int64), (kp.eraseIdx k)[i]? = some x → va_cpy fKn fKn (k + 1) k (ke - 1 - k) i = x.1 ∧ va_cpy fK fK (k + 1) k (ke - 1 - k) i = x.2 := by
  intro i x hx
  have hl : i < ke - 1 := by
    have := (List.getElem?_eq_some_iff.mp hx).1
    rw [List.length_eraseIdx, if_pos (by omega)] at this
    omega
  rw [List.getElem?_eraseIdx] at hx
  unfold va_cpy
  by_cases c : i < k
  · rw [if_pos c] at hx
    rw [if_neg (by omega), if_neg (by omega)]
    exact r11 i x hx
  · rw [if_neg c] at hx
    rw [if_pos (by omega), if_pos (by omega), show k + 1 + (i - k) = i + 1 by omega]
    exact r11 (i + 1) x hx
set_option maxHeartbeats 4000000 in
theorem m_X3_wrong (l : Launch) (g : GG) (w v : GW) (ad : Nat → Nat) (N cn : Nat) (ru fu ch : Bool) (dk : Sec) (wt : List (Nat × Sec)) (ld : Nat → Option Sec) (pl : Nat → Option Nat) (st kp : List (Int32 × Int64)) (hR : RM g w ad N (cn, ru, fu, ch, dk, wt, ld, pl, st, kp)) (hI : InvK (cn, ru, fu, ch, dk, wt, ld, pl, st, kp)) (hN : N < 64) (x : Int32)  : Met l yX3_wrong (ws_ yX3_wrong cX3_wrong 5 (some .int)) ({ frames := 3, cells := 0, slots := 0, locals := 180 } : Room) (gP g [.ref (ad 0), .int x] w v) (va_Qi (fun (r : Int32) (w' : GW) => r = (opWrong (cn, ru, fu, ch, dk, wt, ld, pl, st, kp) x).1 ∧ RM g w' ad (N + 1) (opWrong (cn, ru, fu, ch, dk, wt, ld, pl, st, kp) x).2) (gB g v) (gA g)) 0 0 (gA g) := by
  refine gm_of (by decide) (Nat.le_of_ble_eq_true rfl) ?_
  intro p e s m below meth c ls C hnm h hl
  have C : Cx g p s m ([.ref (ad 0), .int x] : List Value).toArray meth c cX3_wrong 5 RX3 (some .int) := C
  obtain ⟨hx, hb, hml, hown, hts, hr, hlk, hG⟩ := id C
  have hl : lv_has ls 5 [(0, .ref (ad 0)), (1, .int x)] := hl
  obtain ⟨th, fi, be, ne, ke, fD, fL, fO, z, fP, fT, fY, fN, fS, fKn, fK, fH, hM, r1, r2, r3, r4, r5, r6, r7, r8, r9, r10, r11, r12, r13⟩ := id hR
  obtain ⟨i1, i2, i3, i4, i5, i6, i7, i8, i9⟩ := id hI
  have hfb : fi ≤ be ∧ be ≤ 1200 := by omega
  have hne : ne < 1200 := by omega
  have hke : ke ≤ 4 := by omega
  have hcn : 2 ≤ cn ∧ cn ≤ 64 := by omega
  have hhel : ∀ k, k < 64 → heM fP fT fS fK fi be ne ke k = hel wt pl st kp k := fun k hk => br_hel i1.2 i2 i4 r5 r6 r7 r8 r9 r10 r11 hk
  have hKe := br_frS hcn hhel
  have hpl : ∀ q, q < 30 → fP q = -1 ∨ ∃ kk : Nat, kk < 64 ∧ fP q = nI kk := fun q hq => br_pls i1.2 i2 r5 hq
  obtain ⟨hinj, m0, m1, m2, m3, m4, m5, m6, m7, m8, m9, m10, m11, m12⟩ := id hM
  refine lv_aload_n hx hb dX3_wrong_0 rfl (lv_at hl 0 rfl) ?_
  refine gx_get C h m0 (Cn := RX3) (T := TX3) (N := 22) rfl in_X3 1 (by decide) q733 rfl rfl dX3_wrong_1 ?_
  refine lv_if_ne (tgt := 10) hx hb dX3_wrong_4 (by decide) (fun c1 => ?_) (fun c1 => ?_)
  · skip
    have c1 : ru = true := bI_ne0.mp c1
    refine lv_iload_n hx hb dX3_wrong_10 rfl (lv_at hl 1 rfl) ?_
    refine lv_if_lt (tgt := 19) hx hb dX3_wrong_11 (by decide) (fun c2 => ?_) (fun c2 => ?_)
    · skip
      refine lv_bipush (v := (-2)) hx hb dX3_wrong_19 (by decide) ?_
      have eq : opWrong (cn, ru, fu, ch, dk, wt, ld, pl, st, kp) x = (-2, (cn, ru, fu, ch, dk, wt, ld, pl, st, kp)) := by unfold opWrong; dsimp only; rw [if_neg (show ¬ ru = false by rw [c1]; decide), if_pos (Or.inl c2)]
      exact gr_i C h (ty := .int) rfl (rfl) (by rw [eq]; exact ⟨rfl, hR.mono⟩) (Nat.le_of_ble_eq_true rfl) (Nat.le_of_ble_eq_true rfl) dX3_wrong_21
    · skip
      refine lv_iload_n hx hb dX3_wrong_14 rfl (lv_at hl 1 rfl) ?_
      refine lv_iconst (v := nI 2) hx hb dX3_wrong_15 (by decide) ?_
      refine lv_icmp_le (tgt := 22) hx hb dX3_wrong_16 (by decide) (fun c3 => ?_) (fun c3 => ?_)
      · skip
        have hnr : ¬ (x < 0 ∨ nI 2 < x) := fun q => q.elim c2 (fun q => Int32.not_lt.mpr c3 q)
        refine lv_iconst (v := nI 0) hx hb dX3_wrong_22 (by decide) ?_
        refine lv_istore_n (lv' := [(2, .int (nI 0)), (0, .ref (ad 0)), (1, .int x)]) hx hb dX3_wrong_23 rfl hl (by decide) rfl (fun ls hl => ?_)
        refine lv_iconst (v := (-1)) hx hb dX3_wrong_24 (by decide) ?_
        refine lv_istore_n (lv' := [(3, .int (-1)), (2, .int (nI 0)), (0, .ref (ad 0)), (1, .int x)]) hx hb dX3_wrong_25 rfl hl (by decide) rfl (fun ls hl => ?_)
        refine lv_iconst (v := nI 0) hx hb dX3_wrong_26 (by decide) ?_
        refine lv_istore (lv' := [(4, .int (nI 0)), (3, .int (-1)), (2, .int (nI 0)), (0, .ref (ad 0)), (1, .int x)]) hx hb dX3_wrong_27 hl (by decide) rfl (fun ls hl => ?_)
        have hl : lv_has ls 5 [(4, .int (nI 0)), (3, .int ((if lf (fun p => !(bad dk wt ld pl p)) 0 0 < 0 then nI (lf (fun p => !(bad dk wt ld pl p)) 0 0) else -1))), (2, .int (nI (cntB (bad dk wt ld pl) 0 0))), (0, .ref (ad 0)), (1, .int x)] := by exact hl
        have loop : ∀ (n_ : Nat) (i : Nat) (w1 : GW) (H : Heap) (locs : List Loc) (ls : Array Slot), 30 - i < n_ → (i ≤ 30) → (w1 = w) → SH g w1 v s H locs → lv_has ls 5 [(0, .ref (ad 0)), (1, .int x), (2, .int (nI (cntB (bad dk wt ld pl) 0 i))), (3, .int ((if lf (fun p => !(bad dk wt ld pl p)) i 0 < i then nI (lf (fun p => !(bad dk wt ld pl p)) i 0) else -1))), (4, .int (nI i))] → W p l e ({ frames := 3, cells := 0, slots := 0, locals := 180 } : Room) s m ([.ref (ad 0), .int x] : List Value).toArray below meth c H locs 0 0 (MQ below (va_Qi (fun (r : Int32) (w' : GW) => r = (opWrong (cn, ru, fu, ch, dk, wt, ld, pl, st, kp) x).1 ∧ RM g w' ad (N + 1) (opWrong (cn, ru, fu, ch, dk, wt, ld, pl, st, kp) x).2) (gB g v) (gA g)) ([.ref (ad 0), .int x] : List Value).toArray s 0 0 (gA g)) (F0 m 29 ls []) := by
          intro n_
          induction n_ with
          | zero => intros; exact absurd ‹_ < 0› (Nat.not_lt_zero _)
          | succ n_ ih =>
            intro i w1 H locs ls hf hi hw  h hl
            rw [hw] at h
            refine lv_iload hx hb dX3_wrong_29 (lv_at hl 4 rfl) ?_
            refine lv_bipush (v := nI 30) hx hb dX3_wrong_31 (by decide) ?_
            refine lv_icmp_ge (tgt := 99) hx hb dX3_wrong_33 (by decide) (fun c4 => ?_) (fun c4 => ?_)
            · skip
              have c4 : 30 ≤ i := (nI_leI (by omega) (by omega)).mp c4
              have : i = 30 := by omega
              subst this
              refine lv_iload_n hx hb dX3_wrong_99 rfl (lv_at hl 1 rfl) ?_
              refine lv_if_ne (tgt := 107) hx hb dX3_wrong_100 (by decide) (fun c5 => ?_) (fun c5 => ?_)
              · skip
                by_cases hb_ : lf (fun p => !(bad dk wt ld pl p)) 30 0 < 30
                · skip
                  rw [if_pos hb_] at hl
                  refine lv_iload_n hx hb dX3_wrong_107 rfl (lv_at hl 3 rfl) ?_
                  refine lv_iconst (v := (-1)) hx hb dX3_wrong_108 (by decide) ?_
                  refine lv_icmp_ne (tgt := 116) hx hb dX3_wrong_109 (by decide) (fun c6 => ?_) (fun c6 => ?_)
                  · skip
                    refine lv_iload_n hx hb dX3_wrong_116 rfl (lv_at hl 1 rfl) ?_
                    refine lv_iconst (v := nI 1) hx hb dX3_wrong_117 (by decide) ?_
                    refine lv_icmp_ne (tgt := 125) hx hb dX3_wrong_118 (by decide) (fun c7 => ?_) (fun c7 => ?_)
                    · skip
                      refine lv_aload_n hx hb dX3_wrong_125 rfl (lv_at hl 0 rfl) ?_
                      refine gx_get C h m0 (Cn := RX3) (T := TX3) (N := 22) rfl in_X3 7 (by decide) q739 rfl rfl dX3_wrong_126 ?_
                      refine lv_iload_n hx hb dX3_wrong_129 rfl (lv_at hl 3 rfl) ?_
                      refine gx_iald C h m5 (lf (fun p => !(bad dk wt ld pl p)) 30 0) (rfl) (by omega) dX3_wrong_130 ?_
                      have eq : opWrong (cn, ru, fu, ch, dk, wt, ld, pl, st, kp) x = (plI (pl (lf (fun p => !(bad dk wt ld pl p)) 30 0)), (cn, ru, fu, ch, dk, wt, ld, pl, st, kp)) := by unfold opWrong; dsimp only; rw [if_neg (show ¬ ru = false by rw [c1]; decide), if_neg hnr, if_neg c5, if_pos hb_, if_neg c7]
                      exact gr_i C h (ty := .int) rfl (rfl) (by rw [eq]; exact ⟨r5 _ hb_, hR.mono⟩) (Nat.le_of_ble_eq_true rfl) (Nat.le_of_ble_eq_true rfl) dX3_wrong_131
                    · skip
                      refine lv_iload_n hx hb dX3_wrong_121 rfl (lv_at hl 3 rfl) ?_
                      refine lv_goto (tgt := 131) hx hb dX3_wrong_122 (by decide) ?_
                      have eq : opWrong (cn, ru, fu, ch, dk, wt, ld, pl, st, kp) x = (nI (lf (fun p => !(bad dk wt ld pl p)) 30 0), (cn, ru, fu, ch, dk, wt, ld, pl, st, kp)) := by unfold opWrong; dsimp only; rw [if_neg (show ¬ ru = false by rw [c1]; decide), if_neg hnr, if_neg c5, if_pos hb_, if_pos c7]
                      exact gr_i C h (ty := .int) rfl (rfl) (by rw [eq]; exact ⟨rfl, hR.mono⟩) (Nat.le_of_ble_eq_true rfl) (Nat.le_of_ble_eq_true rfl) dX3_wrong_131
                  · skip
                    exact absurd c6 (nm1 (by omega))
                · skip
                  rw [if_neg hb_] at hl
                  refine lv_iload_n hx hb dX3_wrong_107 rfl (lv_at hl 3 rfl) ?_
                  refine lv_iconst (v := (-1)) hx hb dX3_wrong_108 (by decide) ?_
                  refine lv_icmp_ne (tgt := 116) hx hb dX3_wrong_109 (by decide) (fun c6 => ?_) (fun c6 => ?_)
                  · skip
                    exact absurd rfl c6
                  · skip
                    refine lv_iconst (v := (-1)) hx hb dX3_wrong_112 (by decide) ?_
                    refine lv_goto (tgt := 131) hx hb dX3_wrong_113 (by decide) ?_
                    have eq : opWrong (cn, ru, fu, ch, dk, wt, ld, pl, st, kp) x = (-1, (cn, ru, fu, ch, dk, wt, ld, pl, st, kp)) := by unfold opWrong; dsimp only; rw [if_neg (show ¬ ru = false by rw [c1]; decide), if_neg hnr, if_neg c5, if_neg hb_]
                    exact gr_i C h (ty := .int) rfl (rfl) (by rw [eq]; exact ⟨rfl, hR.mono⟩) (Nat.le_of_ble_eq_true rfl) (Nat.le_of_ble_eq_true rfl) dX3_wrong_131
              · skip
                refine lv_iload_n hx hb dX3_wrong_103 rfl (lv_at hl 2 rfl) ?_
                refine lv_goto (tgt := 131) hx hb dX3_wrong_104 (by decide) ?_
                have eq : opWrong (cn, ru, fu, ch, dk, wt, ld, pl, st, kp) x = (nI (cntB (bad dk wt ld pl) 0 30), (cn, ru, fu, ch, dk, wt, ld, pl, st, kp)) := by unfold opWrong; dsimp only; rw [if_neg (show ¬ ru = false by rw [c1]; decide), if_neg hnr, if_pos c5]
                exact gr_i C h (ty := .int) rfl (rfl) (by rw [eq]; exact ⟨rfl, hR.mono⟩) (Nat.le_of_ble_eq_true rfl) (Nat.le_of_ble_eq_true rfl) dX3_wrong_131
            · skip
              have c4 : ¬ (30 ≤ i) := fun q => c4 ((nI_leI (by omega) (by omega)).mpr q)
              have hls := lf_snoc (fun p => !(bad dk wt ld pl p)) i 0
              rw [Nat.zero_add] at hls
              refine lv_aload_n hx hb dX3_wrong_36 rfl (lv_at hl 0 rfl) ?_
              refine gx_get C h m0 (Cn := RX3) (T := TX3) (N := 22) rfl in_X3 7 (by decide) q739 rfl rfl dX3_wrong_37 ?_
              refine lv_iload hx hb dX3_wrong_40 (lv_at hl 4 rfl) ?_
              refine gx_iald C h m5 i (rfl) (by omega) dX3_wrong_42 ?_
              rw [r5 i (by omega)]
              refine lv_iconst (v := (-1)) hx hb dX3_wrong_43 (by decide) ?_
              refine lv_icmp_eq (tgt := 93) hx hb dX3_wrong_44 (by decide) (fun c5 => ?_) (fun c5 => ?_)
              · skip
                have hpn : pl i = none := (plI_m1 (br_pl i1.2 i2 (by omega))).mp c5
                have hbi : bad dk wt ld pl i = false := by unfold bad; rw [hpn]
                refine lv_iinc (v := nI (i + 1)) (lv' := [(4, .int (nI (i + 1))), (0, .ref (ad 0)), (1, .int x), (2, .int (nI (cntB (bad dk wt ld pl) 0 i))), (3, .int ((if lf (fun p => !(bad dk wt ld pl p)) i 0 < i then nI (lf (fun p => !(bad dk wt ld pl p)) i 0) else -1)))]) hx hb dX3_wrong_93 hl (k := 4) rfl (gi_inc _ 1) (by decide) rfl (fun ls hl => ?_)
                refine lv_goto (tgt := 29) hx hb dX3_wrong_96 (by decide) ?_
                have hl : lv_has ls 5 [(4, .int (nI (i + 1))), (0, .ref (ad 0)), (1, .int x), (2, .int (nI (cntB (bad dk wt ld pl) 0 (i + 1)))), (3, .int ((if lf (fun p => !(bad dk wt ld pl p)) (i + 1) 0 < (i + 1) then nI (lf (fun p => !(bad dk wt ld pl p)) (i + 1) 0) else -1)))] := by rw [lv_next_f hbi, cntB_s, Nat.zero_add, hbi]; exact hl
                exact ih (i + 1) _ _ _ _ (by omega) (by omega) rfl  h (lv_sub hl [1, 2, 3, 4, 0] rfl)
              · skip
                obtain ⟨k, hk⟩ : ∃ k, pl i = some k := by cases hq : pl i with | none => exact absurd (by rw [hq]; rfl) c5 | some k => exact ⟨k, rfl⟩
                have hk64 := i2 i k (by omega) hk
                have hfpi : fP i = nI k := by rw [r5 i (by omega), hk]; rfl
                refine lv_aload_n hx hb dX3_wrong_47 rfl (lv_at hl 0 rfl) ?_
                refine gx_get C h m0 (Cn := RX3) (T := TX3) (N := 22) rfl in_X3 6 (by decide) q738 rfl rfl dX3_wrong_48 ?_
                refine lv_aload_n hx hb dX3_wrong_51 rfl (lv_at hl 0 rfl) ?_
                refine gx_get C h m0 (Cn := RX3) (T := TX3) (N := 22) rfl in_X3 7 (by decide) q739 rfl rfl dX3_wrong_52 ?_
                refine lv_iload hx hb dX3_wrong_55 (lv_at hl 4 rfl) ?_
                refine gx_iald C h m5 i (rfl) (by omega) dX3_wrong_57 ?_
                rw [hfpi]
                refine gx_zald C h m4 k (rfl) (by omega) dX3_wrong_58 ?_
                rw [r4 k (by omega)]
                refine lv_if_ne (tgt := 93) hx hb dX3_wrong_59 (by decide) (fun c6 => ?_) (fun c6 => ?_)
                · skip
                  have c6 : (ld k).isSome = true := bI_ne0.mp c6
                  have hbi : bad dk wt ld pl i = false := by unfold bad; rw [hk]; dsimp only; rw [isNone_f c6]; rfl
                  refine lv_iinc (v := nI (i + 1)) (lv' := [(4, .int (nI (i + 1))), (0, .ref (ad 0)), (1, .int x), (2, .int (nI (cntB (bad dk wt ld pl) 0 i))), (3, .int ((if lf (fun p => !(bad dk wt ld pl p)) i 0 < i then nI (lf (fun p => !(bad dk wt ld pl p)) i 0) else -1)))]) hx hb dX3_wrong_93 hl (k := 4) rfl (gi_inc _ 1) (by decide) rfl (fun ls hl => ?_)
                  refine lv_goto (tgt := 29) hx hb dX3_wrong_96 (by decide) ?_
                  have hl : lv_has ls 5 [(4, .int (nI (i + 1))), (0, .ref (ad 0)), (1, .int x), (2, .int (nI (cntB (bad dk wt ld pl) 0 (i + 1)))), (3, .int ((if lf (fun p => !(bad dk wt ld pl p)) (i + 1) 0 < (i + 1) then nI (lf (fun p => !(bad dk wt ld pl p)) (i + 1) 0) else -1)))] := by rw [lv_next_f hbi, cntB_s, Nat.zero_add, hbi]; exact hl
                  exact ih (i + 1) _ _ _ _ (by omega) (by omega) rfl  h (lv_sub hl [1, 2, 3, 4, 0] rfl)
                · skip
                  have c6 : (ld k).isSome = false := bI_eq0.mp c6
                  refine lv_aload_n hx hb dX3_wrong_62 rfl (lv_at hl 0 rfl) ?_
                  refine gx_get C h m0 (Cn := RX3) (T := TX3) (N := 22) rfl in_X3 4 (by decide) q736 rfl rfl dX3_wrong_63 ?_
                  refine lv_aload_n hx hb dX3_wrong_66 rfl (lv_at hl 0 rfl) ?_
                  refine gx_get C h m0 (Cn := RX3) (T := TX3) (N := 22) rfl in_X3 7 (by decide) q739 rfl rfl dX3_wrong_67 ?_
                  refine lv_iload hx hb dX3_wrong_70 (lv_at hl 4 rfl) ?_
                  refine gx_iald C h m5 i (rfl) (by omega) dX3_wrong_72 ?_
                  rw [hfpi]
                  refine gc_i (va_runS (As := [.ref (ad 2), .int (nI k)]) (rest := []) C.fix (m_X3_isRight l g w v (ad 2) 2048 fL m2 (by omega) k (by omega)) (va_cwS 2 hts (lw_S q873 q874 q53 q875) rfl rfl rfl (by decide +kernel) ⟨Nat.le_of_ble_eq_true rfl, Nat.le_of_ble_eq_true rfl⟩) (gp_S C h _) rfl rfl hl.1 rfl (lv_room (Nat.le_of_ble_eq_true rfl)) dX3_wrong_73 ⟨Nat.le_of_ble_eq_true rfl, Nat.le_of_ble_eq_true rfl⟩) h (fun r_1 w_2 H locs hp h => ?_)
                  obtain ⟨er_r_1, ew_r_1⟩ := hp
                  rw [er_r_1]
                  rw [ew_r_1] at h
                  rw [(br_row (fun i hi => r2 k i (by omega) hi)).1]
                  refine lv_if_eq (tgt := 82) hx hb dX3_wrong_76 (by decide) (fun c7 => ?_) (fun c7 => ?_)
                  · skip
                    have c7 : rightB (lat dk wt k) = false := bI_eq0.mp c7
                    have hbi : bad dk wt ld pl i = true := by unfold bad; rw [hk]; dsimp only; rw [isNone_t c6, c7]; rfl
                    refine lv_iinc (v := nI (cntB (bad dk wt ld pl) 0 i + 1)) (lv' := [(2, .int (nI (cntB (bad dk wt ld pl) 0 i + 1))), (0, .ref (ad 0)), (1, .int x), (3, .int ((if lf (fun p => !(bad dk wt ld pl p)) i 0 < i then nI (lf (fun p => !(bad dk wt ld pl p)) i 0) else -1))), (4, .int (nI i))]) hx hb dX3_wrong_82 hl (k := 2) rfl (gi_inc _ 1) (by decide) rfl (fun ls hl => ?_)
                    refine lv_iload_n hx hb dX3_wrong_85 rfl (lv_at hl 3 rfl) ?_
                    refine lv_iconst (v := (-1)) hx hb dX3_wrong_86 (by decide) ?_
                    by_cases hlt : lf (fun p => !(bad dk wt ld pl p)) i 0 < i
                    · skip
                      rw [if_pos hlt] at hl ⊢
                      refine lv_icmp_ne (tgt := 93) hx hb dX3_wrong_87 (by decide) (fun c8 => ?_) (fun c8 => ?_)
                      · skip
                        refine lv_iinc (v := nI (i + 1)) (lv' := [(4, .int (nI (i + 1))), (2, .int (nI (cntB (bad dk wt ld pl) 0 i + 1))), (0, .ref (ad 0)), (1, .int x), (3, .int (nI (lf (fun p => !(bad dk wt ld pl p)) i 0)))]) hx hb dX3_wrong_93 hl (k := 4) rfl (gi_inc _ 1) (by decide) rfl (fun ls hl => ?_)
                        refine lv_goto (tgt := 29) hx hb dX3_wrong_96 (by decide) ?_
                        have hl : lv_has ls 5 [(4, .int (nI (i + 1))), (2, .int (nI (cntB (bad dk wt ld pl) 0 (i + 1)))), (0, .ref (ad 0)), (1, .int x), (3, .int ((if lf (fun p => !(bad dk wt ld pl p)) (i + 1) 0 < (i + 1) then nI (lf (fun p => !(bad dk wt ld pl p)) (i + 1) 0) else -1)))] := by rw [lv_next_lt hlt, cntB_s, Nat.zero_add, hbi]; exact hl
                        exact ih (i + 1) _ _ _ _ (by omega) (by omega) rfl  h (lv_sub hl [2, 3, 1, 4, 0] rfl)
                      · skip
                        exact absurd c8 (nm1 (by omega))
                    · skip
                      rw [if_neg hlt] at hl ⊢
                      refine lv_icmp_ne (tgt := 93) hx hb dX3_wrong_87 (by decide) (fun c8 => ?_) (fun c8 => ?_)
                      · skip
                        exact absurd rfl c8
                      · skip
                        refine lv_iload hx hb dX3_wrong_90 (lv_at hl 4 rfl) ?_
                        refine lv_istore_n (lv' := [(3, .int (nI i)), (2, .int (nI (cntB (bad dk wt ld pl) 0 i + 1))), (0, .ref (ad 0)), (1, .int x), (4, .int (nI i))]) hx hb dX3_wrong_92 rfl hl (by decide) rfl (fun ls hl => ?_)
                        refine lv_iinc (v := nI (i + 1)) (lv' := [(4, .int (nI (i + 1))), (3, .int (nI i)), (2, .int (nI (cntB (bad dk wt ld pl) 0 i + 1))), (0, .ref (ad 0)), (1, .int x)]) hx hb dX3_wrong_93 hl (k := 4) rfl (gi_inc _ 1) (by decide) rfl (fun ls hl => ?_)
                        refine lv_goto (tgt := 29) hx hb dX3_wrong_96 (by decide) ?_
                        have hl : lv_has ls 5 [(4, .int (nI (i + 1))), (3, .int ((if lf (fun p => !(bad dk wt ld pl p)) (i + 1) 0 < (i + 1) then nI (lf (fun p => !(bad dk wt ld pl p)) (i + 1) 0) else -1))), (2, .int (nI (cntB (bad dk wt ld pl) 0 (i + 1)))), (0, .ref (ad 0)), (1, .int x)] := by rw [lv_next_b hbi hlt, cntB_s, Nat.zero_add, hbi]; exact hl
                        exact ih (i + 1) _ _ _ _ (by omega) (by omega) rfl  h (lv_sub hl [3, 4, 2, 1, 0] rfl)
                  · skip
                    have c7 : rightB (lat dk wt k) = true := bI_ne0.mp c7
                    have hbi : bad dk wt ld pl i = false := by unfold bad; rw [hk]; dsimp only; rw [c7]; simp
                    refine lv_goto (tgt := 93) hx hb dX3_wrong_79 (by decide) ?_
                    refine lv_iinc (v := nI (i + 1)) (lv' := [(4, .int (nI (i + 1))), (0, .ref (ad 0)), (1, .int x), (2, .int (nI (cntB (bad dk wt ld pl) 0 i))), (3, .int ((if lf (fun p => !(bad dk wt ld pl p)) i 0 < i then nI (lf (fun p => !(bad dk wt ld pl p)) i 0) else -1)))]) hx hb dX3_wrong_93 hl (k := 4) rfl (gi_inc _ 1) (by decide) rfl (fun ls hl => ?_)
                    refine lv_goto (tgt := 29) hx hb dX3_wrong_96 (by decide) ?_
                    have hl : lv_has ls 5 [(4, .int (nI (i + 1))), (0, .ref (ad 0)), (1, .int x), (2, .int (nI (cntB (bad dk wt ld pl) 0 (i + 1)))), (3, .int ((if lf (fun p => !(bad dk wt ld pl p)) (i + 1) 0 < (i + 1) then nI (lf (fun p => !(bad dk wt ld pl p)) (i + 1) 0) else -1)))] := by rw [lv_next_f hbi, cntB_s, Nat.zero_add, hbi]; exact hl
                    exact ih (i + 1) _ _ _ _ (by omega) (by omega) rfl  h (lv_sub hl [1, 2, 3, 4, 0] rfl)
        exact loop 31 0 w _ _ _ (by omega) (by omega) rfl h (lv_sub hl [3, 4, 2, 1, 0] rfl)
      · skip
        refine lv_bipush (v := (-2)) hx hb dX3_wrong_19 (by decide) ?_
        have eq : opWrong (cn, ru, fu, ch, dk, wt, ld, pl, st, kp) x = (-2, (cn, ru, fu, ch, dk, wt, ld, pl, st, kp)) := by unfold opWrong; dsimp only; rw [if_neg (show ¬ ru = false by rw [c1]; decide), if_pos (Or.inr (Int32.not_le.mp c3))]
        exact gr_i C h (ty := .int) rfl (rfl) (by rw [eq]; exact ⟨rfl, hR.mono⟩) (Nat.le_of_ble_eq_true rfl) (Nat.le_of_ble_eq_true rfl) dX3_wrong_21
  · skip
    have c1 : ru = false := bI_eq0.mp c1
    refine lv_bipush (v := (-3)) hx hb dX3_wrong_7 (by decide) ?_
    have eq : opWrong (cn, ru, fu, ch, dk, wt, ld, pl, st, kp) x = (-3, (cn, ru, fu, ch, dk, wt, ld, pl, st, kp)) := by unfold opWrong; dsimp only; rw [if_pos c1]
    exact gr_i C h (ty := .int) rfl (rfl) (by rw [eq]; exact ⟨rfl, hR.mono⟩) (Nat.le_of_ble_eq_true rfl) (Nat.le_of_ble_eq_true rfl) dX3_wrong_9
set_option maxHeartbeats 4000000 in
theorem m_X3_backup (l : Launch) (g : GG) (w v : GW) (ad : Nat → Nat) (N cn : Nat) (ru fu ch : Bool) (dk : Sec) (wt : List (Nat × Sec)) (ld : Nat → Option Sec) (pl : Nat → Option Nat) (st kp : List (Int32 × Int64)) (hR : RM g w ad N (cn, ru, fu, ch, dk, wt, ld, pl, st, kp)) (hI : InvK (cn, ru, fu, ch, dk, wt, ld, pl, st, kp)) (hN : N < 64) (n : Int32)  : Met l yX3_backup (ws_ yX3_backup cX3_backup 2 (some .int)) ({ frames := 2, cells := 0, slots := 0, locals := 120 } : Room) (gP g [.ref (ad 0), .int n] w v) (va_Qi (fun (r : Int32) (w' : GW) => r = (opBackup (cn, ru, fu, ch, dk, wt, ld, pl, st, kp) n).1 ∧ RM g w' ad (N + 1) (opBackup (cn, ru, fu, ch, dk, wt, ld, pl, st, kp) n).2) (gB g v) (gA g)) 0 0 (gA g) := by
  refine gm_of (by decide) (Nat.le_of_ble_eq_true rfl) ?_
  intro p e s m below meth c ls C hnm h hl
  have C : Cx g p s m ([.ref (ad 0), .int n] : List Value).toArray meth c cX3_backup 2 RX3 (some .int) := C
  obtain ⟨hx, hb, hml, hown, hts, hr, hlk, hG⟩ := id C
  have hl : lv_has ls 2 [(0, .ref (ad 0)), (1, .int n)] := hl
  obtain ⟨th, fi, be, ne, ke, fD, fL, fO, z, fP, fT, fY, fN, fS, fKn, fK, fH, hM, r1, r2, r3, r4, r5, r6, r7, r8, r9, r10, r11, r12, r13⟩ := id hR
  obtain ⟨i1, i2, i3, i4, i5, i6, i7, i8, i9⟩ := id hI
  have hfb : fi ≤ be ∧ be ≤ 1200 := by omega
  have hne : ne < 1200 := by omega
  have hke : ke ≤ 4 := by omega
  have hcn : 2 ≤ cn ∧ cn ≤ 64 := by omega
  have hhel : ∀ k, k < 64 → heM fP fT fS fK fi be ne ke k = hel wt pl st kp k := fun k hk => br_hel i1.2 i2 i4 r5 r6 r7 r8 r9 r10 r11 hk
  have hKe := br_frS hcn hhel
  have hpl : ∀ q, q < 30 → fP q = -1 ∨ ∃ kk : Nat, kk < 64 ∧ fP q = nI kk := fun q hq => br_pls i1.2 i2 r5 hq
  obtain ⟨hinj, m0, m1, m2, m3, m4, m5, m6, m7, m8, m9, m10, m11, m12⟩ := id hM
  have hlast : fN ne = (lastS st).1 ∧ fS ne = (lastS st).2 := br_last r8 r9
  refine lv_aload_n hx hb dX3_backup_0 rfl (lv_at hl 0 rfl) ?_
  refine gx_get C h m0 (Cn := RX3) (T := TX3) (N := 22) rfl in_X3 1 (by decide) q733 rfl rfl dX3_backup_1 ?_
  refine lv_if_ne (tgt := 10) hx hb dX3_backup_4 (by decide) (fun c1 => ?_) (fun c1 => ?_)
  · skip
    have c1 : ru = true := bI_ne0.mp c1
    refine lv_aload_n hx hb dX3_backup_10 rfl (lv_at hl 0 rfl) ?_
    refine gx_get C h m0 (Cn := RX3) (T := TX3) (N := 22) rfl in_X3 13 (by decide) q745 rfl rfl dX3_backup_11 ?_
    refine lv_aload_n hx hb dX3_backup_14 rfl (lv_at hl 0 rfl) ?_
    refine gx_get C h m0 (Cn := RX3) (T := TX3) (N := 22) rfl in_X3 16 (by decide) q748 rfl rfl dX3_backup_15 ?_
    refine gx_iald C h m8 ne (rfl) (by omega) dX3_backup_18 ?_
    rw [hlast.1]
    refine lv_iload_n hx hb dX3_backup_19 rfl (lv_at hl 1 rfl) ?_
    refine lv_icmp_eq (tgt := 25) hx hb dX3_backup_20 (by decide) (fun c2 => ?_) (fun c2 => ?_)
    · skip
      refine lv_aload_n hx hb dX3_backup_25 rfl (lv_at hl 0 rfl) ?_
      refine gx_get C h m0 (Cn := RX3) (T := TX3) (N := 22) rfl in_X3 19 (by decide) q751 rfl rfl dX3_backup_26 ?_
      refine lv_iconst (v := nI 4) hx hb dX3_backup_29 (by decide) ?_
      refine lv_icmp_ne (tgt := 36) hx hb dX3_backup_30 (by decide) (fun c3 => ?_) (fun c3 => ?_)
      · skip
        have c3 : ¬ (ke = 4) := fun q => c3 ((nI_eq (by omega) (by omega)).mpr q)
        refine lv_aload_n hx hb dX3_backup_36 rfl (lv_at hl 0 rfl) ?_
        refine gx_get C h m0 (Cn := RX3) (T := TX3) (N := 22) rfl in_X3 17 (by decide) q749 rfl rfl dX3_backup_37 ?_
        refine lv_aload_n hx hb dX3_backup_40 rfl (lv_at hl 0 rfl) ?_
        refine gx_get C h m0 (Cn := RX3) (T := TX3) (N := 22) rfl in_X3 19 (by decide) q751 rfl rfl dX3_backup_41 ?_
        refine lv_iload_n hx hb dX3_backup_44 rfl (lv_at hl 1 rfl) ?_
        refine gx_iast C h m10 ke (rfl) (by omega) dX3_backup_45 (fun H locs h => ?_)
        obtain ⟨w_1, ew_1⟩ : ∃ z_ : GW, z_ = gu w (ad 10) (eI g 4 (upd fKn ke n)) := ⟨_, rfl⟩
        have h : SH g w_1 v s H locs := by rw [ew_1]; exact h
        have f_2 : w_1 (ad 0) = some (ob 4 [.int (nI cn), .int (bI ru), .int (bI fu), .ref (ad 1), .ref (ad 2), .ref (ad 3), .ref (ad 4), .ref (ad 5), .int (bI ch), .ref (ad 6), .ref (ad 7), .int (nI fi), .int (nI be), .ref (ad 8), .ref (ad 9), .int (nI 0), .int (nI ne), .ref (ad 10), .ref (ad 11), .int (nI ke), .int (bI th), .ref (ad 12)]) := by rw [ew_1]; exact (gu_n (fun q => absurd (hinj 0 10 (by decide) (by decide) q) (by decide))).trans m0
        have f_3 : w_1 (ad 1) = some (eI g 2048 fD) := by rw [ew_1]; exact (gu_n (fun q => absurd (hinj 1 10 (by decide) (by decide) q) (by decide))).trans m1
        have f_4 : w_1 (ad 2) = some (eI g 2048 fL) := by rw [ew_1]; exact (gu_n (fun q => absurd (hinj 2 10 (by decide) (by decide) q) (by decide))).trans m2
        have f_5 : w_1 (ad 3) = some (eI g 2048 fO) := by rw [ew_1]; exact (gu_n (fun q => absurd (hinj 3 10 (by decide) (by decide) q) (by decide))).trans m3
        have f_6 : w_1 (ad 4) = some (eZ g 64 z) := by rw [ew_1]; exact (gu_n (fun q => absurd (hinj 4 10 (by decide) (by decide) q) (by decide))).trans m4
        have f_7 : w_1 (ad 5) = some (eI g 30 fP) := by rw [ew_1]; exact (gu_n (fun q => absurd (hinj 5 10 (by decide) (by decide) q) (by decide))).trans m5
        have f_8 : w_1 (ad 6) = some (eI g 1200 fT) := by rw [ew_1]; exact (gu_n (fun q => absurd (hinj 6 10 (by decide) (by decide) q) (by decide))).trans m6
        have f_9 : w_1 (ad 7) = some (eI g 38400 fY) := by rw [ew_1]; exact (gu_n (fun q => absurd (hinj 7 10 (by decide) (by decide) q) (by decide))).trans m7
        have f_10 : w_1 (ad 8) = some (eI g 1200 fN) := by rw [ew_1]; exact (gu_n (fun q => absurd (hinj 8 10 (by decide) (by decide) q) (by decide))).trans m8
        have f_11 : w_1 (ad 9) = some (eL g 1200 fS) := by rw [ew_1]; exact (gu_n (fun q => absurd (hinj 9 10 (by decide) (by decide) q) (by decide))).trans m9
        have f_12 : w_1 (ad 10) = some (eI g 4 (upd fKn ke n)) := by rw [ew_1]; exact gu_s
        have f_13 : w_1 (ad 11) = some (eL g 4 fK) := by rw [ew_1]; exact (gu_n (fun q => absurd (hinj 11 10 (by decide) (by decide) q) (by decide))).trans m11
        have f_14 : w_1 (ad 12) = some (eI g 32 fH) := by rw [ew_1]; exact (gu_n (fun q => absurd (hinj 12 10 (by decide) (by decide) q) (by decide))).trans m12
        refine lv_aload_n hx hb dX3_backup_46 rfl (lv_at hl 0 rfl) ?_
        refine gx_get C h f_2 (Cn := RX3) (T := TX3) (N := 22) rfl in_X3 18 (by decide) q750 rfl rfl dX3_backup_47 ?_
        refine lv_aload_n hx hb dX3_backup_50 rfl (lv_at hl 0 rfl) ?_
        refine gx_get C h f_2 (Cn := RX3) (T := TX3) (N := 22) rfl in_X3 19 (by decide) q751 rfl rfl dX3_backup_51 ?_
        refine lv_aload_n hx hb dX3_backup_54 rfl (lv_at hl 0 rfl) ?_
        refine gx_get C h f_2 (Cn := RX3) (T := TX3) (N := 22) rfl in_X3 14 (by decide) q746 rfl rfl dX3_backup_55 ?_
        refine lv_aload_n hx hb dX3_backup_58 rfl (lv_at hl 0 rfl) ?_
        refine gx_get C h f_2 (Cn := RX3) (T := TX3) (N := 22) rfl in_X3 16 (by decide) q748 rfl rfl dX3_backup_59 ?_
        refine gx_lald C h f_11 ne (rfl) (by omega) dX3_backup_62 ?_
        rw [hlast.2]
        refine gx_last C h f_13 ke (rfl) (by omega) dX3_backup_63 (fun H locs h => ?_)
        obtain ⟨w_15, ew_15⟩ : ∃ z_ : GW, z_ = gu w_1 (ad 11) (eL g 4 (vp_updL fK ke ((lastS st).2))) := ⟨_, rfl⟩
        have h : SH g w_15 v s H locs := by rw [ew_15]; exact h
        have f_16 : w_15 (ad 0) = some (ob 4 [.int (nI cn), .int (bI ru), .int (bI fu), .ref (ad 1), .ref (ad 2), .ref (ad 3), .ref (ad 4), .ref (ad 5), .int (bI ch), .ref (ad 6), .ref (ad 7), .int (nI fi), .int (nI be), .ref (ad 8), .ref (ad 9), .int (nI 0), .int (nI ne), .ref (ad 10), .ref (ad 11), .int (nI ke), .int (bI th), .ref (ad 12)]) := by rw [ew_15]; exact (gu_n (fun q => absurd (hinj 0 11 (by decide) (by decide) q) (by decide))).trans f_2
        have f_17 : w_15 (ad 1) = some (eI g 2048 fD) := by rw [ew_15]; exact (gu_n (fun q => absurd (hinj 1 11 (by decide) (by decide) q) (by decide))).trans f_3
        have f_18 : w_15 (ad 2) = some (eI g 2048 fL) := by rw [ew_15]; exact (gu_n (fun q => absurd (hinj 2 11 (by decide) (by decide) q) (by decide))).trans f_4
        have f_19 : w_15 (ad 3) = some (eI g 2048 fO) := by rw [ew_15]; exact (gu_n (fun q => absurd (hinj 3 11 (by decide) (by decide) q) (by decide))).trans f_5
        have f_20 : w_15 (ad 4) = some (eZ g 64 z) := by rw [ew_15]; exact (gu_n (fun q => absurd (hinj 4 11 (by decide) (by decide) q) (by decide))).trans f_6
        have f_21 : w_15 (ad 5) = some (eI g 30 fP) := by rw [ew_15]; exact (gu_n (fun q => absurd (hinj 5 11 (by decide) (by decide) q) (by decide))).trans f_7
        have f_22 : w_15 (ad 6) = some (eI g 1200 fT) := by rw [ew_15]; exact (gu_n (fun q => absurd (hinj 6 11 (by decide) (by decide) q) (by decide))).trans f_8
        have f_23 : w_15 (ad 7) = some (eI g 38400 fY) := by rw [ew_15]; exact (gu_n (fun q => absurd (hinj 7 11 (by decide) (by decide) q) (by decide))).trans f_9
        have f_24 : w_15 (ad 8) = some (eI g 1200 fN) := by rw [ew_15]; exact (gu_n (fun q => absurd (hinj 8 11 (by decide) (by decide) q) (by decide))).trans f_10
        have f_25 : w_15 (ad 9) = some (eL g 1200 fS) := by rw [ew_15]; exact (gu_n (fun q => absurd (hinj 9 11 (by decide) (by decide) q) (by decide))).trans f_11
        have f_26 : w_15 (ad 10) = some (eI g 4 (upd fKn ke n)) := by rw [ew_15]; exact (gu_n (fun q => absurd (hinj 10 11 (by decide) (by decide) q) (by decide))).trans f_12
        have f_27 : w_15 (ad 11) = some (eL g 4 (vp_updL fK ke ((lastS st).2))) := by rw [ew_15]; exact gu_s
        have f_28 : w_15 (ad 12) = some (eI g 32 fH) := by rw [ew_15]; exact (gu_n (fun q => absurd (hinj 12 11 (by decide) (by decide) q) (by decide))).trans f_14
        refine lv_aload_n hx hb dX3_backup_64 rfl (lv_at hl 0 rfl) ?_
        refine lv_dup hx hb dX3_backup_65 rfl ?_
        refine gx_get C h f_16 (Cn := RX3) (T := TX3) (N := 22) rfl in_X3 19 (by decide) q751 rfl rfl dX3_backup_66 ?_
        refine lv_iconst (v := nI 1) hx hb dX3_backup_69 (by decide) ?_
        refine gn_iadd hx hb dX3_backup_70 ?_
        refine gx_put C h f_16 (Cn := RX3) (T := TX3) (N := 22) (x := .int (nI (ke + 1))) rfl in_X3 tyX3 tyX3_ok nmX3 19 (by decide) q751 rfl rfl rfl rfl (Nat.le_of_ble_eq_true rfl) dX3_backup_71 (fun H locs h => ?_)
        obtain ⟨w_29, ew_29⟩ : ∃ z_ : GW, z_ = gu w_15 (ad 0) (ob 4 [.int (nI cn), .int (bI ru), .int (bI fu), .ref (ad 1), .ref (ad 2), .ref (ad 3), .ref (ad 4), .ref (ad 5), .int (bI ch), .ref (ad 6), .ref (ad 7), .int (nI fi), .int (nI be), .ref (ad 8), .ref (ad 9), .int (nI 0), .int (nI ne), .ref (ad 10), .ref (ad 11), .int (nI (ke + 1)), .int (bI th), .ref (ad 12)]) := ⟨_, rfl⟩
        have h : SH g w_29 v s H locs := by rw [ew_29]; exact h
        have f_30 : w_29 (ad 0) = some (ob 4 [.int (nI cn), .int (bI ru), .int (bI fu), .ref (ad 1), .ref (ad 2), .ref (ad 3), .ref (ad 4), .ref (ad 5), .int (bI ch), .ref (ad 6), .ref (ad 7), .int (nI fi), .int (nI be), .ref (ad 8), .ref (ad 9), .int (nI 0), .int (nI ne), .ref (ad 10), .ref (ad 11), .int (nI (ke + 1)), .int (bI th), .ref (ad 12)]) := by rw [ew_29]; exact gu_s
        have f_31 : w_29 (ad 1) = some (eI g 2048 fD) := by rw [ew_29]; exact (gu_n (fun q => absurd (hinj 1 0 (by decide) (by decide) q) (by decide))).trans f_17
        have f_32 : w_29 (ad 2) = some (eI g 2048 fL) := by rw [ew_29]; exact (gu_n (fun q => absurd (hinj 2 0 (by decide) (by decide) q) (by decide))).trans f_18
        have f_33 : w_29 (ad 3) = some (eI g 2048 fO) := by rw [ew_29]; exact (gu_n (fun q => absurd (hinj 3 0 (by decide) (by decide) q) (by decide))).trans f_19
        have f_34 : w_29 (ad 4) = some (eZ g 64 z) := by rw [ew_29]; exact (gu_n (fun q => absurd (hinj 4 0 (by decide) (by decide) q) (by decide))).trans f_20
        have f_35 : w_29 (ad 5) = some (eI g 30 fP) := by rw [ew_29]; exact (gu_n (fun q => absurd (hinj 5 0 (by decide) (by decide) q) (by decide))).trans f_21
        have f_36 : w_29 (ad 6) = some (eI g 1200 fT) := by rw [ew_29]; exact (gu_n (fun q => absurd (hinj 6 0 (by decide) (by decide) q) (by decide))).trans f_22
        have f_37 : w_29 (ad 7) = some (eI g 38400 fY) := by rw [ew_29]; exact (gu_n (fun q => absurd (hinj 7 0 (by decide) (by decide) q) (by decide))).trans f_23
        have f_38 : w_29 (ad 8) = some (eI g 1200 fN) := by rw [ew_29]; exact (gu_n (fun q => absurd (hinj 8 0 (by decide) (by decide) q) (by decide))).trans f_24
        have f_39 : w_29 (ad 9) = some (eL g 1200 fS) := by rw [ew_29]; exact (gu_n (fun q => absurd (hinj 9 0 (by decide) (by decide) q) (by decide))).trans f_25
        have f_40 : w_29 (ad 10) = some (eI g 4 (upd fKn ke n)) := by rw [ew_29]; exact (gu_n (fun q => absurd (hinj 10 0 (by decide) (by decide) q) (by decide))).trans f_26
        have f_41 : w_29 (ad 11) = some (eL g 4 (vp_updL fK ke ((lastS st).2))) := by rw [ew_29]; exact (gu_n (fun q => absurd (hinj 11 0 (by decide) (by decide) q) (by decide))).trans f_27
        have f_42 : w_29 (ad 12) = some (eI g 32 fH) := by rw [ew_29]; exact (gu_n (fun q => absurd (hinj 12 0 (by decide) (by decide) q) (by decide))).trans f_28
        refine lv_aload_n hx hb dX3_backup_74 rfl (lv_at hl 0 rfl) ?_
        refine gx_get C h f_30 (Cn := RX3) (T := TX3) (N := 22) rfl in_X3 14 (by decide) q746 rfl rfl dX3_backup_75 ?_
        refine lv_aload_n hx hb dX3_backup_78 rfl (lv_at hl 0 rfl) ?_
        refine gx_get C h f_30 (Cn := RX3) (T := TX3) (N := 22) rfl in_X3 16 (by decide) q748 rfl rfl dX3_backup_79 ?_
        refine gx_lald C h f_39 ne (rfl) (by omega) dX3_backup_82 ?_
        rw [hlast.2]
        refine gc_i (va_runS (As := [.long ((lastS st).2)]) (rest := []) C.fix (m_X3_bits l g w_29 v (lastS st).2) (va_cwS 1 hts (lw_S q929 q930 q53 q931) rfl rfl rfl (by decide +kernel) ⟨Nat.le_of_ble_eq_true rfl, Nat.le_of_ble_eq_true rfl⟩) (gp_S C h _) rfl rfl hl.1 rfl (lv_room (Nat.le_of_ble_eq_true rfl)) dX3_backup_83 ⟨Nat.le_of_ble_eq_true rfl, Nat.le_of_ble_eq_true rfl⟩) h (fun r_43 w_44 H locs hp h => ?_)
        obtain ⟨er_r_43, ew_r_43⟩ := hp
        rw [er_r_43]
        rw [ew_r_43] at h
        have eq : opBackup (cn, ru, fu, ch, dk, wt, ld, pl, st, kp) n = (nI (cntB (bitL (lastS st).2) 0 64), (cn, ru, fu, ch, dk, wt, ld, pl, st, kp ++ [lastS st])) := by unfold opBackup; dsimp only; rw [if_neg (show ¬ ru = false by rw [c1]; decide), if_pos c2, if_neg (by omega)]
        exact gr_i C h (ty := .int) rfl (rfl) (by rw [eq]; exact ⟨rfl, th, fi, be, ne, ke + 1, fD, fL, fO, z, fP, fT, fY, fN, fS, _, _, fH, ⟨hinj, f_30, f_31, f_32, f_33, f_34, f_35, f_36, f_37, f_38, f_39, f_40, f_41, f_42⟩, r1, r2, r3, r4, r5, r6, r7, r8, r9, by rw [List.length_append, List.length_singleton, r10], bak_K r10 r11 c2.symm, by omega, by omega⟩) (Nat.le_of_ble_eq_true rfl) (Nat.le_of_ble_eq_true rfl) dX3_backup_86
      · skip
        have c3 : ke = 4 := (nI_eq (by omega) (by omega)).mp c3
        refine lv_bipush (v := (-4)) hx hb dX3_backup_33 (by decide) ?_
        have eq : opBackup (cn, ru, fu, ch, dk, wt, ld, pl, st, kp) n = (-4, (cn, ru, fu, ch, dk, wt, ld, pl, st, kp)) := by unfold opBackup; dsimp only; rw [if_neg (show ¬ ru = false by rw [c1]; decide), if_pos c2, if_pos (by omega)]
        exact gr_i C h (ty := .int) rfl (rfl) (by rw [eq]; exact ⟨rfl, hR.mono⟩) (Nat.le_of_ble_eq_true rfl) (Nat.le_of_ble_eq_true rfl) dX3_backup_35
    · skip
      refine lv_iconst (v := (-1)) hx hb dX3_backup_23 (by decide) ?_
      have eq : opBackup (cn, ru, fu, ch, dk, wt, ld, pl, st, kp) n = (-1, (cn, ru, fu, ch, dk, wt, ld, pl, st, kp)) := by unfold opBackup; dsimp only; rw [if_neg (show ¬ ru = false by rw [c1]; decide), if_neg c2]
      exact gr_i C h (ty := .int) rfl (rfl) (by rw [eq]; exact ⟨rfl, hR.mono⟩) (Nat.le_of_ble_eq_true rfl) (Nat.le_of_ble_eq_true rfl) dX3_backup_24
  · skip
    have c1 : ru = false := bI_eq0.mp c1
    refine lv_bipush (v := (-3)) hx hb dX3_backup_7 (by decide) ?_
    have eq : opBackup (cn, ru, fu, ch, dk, wt, ld, pl, st, kp) n = (-3, (cn, ru, fu, ch, dk, wt, ld, pl, st, kp)) := by unfold opBackup; dsimp only; rw [if_pos c1]
    exact gr_i C h (ty := .int) rfl (rfl) (by rw [eq]; exact ⟨rfl, hR.mono⟩) (Nat.le_of_ble_eq_true rfl) (Nat.le_of_ble_eq_true rfl) dX3_backup_9
set_option maxHeartbeats 4000000 in
theorem m_X3_drop (l : Launch) (g : GG) (w v : GW) (ad : Nat → Nat) (N cn : Nat) (ru fu ch : Bool) (dk : Sec) (wt : List (Nat × Sec)) (ld : Nat → Option Sec) (pl : Nat → Option Nat) (st kp : List (Int32 × Int64)) (hR : RM g w ad N (cn, ru, fu, ch, dk, wt, ld, pl, st, kp)) (hI : InvK (cn, ru, fu, ch, dk, wt, ld, pl, st, kp)) (hN : N < 64) (n : Int32)  : Met l yX3_drop (ws_ yX3_drop cX3_drop 5 (some .int)) ({ frames := 4, cells := 0, slots := 0, locals := 240 } : Room) (gP g [.ref (ad 0), .int n] w v) (va_Qi (fun (r : Int32) (w' : GW) => r = (opDrop (cn, ru, fu, ch, dk, wt, ld, pl, st, kp) n).1 ∧ RM g w' ad (N + 1) (opDrop (cn, ru, fu, ch, dk, wt, ld, pl, st, kp) n).2) (gB g v) (gA g)) 0 0 (gA g) := by
  refine gm_of (by decide) (Nat.le_of_ble_eq_true rfl) ?_
  intro p e s m below meth c ls C hnm h hl
  have C : Cx g p s m ([.ref (ad 0), .int n] : List Value).toArray meth c cX3_drop 5 RX3 (some .int) := C
  obtain ⟨hx, hb, hml, hown, hts, hr, hlk, hG⟩ := id C
  have hl : lv_has ls 5 [(0, .ref (ad 0)), (1, .int n)] := hl
  obtain ⟨th, fi, be, ne, ke, fD, fL, fO, z, fP, fT, fY, fN, fS, fKn, fK, fH, hM, r1, r2, r3, r4, r5, r6, r7, r8, r9, r10, r11, r12, r13⟩ := id hR
  obtain ⟨i1, i2, i3, i4, i5, i6, i7, i8, i9⟩ := id hI
  have hfb : fi ≤ be ∧ be ≤ 1200 := by omega
  have hne : ne < 1200 := by omega
  have hke : ke ≤ 4 := by omega
  have hcn : 2 ≤ cn ∧ cn ≤ 64 := by omega
  have hhel : ∀ k, k < 64 → heM fP fT fS fK fi be ne ke k = hel wt pl st kp k := fun k hk => br_hel i1.2 i2 i4 r5 r6 r7 r8 r9 r10 r11 hk
  have hKe := br_frS hcn hhel
  have hpl : ∀ q, q < 30 → fP q = -1 ∨ ∃ kk : Nat, kk < 64 ∧ fP q = nI kk := fun q hq => br_pls i1.2 i2 r5 hq
  obtain ⟨hinj, m0, m1, m2, m3, m4, m5, m6, m7, m8, m9, m10, m11, m12⟩ := id hM
  have hkn : ∀ i, i < ke → fKn i = (kp.getD i (0, 0)).1 := fun i hi => br_kn r10 r11 hi
  refine lv_aload_n hx hb dX3_drop_0 rfl (lv_at hl 0 rfl) ?_
  refine gx_get C h m0 (Cn := RX3) (T := TX3) (N := 22) rfl in_X3 1 (by decide) q733 rfl rfl dX3_drop_1 ?_
  refine lv_if_ne (tgt := 10) hx hb dX3_drop_4 (by decide) (fun c1 => ?_) (fun c1 => ?_)
  · skip
    have c1 : ru = true := bI_ne0.mp c1
    refine lv_iconst (v := nI 0) hx hb dX3_drop_10 (by decide) ?_
    refine lv_istore_n (lv' := [(2, .int (nI 0)), (0, .ref (ad 0)), (1, .int n)]) hx hb dX3_drop_11 rfl hl (by decide) rfl (fun ls hl => ?_)
    have loop : ∀ (n_ : Nat) (k : Nat) (w1 : GW) (H : Heap) (locs : List Loc) (ls : Array Slot), ke - k < n_ → (k ≤ ke) → (lf (fun i => decide (¬ (kp.getD i (0, 0)).1 = n)) (ke - k) k = keptAt kp n) → (w1 = w) → SH g w1 v s H locs → lv_has ls 5 [(0, .ref (ad 0)), (1, .int n), (2, .int (nI k))] → W p l e ({ frames := 4, cells := 0, slots := 0, locals := 240 } : Room) s m ([.ref (ad 0), .int n] : List Value).toArray below meth c H locs 0 0 (MQ below (va_Qi (fun (r : Int32) (w' : GW) => r = (opDrop (cn, ru, fu, ch, dk, wt, ld, pl, st, kp) n).1 ∧ RM g w' ad (N + 1) (opDrop (cn, ru, fu, ch, dk, wt, ld, pl, st, kp) n).2) (gB g v) (gA g)) ([.ref (ad 0), .int n] : List Value).toArray s 0 0 (gA g)) (F0 m 12 ls []) := by
      intro n_
      induction n_ with
      | zero => intros; exact absurd ‹_ < 0› (Nat.not_lt_zero _)
      | succ n_ ih =>
        intro k w1 H locs ls hf hk hlf hw  h hl
        rw [hw] at h
        refine lv_iload_n hx hb dX3_drop_12 rfl (lv_at hl 2 rfl) ?_
        refine lv_aload_n hx hb dX3_drop_13 rfl (lv_at hl 0 rfl) ?_
        refine gx_get C h m0 (Cn := RX3) (T := TX3) (N := 22) rfl in_X3 19 (by decide) q751 rfl rfl dX3_drop_14 ?_
        refine lv_icmp_ge (tgt := 36) hx hb dX3_drop_17 (by decide) (fun c2 => ?_) (fun c2 => ?_)
        · skip
          have c2 : ke ≤ k := (nI_leI (by omega) (by omega)).mp c2
          have hkk : k = ke := by omega
          rw [hkk, Nat.sub_self] at hlf
          refine lv_iload_n hx hb dX3_drop_36 rfl (lv_at hl 2 rfl) ?_
          refine lv_aload_n hx hb dX3_drop_37 rfl (lv_at hl 0 rfl) ?_
          refine gx_get C h m0 (Cn := RX3) (T := TX3) (N := 22) rfl in_X3 19 (by decide) q751 rfl rfl dX3_drop_38 ?_
          refine lv_icmp_ne (tgt := 46) hx hb dX3_drop_41 (by decide) (fun c3 => ?_) (fun c3 => ?_)
          · skip
            have c3 : ¬ (k = ke) := fun q => c3 ((nI_eq (by omega) (by omega)).mpr q)
            omega
          · skip
            have c3 : k = ke := (nI_eq (by omega) (by omega)).mp c3
            refine lv_iconst (v := (-1)) hx hb dX3_drop_44 (by decide) ?_
            have eq : opDrop (cn, ru, fu, ch, dk, wt, ld, pl, st, kp) n = (-1, (cn, ru, fu, ch, dk, wt, ld, pl, st, kp)) := by unfold opDrop; dsimp only; rw [if_neg (show ¬ ru = false by rw [c1]; decide), if_neg (by rw [← hlf, r10]; exact Nat.lt_irrefl _)]
            exact gr_i C h (ty := .int) rfl (rfl) (by rw [eq]; exact ⟨rfl, hR.mono⟩) (Nat.le_of_ble_eq_true rfl) (Nat.le_of_ble_eq_true rfl) dX3_drop_45
        · skip
          have c2 : ¬ (ke ≤ k) := fun q => c2 ((nI_leI (by omega) (by omega)).mpr q)
          obtain ⟨q, hq⟩ : ∃ q, ke - k = q + 1 := ⟨ke - k - 1, by omega⟩
          rw [hq] at hlf
          refine lv_aload_n hx hb dX3_drop_20 rfl (lv_at hl 0 rfl) ?_
          refine gx_get C h m0 (Cn := RX3) (T := TX3) (N := 22) rfl in_X3 17 (by decide) q749 rfl rfl dX3_drop_21 ?_
          refine lv_iload_n hx hb dX3_drop_24 rfl (lv_at hl 2 rfl) ?_
          refine gx_iald C h m10 k (rfl) (by omega) dX3_drop_25 ?_
          rw [hkn k (by omega)]
          refine lv_iload_n hx hb dX3_drop_26 rfl (lv_at hl 1 rfl) ?_
          refine lv_icmp_eq (tgt := 36) hx hb dX3_drop_27 (by decide) (fun c3 => ?_) (fun c3 => ?_)
          · skip
            rw [lf_f (decide_eq_false (fun z => z c3))] at hlf
            have hka : keptAt kp n < kp.length := by rw [← hlf, ← r10]; omega
            refine lv_iload_n hx hb dX3_drop_36 rfl (lv_at hl 2 rfl) ?_
            refine lv_aload_n hx hb dX3_drop_37 rfl (lv_at hl 0 rfl) ?_
            refine gx_get C h m0 (Cn := RX3) (T := TX3) (N := 22) rfl in_X3 19 (by decide) q751 rfl rfl dX3_drop_38 ?_
            refine lv_icmp_ne (tgt := 46) hx hb dX3_drop_41 (by decide) (fun c4 => ?_) (fun c4 => ?_)
            · skip
              have c4 : ¬ (k = ke) := fun q => c4 ((nI_eq (by omega) (by omega)).mpr q)
              refine lv_aload_n hx hb dX3_drop_46 rfl (lv_at hl 0 rfl) ?_
              refine gc_i (va_runV (As := []) (rest := []) C.fix (m_X3_heldCount l g w v ad cn ru fu ch th fi be ne ke m0 fP m5 fT m6 fS m9 fK m11 hfb hne hke) (cwV 0 hts (lw_V q936 q938 qs41 q53 q939) rfl rfl rfl (by decide +kernel) ⟨Nat.le_of_ble_eq_true rfl, Nat.le_of_ble_eq_true rfl⟩) (gp_V C h [] (Cn := RX3) (T := TX3) (N := 22) rfl m0) rfl rfl hl.1 rfl (lv_room (Nat.le_of_ble_eq_true rfl)) dX3_drop_47 ⟨Nat.le_of_ble_eq_true rfl, Nat.le_of_ble_eq_true rfl⟩) h (fun r_1 w_2 H locs hp h => ?_)
              obtain ⟨er_r_1, ew_r_1⟩ := hp
              rw [er_r_1]
              rw [ew_r_1] at h
              rw [cntB_congr (Q := hel wt pl st kp) 62 (fun j h1 h2 => hhel j (by omega))]
              refine lv_istore_n (lv' := [(3, .int (nI (cntB (hel wt pl st kp) 2 62))), (0, .ref (ad 0)), (1, .int n), (2, .int (nI k))]) hx hb dX3_drop_50 rfl hl (by decide) rfl (fun ls hl => ?_)
              refine lv_aload_n hx hb dX3_drop_51 rfl (lv_at hl 1 rfl) ?_
              refine lv_dup hx hb dX3_drop_52 rfl ?_
              refine gx_get C h m0 (Cn := RX3) (T := TX3) (N := 22) rfl in_X3 19 (by decide) q751 rfl rfl dX3_drop_53 ?_
              refine lv_iconst (v := nI 1) hx hb dX3_drop_56 (by decide) ?_
              refine gn_isub hx hb dX3_drop_57 (by omega) ?_
              refine gx_put C h m0 (Cn := RX3) (T := TX3) (N := 22) (x := .int (nI (ke - 1))) rfl in_X3 tyX3 tyX3_ok nmX3 19 (by decide) q751 rfl rfl rfl rfl (Nat.le_of_ble_eq_true rfl) dX3_drop_58 (fun H locs h => ?_)
              obtain ⟨w_3, ew_3⟩ : ∃ z_ : GW, z_ = gu w (ad 0) (ob 4 [.int (nI cn), .int (bI ru), .int (bI fu), .ref (ad 1), .ref (ad 2), .ref (ad 3), .ref (ad 4), .ref (ad 5), .int (bI ch), .ref (ad 6), .ref (ad 7), .int (nI fi), .int (nI be), .ref (ad 8), .ref (ad 9), .int (nI 0), .int (nI ne), .ref (ad 10), .ref (ad 11), .int (nI (ke - 1)), .int (bI th), .ref (ad 12)]) := ⟨_, rfl⟩
              have h : SH g w_3 v s H locs := by rw [ew_3]; exact h
              have f_4 : w_3 (ad 0) = some (ob 4 [.int (nI cn), .int (bI ru), .int (bI fu), .ref (ad 1), .ref (ad 2), .ref (ad 3), .ref (ad 4), .ref (ad 5), .int (bI ch), .ref (ad 6), .ref (ad 7), .int (nI fi), .int (nI be), .ref (ad 8), .ref (ad 9), .int (nI 0), .int (nI ne), .ref (ad 10), .ref (ad 11), .int (nI (ke - 1)), .int (bI th), .ref (ad 12)]) := by rw [ew_3]; exact gu_s
              have f_5 : w_3 (ad 1) = some (eI g 2048 fD) := by rw [ew_3]; exact (gu_n (fun q => absurd (hinj 1 0 (by decide) (by decide) q) (by decide))).trans m1
              have f_6 : w_3 (ad 2) = some (eI g 2048 fL) := by rw [ew_3]; exact (gu_n (fun q => absurd (hinj 2 0 (by decide) (by decide) q) (by decide))).trans m2
              have f_7 : w_3 (ad 3) = some (eI g 2048 fO) := by rw [ew_3]; exact (gu_n (fun q => absurd (hinj 3 0 (by decide) (by decide) q) (by decide))).trans m3
              have f_8 : w_3 (ad 4) = some (eZ g 64 z) := by rw [ew_3]; exact (gu_n (fun q => absurd (hinj 4 0 (by decide) (by decide) q) (by decide))).trans m4
              have f_9 : w_3 (ad 5) = some (eI g 30 fP) := by rw [ew_3]; exact (gu_n (fun q => absurd (hinj 5 0 (by decide) (by decide) q) (by decide))).trans m5
              have f_10 : w_3 (ad 6) = some (eI g 1200 fT) := by rw [ew_3]; exact (gu_n (fun q => absurd (hinj 6 0 (by decide) (by decide) q) (by decide))).trans m6
              have f_11 : w_3 (ad 7) = some (eI g 38400 fY) := by rw [ew_3]; exact (gu_n (fun q => absurd (hinj 7 0 (by decide) (by decide) q) (by decide))).trans m7
              have f_12 : w_3 (ad 8) = some (eI g 1200 fN) := by rw [ew_3]; exact (gu_n (fun q => absurd (hinj 8 0 (by decide) (by decide) q) (by decide))).trans m8
              have f_13 : w_3 (ad 9) = some (eL g 1200 fS) := by rw [ew_3]; exact (gu_n (fun q => absurd (hinj 9 0 (by decide) (by decide) q) (by decide))).trans m9
              have f_14 : w_3 (ad 10) = some (eI g 4 fKn) := by rw [ew_3]; exact (gu_n (fun q => absurd (hinj 10 0 (by decide) (by decide) q) (by decide))).trans m10
              have f_15 : w_3 (ad 11) = some (eL g 4 fK) := by rw [ew_3]; exact (gu_n (fun q => absurd (hinj 11 0 (by decide) (by decide) q) (by decide))).trans m11
              have f_16 : w_3 (ad 12) = some (eI g 32 fH) := by rw [ew_3]; exact (gu_n (fun q => absurd (hinj 12 0 (by decide) (by decide) q) (by decide))).trans m12
              refine lv_iload_n hx hb dX3_drop_61 rfl (lv_at hl 3 rfl) ?_
              refine lv_istore (lv' := [(4, .int (nI k)), (3, .int (nI (cntB (hel wt pl st kp) 2 62))), (0, .ref (ad 0)), (1, .int n), (2, .int (nI k))]) hx hb dX3_drop_62 hl (by decide) rfl (fun ls hl => ?_)
              have hM1 : MW g w_3 ad cn ru fu ch th fi be ne (ke - 1) fD fL fO z fP fT fY fN fS fKn fK fH := ⟨hinj, f_4, f_5, f_6, f_7, f_8, f_9, f_10, f_11, f_12, f_13, f_14, f_15, f_16⟩
              have loop2 : ∀ (n_ : Nat) (i : Nat) (w2 : GW) (H : Heap) (locs : List Loc) (ls : Array Slot), (ke - 1 - k) - i < n_ → (i ≤ ke - 1 - k) → (MW g w2 ad cn ru fu ch th fi be ne (ke - 1) fD fL fO z fP fT fY fN fS (va_cpy fKn fKn (k + 1) k i) (va_cpy fK fK (k + 1) k i) fH) → SH g w2 v s H locs → lv_has ls 5 [(0, .ref (ad 0)), (1, .int n), (3, .int (nI (cntB (hel wt pl st kp) 2 62))), (4, .int (nI (k + i)))] → W p l e ({ frames := 4, cells := 0, slots := 0, locals := 240 } : Room) s m ([.ref (ad 0), .int n] : List Value).toArray below meth c H locs 0 0 (MQ below (va_Qi (fun (r : Int32) (w' : GW) => r = (opDrop (cn, ru, fu, ch, dk, wt, ld, pl, st, kp) n).1 ∧ RM g w' ad (N + 1) (opDrop (cn, ru, fu, ch, dk, wt, ld, pl, st, kp) n).2) (gB g v) (gA g)) ([.ref (ad 0), .int n] : List Value).toArray s 0 0 (gA g)) (F0 m 64 ls []) := by
                intro n_
                induction n_ with
                | zero => intros; exact absurd ‹_ < 0› (Nat.not_lt_zero _)
                | succ n_ ih =>
                  intro i w2 H locs ls hf hi hM2  h hl
                  obtain ⟨hinj, g0, g1, g2, g3, g4, g5, g6, g7, g8, g9, g10, g11, g12⟩ := id hM2
                  refine lv_iload hx hb dX3_drop_64 (lv_at hl 3 rfl) ?_
                  refine lv_aload_n hx hb dX3_drop_66 rfl (lv_at hl 0 rfl) ?_
                  refine gx_get C h g0 (Cn := RX3) (T := TX3) (N := 22) rfl in_X3 19 (by decide) q751 rfl rfl dX3_drop_67 ?_
                  refine lv_icmp_ge (tgt := 111) hx hb dX3_drop_70 (by decide) (fun c5 => ?_) (fun c5 => ?_)
                  · skip
                    have c5 : (ke - 1) ≤ (k + i) := (nI_leI (by omega) (by omega)).mp c5
                    have hie : i = ke - 1 - k := by omega
                    refine lv_iload_n hx hb dX3_drop_111 rfl (lv_at hl 2 rfl) ?_
                    refine lv_aload_n hx hb dX3_drop_112 rfl (lv_at hl 0 rfl) ?_
                    have hst : (kp.eraseIdx k).length = ke - 1 := by rw [List.length_eraseIdx, if_pos (by omega), r10]
                    have hr11 : ∀ (i0 : Nat) (x : Int32 × Int64), (kp.eraseIdx k)[i0]? = some x → va_cpy fKn fKn (k + 1) k i i0 = x.1 ∧ va_cpy fK fK (k + 1) k i i0 = x.2 := by rw [hie]; exact drop_K r10 r11 (by omega)
                    have hhel2 : ∀ j, j < 64 → heM fP fT fS (va_cpy fK fK (k + 1) k i) fi be ne (ke - 1) j = hel wt pl st (kp.eraseIdx k) j := fun j hj => br_hel (fKn := va_cpy fKn fKn (k + 1) k i) i1.2 i2 i4 r5 r6 r7 r8 r9 hst.symm hr11 hj
                    refine gc_i (va_runV (As := []) (rest := [.int (nI (cntB (hel wt pl st kp) 2 62))]) C.fix (m_X3_heldCount l g w2 v ad cn ru fu ch th fi be ne (ke - 1) g0 fP g5 fT g6 fS g9 (va_cpy fK fK (k + 1) k i) g11 hfb hne (by omega)) (cwV 0 hts (lw_V q936 q938 qs41 q53 q939) rfl rfl rfl (by decide +kernel) ⟨Nat.le_of_ble_eq_true rfl, Nat.le_of_ble_eq_true rfl⟩) (gp_V C h [] (Cn := RX3) (T := TX3) (N := 22) rfl g0) rfl rfl hl.1 rfl (lv_room (Nat.le_of_ble_eq_true rfl)) dX3_drop_113 ⟨Nat.le_of_ble_eq_true rfl, Nat.le_of_ble_eq_true rfl⟩) h (fun r_17 w_18 H locs hp h => ?_)
                    obtain ⟨er_r_17, ew_r_17⟩ := hp
                    rw [er_r_17]
                    rw [ew_r_17] at h
                    rw [cntB_congr (Q := hel wt pl st (kp.eraseIdx k)) 62 (fun j h1 h2 => hhel2 j (by omega))]
                    refine lv_isub hx hb dX3_drop_116 ?_
                    have eq : opDrop (cn, ru, fu, ch, dk, wt, ld, pl, st, kp) n = (nI (cntB (hel wt pl st kp) 2 62) - nI (cntB (hel wt pl st (kp.eraseIdx k)) 2 62), (cn, ru, fu, ch, dk, wt, ld, pl, st, kp.eraseIdx k)) := by unfold opDrop; dsimp only; rw [if_neg (show ¬ ru = false by rw [c1]; decide), if_pos hka, ← hlf]
                    exact gr_i C h (ty := .int) rfl (rfl) (by rw [eq]; exact ⟨rfl, th, fi, be, ne, ke - 1, fD, fL, fO, z, fP, fT, fY, fN, fS, _, _, fH, hM2, r1, r2, r3, r4, r5, r6, r7, r8, r9, hst.symm, hr11, by omega, by omega⟩) (Nat.le_of_ble_eq_true rfl) (Nat.le_of_ble_eq_true rfl) dX3_drop_117
                  · skip
                    have c5 : ¬ ((ke - 1) ≤ (k + i)) := fun q => c5 ((nI_leI (by omega) (by omega)).mpr q)
                    refine lv_aload_n hx hb dX3_drop_73 rfl (lv_at hl 0 rfl) ?_
                    refine gx_get C h g0 (Cn := RX3) (T := TX3) (N := 22) rfl in_X3 17 (by decide) q749 rfl rfl dX3_drop_74 ?_
                    refine lv_iload hx hb dX3_drop_77 (lv_at hl 3 rfl) ?_
                    refine lv_aload_n hx hb dX3_drop_79 rfl (lv_at hl 0 rfl) ?_
                    refine gx_get C h g0 (Cn := RX3) (T := TX3) (N := 22) rfl in_X3 17 (by decide) q749 rfl rfl dX3_drop_80 ?_
                    refine lv_iload hx hb dX3_drop_83 (lv_at hl 3 rfl) ?_
                    refine lv_iconst (v := nI 1) hx hb dX3_drop_85 (by decide) ?_
                    refine gn_iadd hx hb dX3_drop_86 ?_
                    refine gx_iald C h g10 ((k + i) + 1) (rfl) (by omega) dX3_drop_87 ?_
                    rw [cpy_hi (by omega)]
                    refine gx_iast C h g10 (k + i) (rfl) (by omega) dX3_drop_88 (fun H locs h => ?_)
                    obtain ⟨w_19, ew_19⟩ : ∃ z_ : GW, z_ = gu w2 (ad 10) (eI g 4 (upd (va_cpy fKn fKn (k + 1) k i) (k + i) ((fKn (k + i + 1))))) := ⟨_, rfl⟩
                    have h : SH g w_19 v s H locs := by rw [ew_19]; exact h
                    have f_20 : w_19 (ad 0) = some (ob 4 [.int (nI cn), .int (bI ru), .int (bI fu), .ref (ad 1), .ref (ad 2), .ref (ad 3), .ref (ad 4), .ref (ad 5), .int (bI ch), .ref (ad 6), .ref (ad 7), .int (nI fi), .int (nI be), .ref (ad 8), .ref (ad 9), .int (nI 0), .int (nI ne), .ref (ad 10), .ref (ad 11), .int (nI (ke - 1)), .int (bI th), .ref (ad 12)]) := by rw [ew_19]; exact (gu_n (fun q => absurd (hinj 0 10 (by decide) (by decide) q) (by decide))).trans g0
                    have f_21 : w_19 (ad 1) = some (eI g 2048 fD) := by rw [ew_19]; exact (gu_n (fun q => absurd (hinj 1 10 (by decide) (by decide) q) (by decide))).trans g1
                    have f_22 : w_19 (ad 2) = some (eI g 2048 fL) := by rw [ew_19]; exact (gu_n (fun q => absurd (hinj 2 10 (by decide) (by decide) q) (by decide))).trans g2
                    have f_23 : w_19 (ad 3) = some (eI g 2048 fO) := by rw [ew_19]; exact (gu_n (fun q => absurd (hinj 3 10 (by decide) (by decide) q) (by decide))).trans g3
                    have f_24 : w_19 (ad 4) = some (eZ g 64 z) := by rw [ew_19]; exact (gu_n (fun q => absurd (hinj 4 10 (by decide) (by decide) q) (by decide))).trans g4
                    have f_25 : w_19 (ad 5) = some (eI g 30 fP) := by rw [ew_19]; exact (gu_n (fun q => absurd (hinj 5 10 (by decide) (by decide) q) (by decide))).trans g5
                    have f_26 : w_19 (ad 6) = some (eI g 1200 fT) := by rw [ew_19]; exact (gu_n (fun q => absurd (hinj 6 10 (by decide) (by decide) q) (by decide))).trans g6
                    have f_27 : w_19 (ad 7) = some (eI g 38400 fY) := by rw [ew_19]; exact (gu_n (fun q => absurd (hinj 7 10 (by decide) (by decide) q) (by decide))).trans g7
                    have f_28 : w_19 (ad 8) = some (eI g 1200 fN) := by rw [ew_19]; exact (gu_n (fun q => absurd (hinj 8 10 (by decide) (by decide) q) (by decide))).trans g8
                    have f_29 : w_19 (ad 9) = some (eL g 1200 fS) := by rw [ew_19]; exact (gu_n (fun q => absurd (hinj 9 10 (by decide) (by decide) q) (by decide))).trans g9
                    have f_30 : w_19 (ad 10) = some (eI g 4 (upd (va_cpy fKn fKn (k + 1) k i) (k + i) ((fKn (k + i + 1))))) := by rw [ew_19]; exact gu_s
                    have f_31 : w_19 (ad 11) = some (eL g 4 (va_cpy fK fK (k + 1) k i)) := by rw [ew_19]; exact (gu_n (fun q => absurd (hinj 11 10 (by decide) (by decide) q) (by decide))).trans g11
                    have f_32 : w_19 (ad 12) = some (eI g 32 fH) := by rw [ew_19]; exact (gu_n (fun q => absurd (hinj 12 10 (by decide) (by decide) q) (by decide))).trans g12
                    have f_33 : w_19 (ad 10) = some (eI g 4 (va_cpy fKn fKn (k + 1) k (i + 1))) := by rw [← cpy_s, show k + 1 + i = k + i + 1 by omega]; exact f_30
                    refine lv_aload_n hx hb dX3_drop_89 rfl (lv_at hl 0 rfl) ?_
                    refine gx_get C h f_20 (Cn := RX3) (T := TX3) (N := 22) rfl in_X3 18 (by decide) q750 rfl rfl dX3_drop_90 ?_
                    refine lv_iload hx hb dX3_drop_93 (lv_at hl 3 rfl) ?_
                    refine lv_aload_n hx hb dX3_drop_95 rfl (lv_at hl 0 rfl) ?_
                    refine gx_get C h f_20 (Cn := RX3) (T := TX3) (N := 22) rfl in_X3 18 (by decide) q750 rfl rfl dX3_drop_96 ?_
                    refine lv_iload hx hb dX3_drop_99 (lv_at hl 3 rfl) ?_
                    refine lv_iconst (v := nI 1) hx hb dX3_drop_101 (by decide) ?_
                    refine gn_iadd hx hb dX3_drop_102 ?_
                    refine gx_lald C h f_31 ((k + i) + 1) (rfl) (by omega) dX3_drop_103 ?_
                    rw [cpy_hi (by omega)]
                    refine gx_last C h f_31 (k + i) (rfl) (by omega) dX3_drop_104 (fun H locs h => ?_)
                    obtain ⟨w_34, ew_34⟩ : ∃ z_ : GW, z_ = gu w_19 (ad 11) (eL g 4 (vp_updL (va_cpy fK fK (k + 1) k i) (k + i) (fK (k + i + 1)))) := ⟨_, rfl⟩
                    have h : SH g w_34 v s H locs := by rw [ew_34]; exact h
                    have f_35 : w_34 (ad 0) = some (ob 4 [.int (nI cn), .int (bI ru), .int (bI fu), .ref (ad 1), .ref (ad 2), .ref (ad 3), .ref (ad 4), .ref (ad 5), .int (bI ch), .ref (ad 6), .ref (ad 7), .int (nI fi), .int (nI be), .ref (ad 8), .ref (ad 9), .int (nI 0), .int (nI ne), .ref (ad 10), .ref (ad 11), .int (nI (ke - 1)), .int (bI th), .ref (ad 12)]) := by rw [ew_34]; exact (gu_n (fun q => absurd (hinj 0 11 (by decide) (by decide) q) (by decide))).trans f_20
                    have f_36 : w_34 (ad 1) = some (eI g 2048 fD) := by rw [ew_34]; exact (gu_n (fun q => absurd (hinj 1 11 (by decide) (by decide) q) (by decide))).trans f_21
                    have f_37 : w_34 (ad 2) = some (eI g 2048 fL) := by rw [ew_34]; exact (gu_n (fun q => absurd (hinj 2 11 (by decide) (by decide) q) (by decide))).trans f_22
                    have f_38 : w_34 (ad 3) = some (eI g 2048 fO) := by rw [ew_34]; exact (gu_n (fun q => absurd (hinj 3 11 (by decide) (by decide) q) (by decide))).trans f_23
                    have f_39 : w_34 (ad 4) = some (eZ g 64 z) := by rw [ew_34]; exact (gu_n (fun q => absurd (hinj 4 11 (by decide) (by decide) q) (by decide))).trans f_24
                    have f_40 : w_34 (ad 5) = some (eI g 30 fP) := by rw [ew_34]; exact (gu_n (fun q => absurd (hinj 5 11 (by decide) (by decide) q) (by decide))).trans f_25
                    have f_41 : w_34 (ad 6) = some (eI g 1200 fT) := by rw [ew_34]; exact (gu_n (fun q => absurd (hinj 6 11 (by decide) (by decide) q) (by decide))).trans f_26
                    have f_42 : w_34 (ad 7) = some (eI g 38400 fY) := by rw [ew_34]; exact (gu_n (fun q => absurd (hinj 7 11 (by decide) (by decide) q) (by decide))).trans f_27
                    have f_43 : w_34 (ad 8) = some (eI g 1200 fN) := by rw [ew_34]; exact (gu_n (fun q => absurd (hinj 8 11 (by decide) (by decide) q) (by decide))).trans f_28
                    have f_44 : w_34 (ad 9) = some (eL g 1200 fS) := by rw [ew_34]; exact (gu_n (fun q => absurd (hinj 9 11 (by decide) (by decide) q) (by decide))).trans f_29
                    have f_45 : w_34 (ad 10) = some (eI g 4 (va_cpy fKn fKn (k + 1) k (i + 1))) := by rw [ew_34]; exact (gu_n (fun q => absurd (hinj 10 11 (by decide) (by decide) q) (by decide))).trans f_33
                    have f_46 : w_34 (ad 11) = some (eL g 4 (vp_updL (va_cpy fK fK (k + 1) k i) (k + i) (fK (k + i + 1)))) := by rw [ew_34]; exact gu_s
                    have f_47 : w_34 (ad 12) = some (eI g 32 fH) := by rw [ew_34]; exact (gu_n (fun q => absurd (hinj 12 11 (by decide) (by decide) q) (by decide))).trans f_32
                    have f_48 : w_34 (ad 11) = some (eL g 4 (va_cpy fK fK (k + 1) k (i + 1))) := by rw [← cpyL_s, show k + 1 + i = k + i + 1 by omega]; exact f_46
                    refine lv_iinc (v := nI (k + i + 1)) (lv' := [(4, .int (nI (k + i + 1))), (0, .ref (ad 0)), (1, .int n), (3, .int (nI (cntB (hel wt pl st kp) 2 62)))]) hx hb dX3_drop_105 hl (k := 3) rfl (gi_inc _ 1) (by decide) rfl (fun ls hl => ?_)
                    refine lv_goto (tgt := 64) hx hb dX3_drop_108 (by decide) ?_
                    have hM3 : MW g w_34 ad cn ru fu ch th fi be ne (ke - 1) fD fL fO z fP fT fY fN fS (va_cpy fKn fKn (k + 1) k (i + 1)) (va_cpy fK fK (k + 1) k (i + 1)) fH := ⟨hinj, f_35, f_36, f_37, f_38, f_39, f_40, f_41, f_42, f_43, f_44, f_45, f_48, f_47⟩
                    exact ih (i + 1) _ _ _ _ (by omega) (by omega) hM3  h (lv_sub hl [1, 2, 3, 0] rfl)
              exact loop2 (ke + 1) 0 _ _ _ _ (by omega) (by omega) (by rw [cpy_0, cpy_0]; exact hM1) h (lv_sub hl [2, 3, 1, 0] rfl)
            · skip
              have c4 : k = ke := (nI_eq (by omega) (by omega)).mp c4
              omega
          · skip
            rw [lf_t (decide_eq_true c3)] at hlf
            refine lv_iinc (v := nI (k + 1)) (lv' := [(2, .int (nI (k + 1))), (0, .ref (ad 0)), (1, .int n)]) hx hb dX3_drop_30 hl (k := 2) rfl (gi_inc _ 1) (by decide) rfl (fun ls hl => ?_)
            refine lv_goto (tgt := 12) hx hb dX3_drop_33 (by decide) ?_
            exact ih (k + 1) _ _ _ _ (by omega) (by omega) (by rw [← hlf]; congr 1; omega) rfl  h (lv_sub hl [1, 2, 0] rfl)
    exact loop (ke + 1) 0 w _ _ _ (by omega) (by omega) (by rw [r10]; rfl) rfl h (lv_sub hl [1, 2, 0] rfl)
  · skip
    have c1 : ru = false := bI_eq0.mp c1
    refine lv_bipush (v := (-3)) hx hb dX3_drop_7 (by decide) ?_
    have eq : opDrop (cn, ru, fu, ch, dk, wt, ld, pl, st, kp) n = (-3, (cn, ru, fu, ch, dk, wt, ld, pl, st, kp)) := by unfold opDrop; dsimp only; rw [if_pos c1]
    exact gr_i C h (ty := .int) rfl (rfl) (by rw [eq]; exact ⟨rfl, hR.mono⟩) (Nat.le_of_ble_eq_true rfl) (Nat.le_of_ble_eq_true rfl) dX3_drop_9
