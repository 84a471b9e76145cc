/-! THE REFERENCE, 12: passings gone through -/
theorem itr_sel {f : Nat → Int32 → Int32} {N : Int32} {P : Nat → Prop} (hf : ∀ k x, f k x = x ∨ (f k x = nI k ∧ P k)) : ∀ n : Nat, itr f n N = N ∨ ∃ k, k < n ∧ itr f n N = nI k ∧ P k := by
  intro n
  induction n with
  | zero => exact Or.inl rfl
  | succ n ih =>
    rw [itr_s]
    rcases hf n (itr f n N) with q | q
    · rw [q]
      rcases ih with h | ⟨k, h1, h2⟩
      · exact Or.inl h
      · exact Or.inr ⟨k, by omega, h2⟩
    · exact Or.inr ⟨n, by omega, q⟩
def cntF (t : Nat → Bool) (n : Nat) : Nat := itr (fun k s => s + (if t k = false then 1 else 0)) n 0
theorem cntF_s (t : Nat → Bool) (n : Nat) : cntF t (n + 1) = cntF t n + (if t n = false then 1 else 0) := rfl
theorem cntF_no {t : Nat → Bool} {k : Nat} : ∀ n : Nat, n ≤ k → cntF (va_up t k true) n = cntF t n := by
  intro n
  induction n with
  | zero => intro _; rfl
  | succ n ih =>
    intro h
    rw [cntF_s, cntF_s, ih (by omega), up_n t true (show n ≠ k by omega)]
theorem cntF_up {t : Nat → Bool} {k : Nat} (hk : t k = false) : ∀ n : Nat, k < n → cntF (va_up t k true) n + 1 = cntF t n := by
  intro n
  induction n with
  | zero => intro h; exact absurd h (Nat.not_lt_zero _)
  | succ n ih =>
    intro h
    rw [cntF_s, cntF_s]
    rcases Nat.lt_or_ge k n with q | q
    · have := ih q
      rw [up_n t true (show n ≠ k by omega)]; omega
    · have e : k = n := by omega
      subst e
      rw [cntF_no _ (Nat.le_refl _), up_s, hk]; simp
theorem lbit {w : Int64} {k : Nat} (hk : k < 64) : ((w >>> ((nI k).toInt64 &&& 63)) &&& 1) = 0 ↔ w.toBitVec.getLsbD k = false := by
  rw [wb_c k hk, ← Int64.toBitVec_inj]
  have e : (w >>> lN k &&& 1).toBitVec = (w.toBitVec.sshiftRight k) &&& 1#64 := by
    show w.toBitVec.sshiftRight' ((lN k).toBitVec.smod 64) &&& 1#64 = _
    rw [wb_tb, wb_sm k hk]
    show w.toBitVec.sshiftRight (BitVec.ofNat 64 k).toNat &&& 1#64 = _
    rw [BitVec.toNat_ofNat, Nat.mod_eq_of_lt (by omega)]
  rw [e, show (0 : Int64).toBitVec = 0#64 from rfl, BitVec.and_one_eq_setWidth_ofBool_getLsbD]
  have e2 : (w.toBitVec.sshiftRight k).getLsbD 0 = w.toBitVec.getLsbD k := by
    rw [BitVec.getLsbD_sshiftRight]; simp [hk]
  rw [e2]
  cases w.toBitVec.getLsbD k <;> decide
theorem lbit_or {w : Int64} {k j : Nat} (hk : k < 64) (hj : j < 64) : (w ||| ((1 : Int64) <<< ((nI k).toInt64 &&& 63))).toBitVec.getLsbD j = (w.toBitVec.getLsbD j || decide (j = k)) := by
  have e : (1 : Int64) <<< ((nI k).toInt64 &&& 63) = lN (2 ^ k) := by
    have := wb_shl 1 hk
    rw [Nat.one_mul] at this
    exact this
  rw [e]
  show (w.toBitVec ||| (lN (2 ^ k)).toBitVec).getLsbD j = _
  rw [wb_tb, BitVec.getLsbD_or, BitVec.getLsbD_ofNat, Nat.testBit_two_pow]
  simp [hj, eq_comm]
def gF (F : Nat → Int32) (a b c : Int32) : Nat → Int32 := va_up (va_up (va_up F 34 a) 35 b) 36 c
theorem gF_34 {F : Nat → Int32} {a b c v : Int32} : va_up (gF F a b c) 34 v = gF F v b c := by funext j; unfold gF va_up; grind
theorem gF_35 {F : Nat → Int32} {a b c v : Int32} : va_up (gF F a b c) 35 v = gF F a v c := by funext j; unfold gF va_up; grind
theorem gF_36 {F : Nat → Int32} {a b c v : Int32} : va_up (gF F a b c) 36 v = gF F a b v := by funext j; unfold gF va_up; grind
/-- taken, inside, more, wrong -/
abbrev gX : Type := (Nat → Bool) × Int32 × Int32 × Int32
def g_sel (Rr : Nat → Nat → Int32) (c : Nat) (t : Nat → Bool) (k : Nat) (nx : Int32) : Int32 := if Rr 29 k = nI c ∧ t k = false ∧ (nx = (-1000000) ∨ Rr 32 k < Rr 32 nx.toNatClampNeg) then nI k else nx
def g_next (Rr : Nat → Nat → Int32) (c n : Nat) (t : Nat → Bool) : Int32 := itr (g_sel Rr c t) n (-1000000)
theorem g_next_sp {Rr : Nat → Nat → Int32} {c n : Nat} {t : Nat → Bool} : g_next Rr c n t = (-1000000) ∨ ∃ k, k < n ∧ g_next Rr c n t = nI k ∧ (t k = false ∧ Rr 29 k = nI c) := by
  refine itr_sel (fun k x => ?_) n
  unfold g_sel
  split
  · rename_i h; exact Or.inr ⟨rfl, h.2.1, h.1⟩
  · exact Or.inl rfl
def g_step (Rr : Nat → Nat → Int32) (k : Nat) (x : gX) : gX := (va_up x.1 k true, Rr 30 k, x.2.2.1 + (if Rr 30 k = 1 then 1 else -1), x.2.2.2 + (if Rr 30 k = x.2.1 ∨ m_isOpen Rr (Rr 31 k) (Rr 32 k - Rr 32 k / 1440 * 1440) = false then 1 else 0))
def g_body (Rr : Nat → Nat → Int32) (c n : Nat) (x : gX) : gX := g_step Rr (g_next Rr c n x.1).toNatClampNeg x
def g_c (Rr : Nat → Nat → Int32) (c n : Nat) (x : gX) : Bool := !decide (g_next Rr c n x.1 = (-1000000))
def g_run (Rr : Nat → Nat → Int32) (c n : Nat) (x : gX) : gX := wh (g_c Rr c n) (g_body Rr c n) (fun x => cntF x.1 n) x
theorem g_go {Rr : Nat → Nat → Int32} {c n : Nat} (hn : n < 2 ^ 31) : ∀ x : gX, True → g_c Rr c n x = true → True ∧ cntF (g_body Rr c n x).1 n < cntF x.1 n := by
  intro x _ h
  refine ⟨trivial, ?_⟩
  rcases g_next_sp (Rr := Rr) (c := c) (n := n) (t := x.1) with q | ⟨k, h1, h2, h3⟩
  · unfold g_c at h; rw [q] at h; simp at h
  · show cntF (va_up x.1 (g_next Rr c n x.1).toNatClampNeg true) n < cntF x.1 n
    rw [h2, nI_clamp (by omega)]
    have := cntF_up h3.1 n h1
    omega
theorem g_step_eq {Rr : Nat → Nat → Int32} {c n k : Nat} {t : Nat → Bool} {a mo w1 m2 w2 : Int32} (hk : k < 2 ^ 31) (h : nI k = g_next Rr c n t) (h1 : m2 = mo + (if Rr 30 k = 1 then 1 else -1)) (h2 : w2 = w1 + (if Rr 30 k = a ∨ m_isOpen Rr (Rr 31 k) (Rr 32 k - Rr 32 k / 1440 * 1440) = false then 1 else 0)) : (va_up t k true, Rr 30 k, m2, w2) = g_body Rr c n (t, a, mo, w1) := by
  subst h1 h2
  unfold g_body
  show _ = g_step Rr (g_next Rr c n t).toNatClampNeg (t, a, mo, w1)
  rw [← h, nI_clamp hk]
  rfl
/-- wrong, inside, lost over the carts -/
def g_cart (Rr : Nat → Nat → Int32) (n c : Nat) (u : Int32 × Int32 × Int32) : Int32 × Int32 × Int32 := ((g_run Rr c n (fun _ => false, 0, 0, u.1)).2.2.2, u.2.1 + (g_run Rr c n (fun _ => false, 0, 0, u.1)).2.1, u.2.2 + (if (g_run Rr c n (fun _ => false, 0, 0, u.1)).2.2.1 < 0 then 1 else 0))
def m_goThrough (n26 n28 : Int32) (Rr : Nat → Nat → Int32) : Int32 × Int32 × Int32 := itr (g_cart Rr n28.toNatClampNeg) n26.toNatClampNeg (0, 0, 0)
set_option maxHeartbeats 4000000 in
set_option maxRecDepth 100000 in
theorem metX2_goThrough (l : Launch) (D : va_G) (cl : List vw_C) (hcl : cl[0]? = some (RX2, TX2, 61)) (h : Nat) (ad : Nat → Nat) (dA : ClassId) (F : Nat → Int32) (Rr : Nat → Nat → Int32) (h26 : cnB (F 26) 16) (h28 : cnB (F 28) 60) (h29 : ∀ k, k < (F 28).toNatClampNeg → cnB (Rr 29 k) 15 ∧ cnB (Rr 31 k) 8 ∧ cnB (Rr 32 k) 1439999) : Met l yX2_goThrough (ws_ yX2_goThrough cX2_goThrough 10 none) ({ frames := 1, cells := 0, slots := 0, locals := 22 } : Room) (va_Pc [.ref h] (mPre D cl h ad dA F Rr)) (va_Qv (fun u => u = (gF F (m_goThrough (F 26) (F 28) Rr).1 (m_goThrough (F 26) (F 28) Rr).2.1 (m_goThrough (F 26) (F 28) Rr).2.2, Rr)) (mB D cl h ad dA) (mN h ad)) 0 0 (mN h ad) := by
  refine Met.ofW (cc := cX2_goThrough) (maxL := 10) (ret := none) (by decide) rfl ?_
  intro p e s m args below meth c s₁ B hml hv
  obtain ⟨rfl, hK, hP, hD⟩ := hv
  have hx := B.exec
  have hb := B.bytes
  have hr := B.returns
  have hts := atoms_spec (ws := (ws_ yX2_goThrough cX2_goThrough 10 none)) B.pre
  have hts : ∀ w ∈ lw_all, w.before _ s = true := fun w h => hts w (List.mem_cons_of_mem _ h)
  have hown : s.vm.findClass RX2 = some m.cls := findClass_of_methodNamed B.named
  have hlocks := B.notSynchronized
  have S : CallFix p m c cX2_goThrough 10 s ([.ref h] : List Value).toArray lw_all RX2 := ⟨hx, hb, hml, hown, hts⟩
  have X : mX p s m ([.ref h] : List Value).toArray c cX2_goThrough 10 D cl dA := ⟨hx, hb, hml, hown, hts, hK, hcl⟩
  have M : mM D cl h ad dA (mN h ad) s F Rr s.heap [] := ⟨hP, mW_self hD, va_S.rf⟩
  have hl := lv_entry ([.ref h]) (n := 10) (Nat.le_of_ble_eq_true rfl)
  rw [lg_entry_eq]
  generalize (lg_sl ([.ref h]) ++ List.replicate (10 - (lg_sl ([.ref h])).length) Slot.unset).toArray = ls at hl ⊢
  have hl : lv_has ls 10 [(0, .ref h)] := hl
  obtain ⟨n26, hn26, en26⟩ := cnB_ex h26 (n := 16) rfl
  have em26 : (F 26).toNatClampNeg = n26 := by rw [en26]; exact nI_clamp (by omega)
  have ec26 : (nI n26).toNatClampNeg = n26 := nI_clamp (by omega)
  obtain ⟨n28, hn28, en28⟩ := cnB_ex h28 (n := 60) rfl
  have em28 : (F 28).toNatClampNeg = n28 := by rw [en28]; exact nI_clamp (by omega)
  have ec28 : (nI n28).toNatClampNeg = n28 := nI_clamp (by omega)
  refine lv_aload_n hx hb dX2_goThrough_0 rfl (lv_at hl 0 rfl) ?_
  refine lv_iconst (v := 0) hx hb dX2_goThrough_1 (by decide) ?_
  refine mp_34 X M dX2_goThrough_2 (fun H locs M => ?_)
  refine lv_aload_n hx hb dX2_goThrough_5 rfl (lv_at hl 0 rfl) ?_
  refine lv_iconst (v := 0) hx hb dX2_goThrough_6 (by decide) ?_
  refine mp_35 X M dX2_goThrough_7 (fun H locs M => ?_)
  refine lv_aload_n hx hb dX2_goThrough_10 rfl (lv_at hl 0 rfl) ?_
  refine lv_iconst (v := 0) hx hb dX2_goThrough_11 (by decide) ?_
  refine mp_36 X M dX2_goThrough_12 (fun H locs M => ?_)
  refine lv_iconst (v := 0) hx hb dX2_goThrough_15 (by decide) ?_
  refine lv_istore_n (lv' := [(1, .int 0), (0, .ref h)]) hx hb dX2_goThrough_16 rfl hl (by decide) rfl (fun ls hl => ?_)
  have L_1 : ∀ (fuL_1 : Nat) (c0 : Nat) (wr : Int32) (is : Int32) (lo : Int32), (c0 ≤ n26) → ((wr, is, lo) = itr (g_cart Rr n28) c0 (0, 0, 0)) → n26 - c0 < fuL_1 → ∀ (H : Heap) (locs : List Loc), mM D cl h ad dA (mN h ad) s (gF F wr is lo) Rr H locs → ∀ ls, lv_has ls 10 [(0, .ref h), (1, .int (nI c0))] → W p l e ({ frames := 1, cells := 0, slots := 0, locals := 22 } : Room) s m ([.ref h] : List Value).toArray below meth c H locs 0 0 (MQ below (va_Qv (fun u => u = (gF F (m_goThrough (F 26) (F 28) Rr).1 (m_goThrough (F 26) (F 28) Rr).2.1 (m_goThrough (F 26) (F 28) Rr).2.2, Rr)) (mB D cl h ad dA) (mN h ad)) ([.ref h] : List Value).toArray s 0 0 (mN h ad)) (F0 m 17 ls []) := by
    intro fuL_1
    induction fuL_1 with
    | zero => intro c0 wr is lo hc qc hfuL_1; exact absurd hfuL_1 (Nat.not_lt_zero _)
    | succ fuL_1 L_1ih =>
      intro c0 wr is lo hc qc hfuL_1 H locs M ls hl
      refine lv_iload_n hx hb dX2_goThrough_17 rfl (lv_at hl 1 rfl) ?_
      refine lv_aload_n hx hb dX2_goThrough_18 rfl (lv_at hl 0 rfl) ?_
      refine mg_26 X M (v := F 26) rfl dX2_goThrough_19 ?_
      refine lv_asi (y := nI n26) en26 ?_
      refine ln_icmp_ge (tgt := 266) hx hb (a := c0) (b := n26) (by omega) (by omega) dX2_goThrough_22 (by decide) (fun c_2 => ?_) (fun c_2 => ?_)
      · -- c_2: nI c0 ≥ nI n26
        have ec0 : c0 = n26 := by omega
        rw [ec0] at qc
        exact W.vret hx hb hr (fun t9 ht9 hW9 => ⟨⟨(gF F wr is lo, Rr), rfl, (by unfold m_goThrough; rw [em26, em28, ← qc]), by show va_P _ _ _ t9.heap; rw [ht9]; exact M.1⟩, M.2.2.F ht9⟩) M.2.2.2.2 dX2_goThrough_266
      · -- c_2: nI c0 < nI n26
        refine lv_iconst (v := 0) hx hb dX2_goThrough_25 (by decide) ?_
        refine lv_istore_n (lv' := [(2, .int 0), (0, .ref h), (1, .int (nI c0))]) hx hb dX2_goThrough_26 rfl hl (by decide) rfl (fun ls hl => ?_)
        refine lv_iconst (v := 0) hx hb dX2_goThrough_27 (by decide) ?_
        refine lv_istore_n (lv' := [(3, .int 0), (2, .int 0), (0, .ref h), (1, .int (nI c0))]) hx hb dX2_goThrough_28 rfl hl (by decide) rfl (fun ls hl => ?_)
        refine lv_lconst (v := 0) hx hb dX2_goThrough_29 (by decide) ?_
        refine lv_lstore (lv' := [(4, .long 0), (3, .int 0), (2, .int 0), (0, .ref h), (1, .int (nI c0))]) hx hb dX2_goThrough_30 hl (by decide) rfl (fun ls hl => ?_)
        refine lv_iconst (v := 1) hx hb dX2_goThrough_32 (by decide) ?_
        refine lv_istore (lv' := [(6, .int 1), (4, .long 0), (3, .int 0), (2, .int 0), (0, .ref h), (1, .int (nI c0))]) hx hb dX2_goThrough_33 hl (by decide) rfl (fun ls hl => ?_)
        have L_3 : ∀ (fuL_3 : Nat) (t : Nat → Bool) (a : Int32) (mo : Int32) (met : Int64) (lf : Bool) (w1 : Int32), (∀ j, j < n28 → met.toBitVec.getLsbD j = t j) → (g_run Rr c0 n28 (t, a, mo, w1) = g_run Rr c0 n28 (fun _ => false, 0, 0, wr)) → (lf = false → g_next Rr c0 n28 t = (-1000000)) → (if lf = true then cntF t n28 + 1 else 0) < fuL_3 → ∀ (H : Heap) (locs : List Loc), mM D cl h ad dA (mN h ad) s (gF F w1 is lo) Rr H locs → ∀ ls, lv_has ls 10 [(0, .ref h), (1, .int (nI c0)), (2, .int a), (3, .int mo), (4, .long met), (6, .int (b2i lf))] → W p l e ({ frames := 1, cells := 0, slots := 0, locals := 22 } : Room) s m ([.ref h] : List Value).toArray below meth c H locs 0 0 (MQ below (va_Qv (fun u => u = (gF F (m_goThrough (F 26) (F 28) Rr).1 (m_goThrough (F 26) (F 28) Rr).2.1 (m_goThrough (F 26) (F 28) Rr).2.2, Rr)) (mB D cl h ad dA) (mN h ad)) ([.ref h] : List Value).toArray s 0 0 (mN h ad)) (F0 m 35 ls []) := by
          intro fuL_3
          induction fuL_3 with
          | zero => intro t a mo met lf w1 hmet hrun hend hfuL_3; exact absurd hfuL_3 (Nat.not_lt_zero _)
          | succ fuL_3 L_3ih =>
            intro t a mo met lf w1 hmet hrun hend hfuL_3 H locs M ls hl
            refine lv_iload hx hb dX2_goThrough_35 (lv_at hl 5 rfl) ?_
            refine lz_if_eq (tgt := 232) hx hb dX2_goThrough_37 (by decide) (fun c_4 => ?_) (fun c_4 => ?_)
            · -- c_4: lf = false
              have eFin : (t, a, mo, w1) = g_run Rr c0 n28 (fun _ => false, 0, 0, wr) := (wh_f (c := g_c Rr c0 n28) (b := g_body Rr c0 n28) (μ := fun x => cntF x.1 n28) (a := (t, a, mo, w1)) (by unfold g_c; rw [hend c_4]; simp)).symm.trans hrun
              refine lv_aload_n hx hb dX2_goThrough_232 rfl (lv_at hl 0 rfl) ?_
              refine lv_dup hx hb dX2_goThrough_233 rfl ?_
              refine mg_35 X M (v := is) rfl dX2_goThrough_234 ?_
              refine lv_iload_n hx hb dX2_goThrough_237 rfl (lv_at hl 2 rfl) ?_
              refine lv_iadd hx hb dX2_goThrough_238 ?_
              refine mp_35 X M dX2_goThrough_239 (fun H locs M => ?_)
              refine lv_aload_n hx hb dX2_goThrough_242 rfl (lv_at hl 0 rfl) ?_
              refine lv_dup hx hb dX2_goThrough_243 rfl ?_
              refine mg_36 X M (v := lo) rfl dX2_goThrough_244 ?_
              refine lv_iload_n hx hb dX2_goThrough_247 rfl (lv_at hl 3 rfl) ?_
              refine lb_if_ge (tgt := 255) hx hb dX2_goThrough_248 (by decide) (fun c_5 c_5' => ?_) (fun c_5 c_5' => ?_)
              · -- c_5: mo ≥ 0
                refine lv_iconst (v := 0) hx hb dX2_goThrough_255 (by decide) ?_
                refine lv_iadd hx hb dX2_goThrough_256 ?_
                refine mp_36 X M dX2_goThrough_257 (fun H locs M => ?_)
                refine lv_iinc (v := nI (c0 + 1)) (lv' := [(1, .int (nI (c0 + 1))), (0, .ref h), (2, .int a), (3, .int mo), (4, .long met), (6, .int (b2i lf))]) hx hb dX2_goThrough_260 hl (k := 1) rfl (mk_inc _) (by decide) rfl (fun ls hl => ?_)
                refine lv_goto (tgt := 17) hx hb dX2_goThrough_263 (by decide) ?_
                exact L_1ih  (c0 + 1) w1 (is + a) (lo + 0) (by omega) (by rw [itr_s, ← qc]; unfold g_cart; rw [← eFin]; simp [c_5, c_5']) (by omega) _ _ (by rw [gF_35, gF_36] at M; exact M) ls (lv_sub hl [1, 0] rfl)
              · -- c_5: mo < 0
                refine lv_iconst (v := 1) hx hb dX2_goThrough_251 (by decide) ?_
                refine lv_goto (tgt := 256) hx hb dX2_goThrough_252 (by decide) ?_
                refine lv_iadd hx hb dX2_goThrough_256 ?_
                refine mp_36 X M dX2_goThrough_257 (fun H locs M => ?_)
                refine lv_iinc (v := nI (c0 + 1)) (lv' := [(1, .int (nI (c0 + 1))), (0, .ref h), (2, .int a), (3, .int mo), (4, .long met), (6, .int (b2i lf))]) hx hb dX2_goThrough_260 hl (k := 1) rfl (mk_inc _) (by decide) rfl (fun ls hl => ?_)
                refine lv_goto (tgt := 17) hx hb dX2_goThrough_263 (by decide) ?_
                exact L_1ih  (c0 + 1) w1 (is + a) (lo + 1) (by omega) (by rw [itr_s, ← qc]; unfold g_cart; rw [← eFin]; simp [c_5, c_5']) (by omega) _ _ (by rw [gF_35, gF_36] at M; exact M) ls (lv_sub hl [1, 0] rfl)
            · -- c_4: lf = true
              refine lv_ldc (v := (-1000000)) hx hb hown (hts _ q1430) dX2_goThrough_40 ?_
              refine lv_istore (lv' := [(7, .int (-1000000)), (0, .ref h), (1, .int (nI c0)), (2, .int a), (3, .int mo), (4, .long met), (6, .int (b2i lf))]) hx hb dX2_goThrough_42 hl (by decide) rfl (fun ls hl => ?_)
              refine lv_iconst (v := 0) hx hb dX2_goThrough_44 (by decide) ?_
              refine lv_istore (lv' := [(8, .int 0), (7, .int (-1000000)), (0, .ref h), (1, .int (nI c0)), (2, .int a), (3, .int mo), (4, .long met), (6, .int (b2i lf))]) hx hb dX2_goThrough_45 hl (by decide) rfl (fun ls hl => ?_)
              have L_6 : ∀ (fuL_6 : Nat) (k : Nat) (y : Int32), (k ≤ n28) → (y = itr (g_sel Rr c0 t) k (-1000000)) → n28 - k < fuL_6 → ∀ (H : Heap) (locs : List Loc), mM D cl h ad dA (mN h ad) s (gF F w1 is lo) Rr H locs → ∀ ls, lv_has ls 10 [(0, .ref h), (1, .int (nI c0)), (2, .int a), (3, .int mo), (4, .long met), (6, .int (b2i lf)), (7, .int y), (8, .int (nI k))] → W p l e ({ frames := 1, cells := 0, slots := 0, locals := 22 } : Room) s m ([.ref h] : List Value).toArray below meth c H locs 0 0 (MQ below (va_Qv (fun u => u = (gF F (m_goThrough (F 26) (F 28) Rr).1 (m_goThrough (F 26) (F 28) Rr).2.1 (m_goThrough (F 26) (F 28) Rr).2.2, Rr)) (mB D cl h ad dA) (mN h ad)) ([.ref h] : List Value).toArray s 0 0 (mN h ad)) (F0 m 47 ls []) := by
                intro fuL_6
                induction fuL_6 with
                | zero => intro k y hk qy hfuL_6; exact absurd hfuL_6 (Nat.not_lt_zero _)
                | succ fuL_6 L_6ih =>
                  intro k y hk qy hfuL_6 H locs M ls hl
                  have hy9 : y = (-1000000) ∨ vp_in y k := by rw [qy]; exact itr_in (fun k x => by unfold g_sel; split <;> simp) k (by omega)
                  refine lv_iload hx hb dX2_goThrough_47 (lv_at hl 7 rfl) ?_
                  refine lv_aload_n hx hb dX2_goThrough_49 rfl (lv_at hl 0 rfl) ?_
                  refine mg_28 X M (v := F 28) rfl dX2_goThrough_50 ?_
                  refine lv_asi (y := nI n28) en28 ?_
                  refine ln_icmp_ge (tgt := 130) hx hb (a := k) (b := n28) (by omega) (by omega) dX2_goThrough_53 (by decide) (fun c_7 => ?_) (fun c_7 => ?_)
                  · -- c_7: nI k ≥ nI n28
                    have ek : k = n28 := by omega
                    rw [ek] at qy
                    refine lv_iload hx hb dX2_goThrough_130 (lv_at hl 6 rfl) ?_
                    refine lv_ldc (v := (-1000000)) hx hb hown (hts _ q1430) dX2_goThrough_132 ?_
                    refine lv_icmp_eq (tgt := 141) hx hb dX2_goThrough_134 (by decide) (fun c_8 => ?_) (fun c_8 => ?_)
                    · -- c_8: y = (-1000000)
                      have qn9 : g_next Rr c0 n28 t = (-1000000) := qy.symm.trans c_8
                      refine lv_iconst (v := 0) hx hb dX2_goThrough_141 (by decide) ?_
                      refine lv_istore (lv' := [(6, .int 0), (0, .ref h), (1, .int (nI c0)), (2, .int a), (3, .int mo), (4, .long met), (7, .int y), (8, .int (nI k))]) hx hb dX2_goThrough_142 hl (by decide) rfl (fun ls hl => ?_)
                      refine lv_iload hx hb dX2_goThrough_144 (lv_at hl 0 rfl) ?_
                      refine lv_if_eq (tgt := 229) hx hb dX2_goThrough_146 (by decide) (fun c_9 => ?_) (fun c_9 => absurd c_9 (by decide))
                      refine lv_goto (tgt := 35) hx hb dX2_goThrough_229 (by decide) ?_
                      have dec9 : 0 < fuL_3 := by rw [c_4] at hfuL_3; have q9 : cntF t n28 + 1 < fuL_3 + 1 := hfuL_3; omega
                      exact L_3ih  t a mo met false w1 hmet hrun (fun _ => qn9) dec9 _ _ M ls (lv_sub hl [1, 2, 3, 4, 5, 0] rfl)
                    · -- c_8: y ≠ (-1000000)
                      have qy2 : y = g_next Rr c0 n28 t := qy
                      obtain ⟨kk, hkk, ey, hkf, hkc⟩ : ∃ k, k < n28 ∧ y = nI k ∧ (t k = false ∧ Rr 29 k = nI c0) := (g_next_sp (Rr := Rr) (c := c0) (n := n28) (t := t)).elim (fun q => absurd (qy2.trans q) c_8) (fun q => by rw [← qy2] at q; exact q)
                      have hgc9 : g_c Rr c0 n28 (t, a, mo, w1) = true := by unfold g_c; rw [← qy2]; simp [c_8]
                      subst ey
                      have ekk : (nI kk).toNatClampNeg = kk := nI_clamp (by omega)
                      refine lv_iconst (v := 1) hx hb dX2_goThrough_137 (by decide) ?_
                      refine lv_goto (tgt := 142) hx hb dX2_goThrough_138 (by decide) ?_
                      refine lv_istore (lv' := [(6, .int 1), (0, .ref h), (1, .int (nI c0)), (2, .int a), (3, .int mo), (4, .long met), (7, .int (nI kk)), (8, .int (nI k))]) hx hb dX2_goThrough_142 hl (by decide) rfl (fun ls hl => ?_)
                      refine lv_iload hx hb dX2_goThrough_144 (lv_at hl 0 rfl) ?_
                      refine lv_if_eq (tgt := 229) hx hb dX2_goThrough_146 (by decide) (fun c_10 => absurd c_10 (by decide)) (fun c_10 => ?_)
                      refine lv_lload hx hb dX2_goThrough_149 (lv_at hl 5 rfl) ?_
                      refine lv_lconst (v := 1) hx hb dX2_goThrough_151 (by decide) ?_
                      refine lv_iload hx hb dX2_goThrough_152 (lv_at hl 6 rfl) ?_
                      refine lv_lshl (v := 1 <<< ((nI kk).toInt64 &&& 63)) hx hb dX2_goThrough_154 rfl ?_
                      refine lv_lor hx hb dX2_goThrough_155 ?_
                      refine lv_lstore (lv' := [(4, .long (met ||| (1 <<< ((nI kk).toInt64 &&& 63)))), (6, .int 1), (0, .ref h), (1, .int (nI c0)), (2, .int a), (3, .int mo), (7, .int (nI kk)), (8, .int (nI k))]) hx hb dX2_goThrough_156 hl (by decide) rfl (fun ls hl => ?_)
                      refine lv_aload_n hx hb dX2_goThrough_158 rfl (lv_at hl 2 rfl) ?_
                      refine lv_dup hx hb dX2_goThrough_159 rfl ?_
                      refine mg_34 X M (v := w1) rfl dX2_goThrough_160 ?_
                      refine lv_aload_n hx hb dX2_goThrough_163 rfl (lv_at hl 2 rfl) ?_
                      refine mg_30 X M dX2_goThrough_164 ?_
                      refine lv_iload hx hb dX2_goThrough_167 (lv_at hl 6 rfl) ?_
                      refine mr_30 X M (f := Rr 30) rfl (j := kk) (vp_in_nI (by omega) (by omega)) (nI_clamp (by omega)) dX2_goThrough_169 ?_
                      refine lv_iload_n hx hb dX2_goThrough_170 rfl (lv_at hl 4 rfl) ?_
                      refine lv_icmp_eq (tgt := 199) hx hb dX2_goThrough_171 (by decide) (fun c_11 => ?_) (fun c_11 => ?_)
                      · -- c_11: Rr 30 kk = a
                        refine lv_iconst (v := 1) hx hb dX2_goThrough_199 (by decide) ?_
                        refine lv_goto (tgt := 204) hx hb dX2_goThrough_200 (by decide) ?_
                        refine lv_iadd hx hb dX2_goThrough_204 ?_
                        refine mp_34 X M dX2_goThrough_205 (fun H locs M => ?_)
                        refine lv_aload_n hx hb dX2_goThrough_208 rfl (lv_at hl 2 rfl) ?_
                        refine mg_30 X M dX2_goThrough_209 ?_
                        refine lv_iload hx hb dX2_goThrough_212 (lv_at hl 6 rfl) ?_
                        refine mr_30 X M (f := Rr 30) rfl (j := kk) (vp_in_nI (by omega) (by omega)) (nI_clamp (by omega)) dX2_goThrough_214 ?_
                        refine lv_istore_n (lv' := [(2, .int (Rr 30 kk)), (4, .long (met ||| (1 <<< ((nI kk).toInt64 &&& 63)))), (6, .int 1), (0, .ref h), (1, .int (nI c0)), (3, .int mo), (7, .int (nI kk)), (8, .int (nI k))]) hx hb dX2_goThrough_215 rfl hl (by decide) rfl (fun ls hl => ?_)
                        refine lv_iload_n hx hb dX2_goThrough_216 rfl (lv_at hl 5 rfl) ?_
                        refine lv_iload_n hx hb dX2_goThrough_217 rfl (lv_at hl 0 rfl) ?_
                        refine lv_iconst (v := 1) hx hb dX2_goThrough_218 (by decide) ?_
                        refine lv_icmp_ne (tgt := 226) hx hb dX2_goThrough_219 (by decide) (fun c_12 => ?_) (fun c_12 => ?_)
                        · -- c_12: Rr 30 kk ≠ 1
                          refine lv_iconst (v := (-1)) hx hb dX2_goThrough_226 (by decide) ?_
                          refine lv_iadd hx hb dX2_goThrough_227 ?_
                          refine lv_istore_n (lv' := [(3, .int (mo + (-1))), (2, .int (Rr 30 kk)), (4, .long (met ||| (1 <<< ((nI kk).toInt64 &&& 63)))), (6, .int 1), (0, .ref h), (1, .int (nI c0)), (7, .int (nI kk)), (8, .int (nI k))]) hx hb dX2_goThrough_228 rfl hl (by decide) rfl (fun ls hl => ?_)
                          refine lv_goto (tgt := 35) hx hb dX2_goThrough_229 (by decide) ?_
                          have hcn := cntF_up hkf n28 hkk
                          have dec9 : cntF (va_up t kk true) n28 + 1 < fuL_3 := by rw [c_4] at hfuL_3; have q9 : cntF t n28 + 1 < fuL_3 + 1 := hfuL_3; omega
                          have hmet9 : ∀ j, j < n28 → (met ||| (1 <<< ((nI kk).toInt64 &&& 63))).toBitVec.getLsbD j = (va_up t kk true) j := by
                            intro j hj
                            rw [lbit_or (by omega) (by omega), hmet j hj]
                            unfold va_up
                            by_cases q : j = kk <;> simp [q]
                          have hst9 : (va_up t kk true, Rr 30 kk, mo + (-1), w1 + 1) = g_body Rr c0 n28 (t, a, mo, w1) := by
                            exact g_step_eq (by omega) qy2 (by simp [c_12]) (by simp [b2i, c_11])
                          have hrun9 : g_run Rr c0 n28 (va_up t kk true, Rr 30 kk, mo + (-1), w1 + 1) = g_run Rr c0 n28 (fun _ => false, 0, 0, wr) := by
                            rw [hst9, ← hrun]
                            exact (wh_t (c := g_c Rr c0 n28) (b := g_body Rr c0 n28) (μ := fun x => cntF x.1 n28) (I := fun _ => True) (g_go (by omega)) trivial hgc9).symm
                          exact L_3ih  (va_up t kk true) (Rr 30 kk) (mo + (-1)) (met ||| (1 <<< ((nI kk).toInt64 &&& 63))) true (w1 + 1) hmet9 hrun9 (fun q => by cases q) dec9 _ _ (by rw [gF_34] at M; exact M) ls (lv_sub hl [4, 5, 1, 0, 2, 3] rfl)
                        · -- c_12: Rr 30 kk = 1
                          refine lv_iconst (v := 1) hx hb dX2_goThrough_222 (by decide) ?_
                          refine lv_goto (tgt := 227) hx hb dX2_goThrough_223 (by decide) ?_
                          refine lv_iadd hx hb dX2_goThrough_227 ?_
                          refine lv_istore_n (lv' := [(3, .int (mo + 1)), (2, .int (Rr 30 kk)), (4, .long (met ||| (1 <<< ((nI kk).toInt64 &&& 63)))), (6, .int 1), (0, .ref h), (1, .int (nI c0)), (7, .int (nI kk)), (8, .int (nI k))]) hx hb dX2_goThrough_228 rfl hl (by decide) rfl (fun ls hl => ?_)
                          refine lv_goto (tgt := 35) hx hb dX2_goThrough_229 (by decide) ?_
                          have hcn := cntF_up hkf n28 hkk
                          have dec9 : cntF (va_up t kk true) n28 + 1 < fuL_3 := by rw [c_4] at hfuL_3; have q9 : cntF t n28 + 1 < fuL_3 + 1 := hfuL_3; omega
                          have hmet9 : ∀ j, j < n28 → (met ||| (1 <<< ((nI kk).toInt64 &&& 63))).toBitVec.getLsbD j = (va_up t kk true) j := by
                            intro j hj
                            rw [lbit_or (by omega) (by omega), hmet j hj]
                            unfold va_up
                            by_cases q : j = kk <;> simp [q]
                          have hst9 : (va_up t kk true, Rr 30 kk, mo + 1, w1 + 1) = g_body Rr c0 n28 (t, a, mo, w1) := by
                            exact g_step_eq (by omega) qy2 (by simp [c_12]) (by simp [b2i, c_11])
                          have hrun9 : g_run Rr c0 n28 (va_up t kk true, Rr 30 kk, mo + 1, w1 + 1) = g_run Rr c0 n28 (fun _ => false, 0, 0, wr) := by
                            rw [hst9, ← hrun]
                            exact (wh_t (c := g_c Rr c0 n28) (b := g_body Rr c0 n28) (μ := fun x => cntF x.1 n28) (I := fun _ => True) (g_go (by omega)) trivial hgc9).symm
                          exact L_3ih  (va_up t kk true) (Rr 30 kk) (mo + 1) (met ||| (1 <<< ((nI kk).toInt64 &&& 63))) true (w1 + 1) hmet9 hrun9 (fun q => by cases q) dec9 _ _ (by rw [gF_34] at M; exact M) ls (lv_sub hl [4, 5, 1, 0, 2, 3] rfl)
                      · -- c_11: Rr 30 kk ≠ a
                        refine lv_aload_n hx hb dX2_goThrough_174 rfl (lv_at hl 2 rfl) ?_
                        refine lv_aload_n hx hb dX2_goThrough_175 rfl (lv_at hl 2 rfl) ?_
                        refine mg_31 X M dX2_goThrough_176 ?_
                        refine lv_iload hx hb dX2_goThrough_179 (lv_at hl 6 rfl) ?_
                        refine mr_31 X M (f := Rr 31) rfl (j := kk) (vp_in_nI (by omega) (by omega)) (nI_clamp (by omega)) dX2_goThrough_181 ?_
                        refine lv_aload_n hx hb dX2_goThrough_182 rfl (lv_at hl 2 rfl) ?_
                        refine mg_32 X M dX2_goThrough_183 ?_
                        refine lv_iload hx hb dX2_goThrough_186 (lv_at hl 6 rfl) ?_
                        refine mr_32 X M (f := Rr 32) rfl (j := kk) (vp_in_nI (by omega) (by omega)) (nI_clamp (by omega)) dX2_goThrough_188 ?_
                        refine lv_sipush (v := 1440) hx hb dX2_goThrough_189 (by decide) ?_
                        refine lv_irem hx hb dX2_goThrough_192 (by decide) ?_
                        refine m_cQ (v := b2i (m_isOpen Rr (Rr 31 kk) ((Rr 32 kk) - (Rr 32 kk) / 1440 * 1440))) (As := [.int (Rr 31 kk), .int ((Rr 32 kk) - (Rr 32 kk) / 1440 * 1440)]) (rest := [.int w1, .ref h]) X M (metX2_isOpen l D cl hcl h ad dA (gF F w1 is lo) Rr (Rr 31 kk) ((Rr 32 kk) - (Rr 32 kk) / 1440 * 1440) (by first | assumption | exact vp_inN (N := 9) rfl (by grind [inB]) (by grind [inB]))) (cwV 2 hts (lw_V q1798 q1800 qs44 q62 q1801) rfl rfl rfl (by decide +kernel) ⟨Nat.le_of_ble_eq_true rfl, Nat.le_of_ble_eq_true rfl⟩) rfl hl.1 rfl (Nat.le_of_ble_eq_true rfl) dX2_goThrough_193 ⟨Nat.zero_le _, Nat.zero_le _⟩ ?_
                        refine lz_if_ne (tgt := 203) hx hb dX2_goThrough_196 (by decide) (fun c_13 => ?_) (fun c_13 => ?_)
                        · -- c_13: m_isOpen Rr (Rr 31 kk) ((Rr 32 kk) - (Rr 32 kk) / 1440 * 1440) = true
                          refine lv_iconst (v := 0) hx hb dX2_goThrough_203 (by decide) ?_
                          refine lv_iadd hx hb dX2_goThrough_204 ?_
                          refine mp_34 X M dX2_goThrough_205 (fun H locs M => ?_)
                          refine lv_aload_n hx hb dX2_goThrough_208 rfl (lv_at hl 2 rfl) ?_
                          refine mg_30 X M dX2_goThrough_209 ?_
                          refine lv_iload hx hb dX2_goThrough_212 (lv_at hl 6 rfl) ?_
                          refine mr_30 X M (f := Rr 30) rfl (j := kk) (vp_in_nI (by omega) (by omega)) (nI_clamp (by omega)) dX2_goThrough_214 ?_
                          refine lv_istore_n (lv' := [(2, .int (Rr 30 kk)), (4, .long (met ||| (1 <<< ((nI kk).toInt64 &&& 63)))), (6, .int 1), (0, .ref h), (1, .int (nI c0)), (3, .int mo), (7, .int (nI kk)), (8, .int (nI k))]) hx hb dX2_goThrough_215 rfl hl (by decide) rfl (fun ls hl => ?_)
                          refine lv_iload_n hx hb dX2_goThrough_216 rfl (lv_at hl 5 rfl) ?_
                          refine lv_iload_n hx hb dX2_goThrough_217 rfl (lv_at hl 0 rfl) ?_
                          refine lv_iconst (v := 1) hx hb dX2_goThrough_218 (by decide) ?_
                          refine lv_icmp_ne (tgt := 226) hx hb dX2_goThrough_219 (by decide) (fun c_14 => ?_) (fun c_14 => ?_)
                          · -- c_14: Rr 30 kk ≠ 1
                            refine lv_iconst (v := (-1)) hx hb dX2_goThrough_226 (by decide) ?_
                            refine lv_iadd hx hb dX2_goThrough_227 ?_
                            refine lv_istore_n (lv' := [(3, .int (mo + (-1))), (2, .int (Rr 30 kk)), (4, .long (met ||| (1 <<< ((nI kk).toInt64 &&& 63)))), (6, .int 1), (0, .ref h), (1, .int (nI c0)), (7, .int (nI kk)), (8, .int (nI k))]) hx hb dX2_goThrough_228 rfl hl (by decide) rfl (fun ls hl => ?_)
                            refine lv_goto (tgt := 35) hx hb dX2_goThrough_229 (by decide) ?_
                            have hcn := cntF_up hkf n28 hkk
                            have dec9 : cntF (va_up t kk true) n28 + 1 < fuL_3 := by rw [c_4] at hfuL_3; have q9 : cntF t n28 + 1 < fuL_3 + 1 := hfuL_3; omega
                            have hmet9 : ∀ j, j < n28 → (met ||| (1 <<< ((nI kk).toInt64 &&& 63))).toBitVec.getLsbD j = (va_up t kk true) j := by
                              intro j hj
                              rw [lbit_or (by omega) (by omega), hmet j hj]
                              unfold va_up
                              by_cases q : j = kk <;> simp [q]
                            have hst9 : (va_up t kk true, Rr 30 kk, mo + (-1), w1 + 0) = g_body Rr c0 n28 (t, a, mo, w1) := by
                              exact g_step_eq (by omega) qy2 (by simp [c_14]) (by simp [b2i, c_11, c_13])
                            have hrun9 : g_run Rr c0 n28 (va_up t kk true, Rr 30 kk, mo + (-1), w1 + 0) = g_run Rr c0 n28 (fun _ => false, 0, 0, wr) := by
                              rw [hst9, ← hrun]
                              exact (wh_t (c := g_c Rr c0 n28) (b := g_body Rr c0 n28) (μ := fun x => cntF x.1 n28) (I := fun _ => True) (g_go (by omega)) trivial hgc9).symm
                            exact L_3ih  (va_up t kk true) (Rr 30 kk) (mo + (-1)) (met ||| (1 <<< ((nI kk).toInt64 &&& 63))) true (w1 + 0) hmet9 hrun9 (fun q => by cases q) dec9 _ _ (by rw [gF_34] at M; exact M) ls (lv_sub hl [4, 5, 1, 0, 2, 3] rfl)
                          · -- c_14: Rr 30 kk = 1
                            refine lv_iconst (v := 1) hx hb dX2_goThrough_222 (by decide) ?_
                            refine lv_goto (tgt := 227) hx hb dX2_goThrough_223 (by decide) ?_
                            refine lv_iadd hx hb dX2_goThrough_227 ?_
                            refine lv_istore_n (lv' := [(3, .int (mo + 1)), (2, .int (Rr 30 kk)), (4, .long (met ||| (1 <<< ((nI kk).toInt64 &&& 63)))), (6, .int 1), (0, .ref h), (1, .int (nI c0)), (7, .int (nI kk)), (8, .int (nI k))]) hx hb dX2_goThrough_228 rfl hl (by decide) rfl (fun ls hl => ?_)
                            refine lv_goto (tgt := 35) hx hb dX2_goThrough_229 (by decide) ?_
                            have hcn := cntF_up hkf n28 hkk
                            have dec9 : cntF (va_up t kk true) n28 + 1 < fuL_3 := by rw [c_4] at hfuL_3; have q9 : cntF t n28 + 1 < fuL_3 + 1 := hfuL_3; omega
                            have hmet9 : ∀ j, j < n28 → (met ||| (1 <<< ((nI kk).toInt64 &&& 63))).toBitVec.getLsbD j = (va_up t kk true) j := by
                              intro j hj
                              rw [lbit_or (by omega) (by omega), hmet j hj]
                              unfold va_up
                              by_cases q : j = kk <;> simp [q]
                            have hst9 : (va_up t kk true, Rr 30 kk, mo + 1, w1 + 0) = g_body Rr c0 n28 (t, a, mo, w1) := by
                              exact g_step_eq (by omega) qy2 (by simp [c_14]) (by simp [b2i, c_11, c_13])
                            have hrun9 : g_run Rr c0 n28 (va_up t kk true, Rr 30 kk, mo + 1, w1 + 0) = g_run Rr c0 n28 (fun _ => false, 0, 0, wr) := by
                              rw [hst9, ← hrun]
                              exact (wh_t (c := g_c Rr c0 n28) (b := g_body Rr c0 n28) (μ := fun x => cntF x.1 n28) (I := fun _ => True) (g_go (by omega)) trivial hgc9).symm
                            exact L_3ih  (va_up t kk true) (Rr 30 kk) (mo + 1) (met ||| (1 <<< ((nI kk).toInt64 &&& 63))) true (w1 + 0) hmet9 hrun9 (fun q => by cases q) dec9 _ _ (by rw [gF_34] at M; exact M) ls (lv_sub hl [4, 5, 1, 0, 2, 3] rfl)
                        · -- c_13: m_isOpen Rr (Rr 31 kk) ((Rr 32 kk) - (Rr 32 kk) / 1440 * 1440) = false
                          refine lv_iconst (v := 1) hx hb dX2_goThrough_199 (by decide) ?_
                          refine lv_goto (tgt := 204) hx hb dX2_goThrough_200 (by decide) ?_
                          refine lv_iadd hx hb dX2_goThrough_204 ?_
                          refine mp_34 X M dX2_goThrough_205 (fun H locs M => ?_)
                          refine lv_aload_n hx hb dX2_goThrough_208 rfl (lv_at hl 2 rfl) ?_
                          refine mg_30 X M dX2_goThrough_209 ?_
                          refine lv_iload hx hb dX2_goThrough_212 (lv_at hl 6 rfl) ?_
                          refine mr_30 X M (f := Rr 30) rfl (j := kk) (vp_in_nI (by omega) (by omega)) (nI_clamp (by omega)) dX2_goThrough_214 ?_
                          refine lv_istore_n (lv' := [(2, .int (Rr 30 kk)), (4, .long (met ||| (1 <<< ((nI kk).toInt64 &&& 63)))), (6, .int 1), (0, .ref h), (1, .int (nI c0)), (3, .int mo), (7, .int (nI kk)), (8, .int (nI k))]) hx hb dX2_goThrough_215 rfl hl (by decide) rfl (fun ls hl => ?_)
                          refine lv_iload_n hx hb dX2_goThrough_216 rfl (lv_at hl 5 rfl) ?_
                          refine lv_iload_n hx hb dX2_goThrough_217 rfl (lv_at hl 0 rfl) ?_
                          refine lv_iconst (v := 1) hx hb dX2_goThrough_218 (by decide) ?_
                          refine lv_icmp_ne (tgt := 226) hx hb dX2_goThrough_219 (by decide) (fun c_15 => ?_) (fun c_15 => ?_)
                          · -- c_15: Rr 30 kk ≠ 1
                            refine lv_iconst (v := (-1)) hx hb dX2_goThrough_226 (by decide) ?_
                            refine lv_iadd hx hb dX2_goThrough_227 ?_
                            refine lv_istore_n (lv' := [(3, .int (mo + (-1))), (2, .int (Rr 30 kk)), (4, .long (met ||| (1 <<< ((nI kk).toInt64 &&& 63)))), (6, .int 1), (0, .ref h), (1, .int (nI c0)), (7, .int (nI kk)), (8, .int (nI k))]) hx hb dX2_goThrough_228 rfl hl (by decide) rfl (fun ls hl => ?_)
                            refine lv_goto (tgt := 35) hx hb dX2_goThrough_229 (by decide) ?_
                            have hcn := cntF_up hkf n28 hkk
                            have dec9 : cntF (va_up t kk true) n28 + 1 < fuL_3 := by rw [c_4] at hfuL_3; have q9 : cntF t n28 + 1 < fuL_3 + 1 := hfuL_3; omega
                            have hmet9 : ∀ j, j < n28 → (met ||| (1 <<< ((nI kk).toInt64 &&& 63))).toBitVec.getLsbD j = (va_up t kk true) j := by
                              intro j hj
                              rw [lbit_or (by omega) (by omega), hmet j hj]
                              unfold va_up
                              by_cases q : j = kk <;> simp [q]
                            have hst9 : (va_up t kk true, Rr 30 kk, mo + (-1), w1 + 1) = g_body Rr c0 n28 (t, a, mo, w1) := by
                              exact g_step_eq (by omega) qy2 (by simp [c_15]) (by simp [b2i, c_11, c_13])
                            have hrun9 : g_run Rr c0 n28 (va_up t kk true, Rr 30 kk, mo + (-1), w1 + 1) = g_run Rr c0 n28 (fun _ => false, 0, 0, wr) := by
                              rw [hst9, ← hrun]
                              exact (wh_t (c := g_c Rr c0 n28) (b := g_body Rr c0 n28) (μ := fun x => cntF x.1 n28) (I := fun _ => True) (g_go (by omega)) trivial hgc9).symm
                            exact L_3ih  (va_up t kk true) (Rr 30 kk) (mo + (-1)) (met ||| (1 <<< ((nI kk).toInt64 &&& 63))) true (w1 + 1) hmet9 hrun9 (fun q => by cases q) dec9 _ _ (by rw [gF_34] at M; exact M) ls (lv_sub hl [4, 5, 1, 0, 2, 3] rfl)
                          · -- c_15: Rr 30 kk = 1
                            refine lv_iconst (v := 1) hx hb dX2_goThrough_222 (by decide) ?_
                            refine lv_goto (tgt := 227) hx hb dX2_goThrough_223 (by decide) ?_
                            refine lv_iadd hx hb dX2_goThrough_227 ?_
                            refine lv_istore_n (lv' := [(3, .int (mo + 1)), (2, .int (Rr 30 kk)), (4, .long (met ||| (1 <<< ((nI kk).toInt64 &&& 63)))), (6, .int 1), (0, .ref h), (1, .int (nI c0)), (7, .int (nI kk)), (8, .int (nI k))]) hx hb dX2_goThrough_228 rfl hl (by decide) rfl (fun ls hl => ?_)
                            refine lv_goto (tgt := 35) hx hb dX2_goThrough_229 (by decide) ?_
                            have hcn := cntF_up hkf n28 hkk
                            have dec9 : cntF (va_up t kk true) n28 + 1 < fuL_3 := by rw [c_4] at hfuL_3; have q9 : cntF t n28 + 1 < fuL_3 + 1 := hfuL_3; omega
                            have hmet9 : ∀ j, j < n28 → (met ||| (1 <<< ((nI kk).toInt64 &&& 63))).toBitVec.getLsbD j = (va_up t kk true) j := by
                              intro j hj
                              rw [lbit_or (by omega) (by omega), hmet j hj]
                              unfold va_up
                              by_cases q : j = kk <;> simp [q]
                            have hst9 : (va_up t kk true, Rr 30 kk, mo + 1, w1 + 1) = g_body Rr c0 n28 (t, a, mo, w1) := by
                              exact g_step_eq (by omega) qy2 (by simp [c_15]) (by simp [b2i, c_11, c_13])
                            have hrun9 : g_run Rr c0 n28 (va_up t kk true, Rr 30 kk, mo + 1, w1 + 1) = g_run Rr c0 n28 (fun _ => false, 0, 0, wr) := by
                              rw [hst9, ← hrun]
                              exact (wh_t (c := g_c Rr c0 n28) (b := g_body Rr c0 n28) (μ := fun x => cntF x.1 n28) (I := fun _ => True) (g_go (by omega)) trivial hgc9).symm
                            exact L_3ih  (va_up t kk true) (Rr 30 kk) (mo + 1) (met ||| (1 <<< ((nI kk).toInt64 &&& 63))) true (w1 + 1) hmet9 hrun9 (fun q => by cases q) dec9 _ _ (by rw [gF_34] at M; exact M) ls (lv_sub hl [4, 5, 1, 0, 2, 3] rfl)
                  · -- c_7: nI k < nI n28
                    refine lv_aload_n hx hb dX2_goThrough_56 rfl (lv_at hl 0 rfl) ?_
                    refine mg_29 X M dX2_goThrough_57 ?_
                    refine lv_iload hx hb dX2_goThrough_60 (lv_at hl 7 rfl) ?_
                    refine mr_29 X M (f := Rr 29) rfl (j := k) (vp_in_nI (by omega) (by omega)) (nI_clamp (by omega)) dX2_goThrough_62 ?_
                    refine lv_iload_n hx hb dX2_goThrough_63 rfl (lv_at hl 1 rfl) ?_
                    refine lv_icmp_ne (tgt := 83) hx hb dX2_goThrough_64 (by decide) (fun c_16 => ?_) (fun c_16 => ?_)
                    · -- c_16: Rr 29 k ≠ nI c0
                      refine lv_iconst (v := 0) hx hb dX2_goThrough_83 (by decide) ?_
                      refine lv_istore (lv' := [(9, .int 0), (0, .ref h), (1, .int (nI c0)), (2, .int a), (3, .int mo), (4, .long met), (6, .int (b2i lf)), (7, .int y), (8, .int (nI k))]) hx hb dX2_goThrough_84 hl (by decide) rfl (fun ls hl => ?_)
                      refine lv_iload hx hb dX2_goThrough_86 (lv_at hl 0 rfl) ?_
                      refine lv_if_eq (tgt := 120) hx hb dX2_goThrough_88 (by decide) (fun c_17 => ?_) (fun c_17 => absurd c_17 (by decide))
                      refine lv_iload hx hb dX2_goThrough_120 (lv_at hl 7 rfl) ?_
                      refine lv_istore (lv' := [(7, .int y), (9, .int 0), (0, .ref h), (1, .int (nI c0)), (2, .int a), (3, .int mo), (4, .long met), (6, .int (b2i lf)), (8, .int (nI k))]) hx hb dX2_goThrough_122 hl (by decide) rfl (fun ls hl => ?_)
                      refine lv_iinc (v := nI (k + 1)) (lv' := [(8, .int (nI (k + 1))), (7, .int y), (9, .int 0), (0, .ref h), (1, .int (nI c0)), (2, .int a), (3, .int mo), (4, .long met), (6, .int (b2i lf))]) hx hb dX2_goThrough_124 hl (k := 8) rfl (mk_inc _) (by decide) rfl (fun ls hl => ?_)
                      refine lv_goto (tgt := 47) hx hb dX2_goThrough_127 (by decide) ?_
                      exact L_6ih  (k + 1) y (by omega) (by first | (rw [itr_s, ← qy]; done) | (rw [itr_s, ← qy]; first | (simp [g_sel, c_2, c_4, c_7, c_16, up_s, up_n, nI_1, b2i]; done) | (simp_all [g_sel]; done) | grind [g_sel])) (by omega) _ _ M ls (lv_sub hl [3, 4, 5, 6, 7, 8, 1, 0] rfl)
                    · -- c_16: Rr 29 k = nI c0
                      refine lv_lload hx hb dX2_goThrough_67 (lv_at hl 4 rfl) ?_
                      refine lv_iload hx hb dX2_goThrough_69 (lv_at hl 7 rfl) ?_
                      refine lv_lshr (v := met >>> ((nI k).toInt64 &&& 63)) hx hb dX2_goThrough_71 rfl ?_
                      refine lv_lconst (v := 1) hx hb dX2_goThrough_72 (by decide) ?_
                      refine lv_land hx hb dX2_goThrough_73 ?_
                      refine lv_lconst (v := 0) hx hb dX2_goThrough_74 (by decide) ?_
                      refine W.lcmp hx hb dX2_goThrough_75 ?_
                      refine lc_if_ne (tgt := 83) hx hb dX2_goThrough_76 (by decide) (fun c_18 => ?_) (fun c_18 => ?_)
                      · -- c_18: (met >>> ((nI k).toInt64 &&& 63)) &&& 1 ≠ 0
                        have hb9 : ¬ t k = false := fun q => c_18 ((lbit (by omega)).mpr (by rw [hmet k (by omega)]; exact q))
                        refine lv_iconst (v := 0) hx hb dX2_goThrough_83 (by decide) ?_
                        refine lv_istore (lv' := [(9, .int 0), (0, .ref h), (1, .int (nI c0)), (2, .int a), (3, .int mo), (4, .long met), (6, .int (b2i lf)), (7, .int y), (8, .int (nI k))]) hx hb dX2_goThrough_84 hl (by decide) rfl (fun ls hl => ?_)
                        refine lv_iload hx hb dX2_goThrough_86 (lv_at hl 0 rfl) ?_
                        refine lv_if_eq (tgt := 120) hx hb dX2_goThrough_88 (by decide) (fun c_19 => ?_) (fun c_19 => absurd c_19 (by decide))
                        refine lv_iload hx hb dX2_goThrough_120 (lv_at hl 7 rfl) ?_
                        refine lv_istore (lv' := [(7, .int y), (9, .int 0), (0, .ref h), (1, .int (nI c0)), (2, .int a), (3, .int mo), (4, .long met), (6, .int (b2i lf)), (8, .int (nI k))]) hx hb dX2_goThrough_122 hl (by decide) rfl (fun ls hl => ?_)
                        refine lv_iinc (v := nI (k + 1)) (lv' := [(8, .int (nI (k + 1))), (7, .int y), (9, .int 0), (0, .ref h), (1, .int (nI c0)), (2, .int a), (3, .int mo), (4, .long met), (6, .int (b2i lf))]) hx hb dX2_goThrough_124 hl (k := 8) rfl (mk_inc _) (by decide) rfl (fun ls hl => ?_)
                        refine lv_goto (tgt := 47) hx hb dX2_goThrough_127 (by decide) ?_
                        exact L_6ih  (k + 1) y (by omega) (by first | (rw [itr_s, ← qy]; done) | (rw [itr_s, ← qy]; first | (simp [g_sel, c_2, c_4, c_7, c_16, c_18, hb9, up_s, up_n, nI_1, b2i]; done) | (simp_all [g_sel]; done) | grind [g_sel])) (by omega) _ _ M ls (lv_sub hl [3, 4, 5, 6, 7, 8, 1, 0] rfl)
                      · -- c_18: (met >>> ((nI k).toInt64 &&& 63)) &&& 1 = 0
                        have hb9 : t k = false := by rw [← hmet k (by omega)]; exact (lbit (by omega)).mp c_18
                        refine lv_iconst (v := 1) hx hb dX2_goThrough_79 (by decide) ?_
                        refine lv_goto (tgt := 84) hx hb dX2_goThrough_80 (by decide) ?_
                        refine lv_istore (lv' := [(9, .int 1), (0, .ref h), (1, .int (nI c0)), (2, .int a), (3, .int mo), (4, .long met), (6, .int (b2i lf)), (7, .int y), (8, .int (nI k))]) hx hb dX2_goThrough_84 hl (by decide) rfl (fun ls hl => ?_)
                        refine lv_iload hx hb dX2_goThrough_86 (lv_at hl 0 rfl) ?_
                        refine lv_if_eq (tgt := 120) hx hb dX2_goThrough_88 (by decide) (fun c_20 => absurd c_20 (by decide)) (fun c_20 => ?_)
                        refine lv_iload hx hb dX2_goThrough_91 (lv_at hl 7 rfl) ?_
                        refine lv_ldc (v := (-1000000)) hx hb hown (hts _ q1430) dX2_goThrough_93 ?_
                        refine lv_icmp_eq (tgt := 115) hx hb dX2_goThrough_95 (by decide) (fun c_21 => ?_) (fun c_21 => ?_)
                        · -- c_21: y = (-1000000)
                          refine lv_iload hx hb dX2_goThrough_115 (lv_at hl 8 rfl) ?_
                          refine lv_goto (tgt := 122) hx hb dX2_goThrough_117 (by decide) ?_
                          refine lv_istore (lv' := [(7, .int (nI k)), (9, .int 1), (0, .ref h), (1, .int (nI c0)), (2, .int a), (3, .int mo), (4, .long met), (6, .int (b2i lf)), (8, .int (nI k))]) hx hb dX2_goThrough_122 hl (by decide) rfl (fun ls hl => ?_)
                          refine lv_iinc (v := nI (k + 1)) (lv' := [(8, .int (nI (k + 1))), (7, .int (nI k)), (9, .int 1), (0, .ref h), (1, .int (nI c0)), (2, .int a), (3, .int mo), (4, .long met), (6, .int (b2i lf))]) hx hb dX2_goThrough_124 hl (k := 8) rfl (mk_inc _) (by decide) rfl (fun ls hl => ?_)
                          refine lv_goto (tgt := 47) hx hb dX2_goThrough_127 (by decide) ?_
                          exact L_6ih  (k + 1) (nI k) (by omega) (by first | (rw [itr_s, ← qy]; done) | (rw [itr_s, ← qy]; first | (simp [g_sel, c_2, c_4, c_7, c_16, c_18, hb9, c_21, up_s, up_n, nI_1, b2i]; done) | (simp_all [g_sel]; done) | grind [g_sel])) (by omega) _ _ M ls (lv_sub hl [3, 4, 5, 6, 7, 8, 1, 0] rfl)
                        · -- c_21: y ≠ (-1000000)
                          refine lv_aload_n hx hb dX2_goThrough_98 rfl (lv_at hl 1 rfl) ?_
                          refine mg_32 X M dX2_goThrough_99 ?_
                          refine lv_iload hx hb dX2_goThrough_102 (lv_at hl 8 rfl) ?_
                          refine mr_32 X M (f := Rr 32) rfl (j := k) (vp_in_nI (by omega) (by omega)) (nI_clamp (by omega)) dX2_goThrough_104 ?_
                          refine lv_aload_n hx hb dX2_goThrough_105 rfl (lv_at hl 1 rfl) ?_
                          refine mg_32 X M dX2_goThrough_106 ?_
                          refine lv_iload hx hb dX2_goThrough_109 (lv_at hl 7 rfl) ?_
                          refine mr_32 X M (f := Rr 32) rfl (j := y.toNatClampNeg) (vp_or hy9 (by assumption) (by omega)) rfl dX2_goThrough_111 ?_
                          refine lb_icmp_ge (tgt := 120) hx hb dX2_goThrough_112 (by decide) (fun c_22 c_22' => ?_) (fun c_22 c_22' => ?_)
                          · -- c_22: Rr 32 k ≥ Rr 32 y.toNatClampNeg
                            refine lv_iload hx hb dX2_goThrough_120 (lv_at hl 7 rfl) ?_
                            refine lv_istore (lv' := [(7, .int y), (9, .int 1), (0, .ref h), (1, .int (nI c0)), (2, .int a), (3, .int mo), (4, .long met), (6, .int (b2i lf)), (8, .int (nI k))]) hx hb dX2_goThrough_122 hl (by decide) rfl (fun ls hl => ?_)
                            refine lv_iinc (v := nI (k + 1)) (lv' := [(8, .int (nI (k + 1))), (7, .int y), (9, .int 1), (0, .ref h), (1, .int (nI c0)), (2, .int a), (3, .int mo), (4, .long met), (6, .int (b2i lf))]) hx hb dX2_goThrough_124 hl (k := 8) rfl (mk_inc _) (by decide) rfl (fun ls hl => ?_)
                            refine lv_goto (tgt := 47) hx hb dX2_goThrough_127 (by decide) ?_
                            exact L_6ih  (k + 1) y (by omega) (by first | (rw [itr_s, ← qy]; done) | (rw [itr_s, ← qy]; first | (simp [g_sel, c_2, c_4, c_7, c_16, c_18, hb9, c_21, c_22, c_22', up_s, up_n, nI_1, b2i]; done) | (simp_all [g_sel]; done) | grind [g_sel])) (by omega) _ _ M ls (lv_sub hl [3, 4, 5, 6, 7, 8, 1, 0] rfl)
                          · -- c_22: Rr 32 k < Rr 32 y.toNatClampNeg
                            refine lv_iload hx hb dX2_goThrough_115 (lv_at hl 8 rfl) ?_
                            refine lv_goto (tgt := 122) hx hb dX2_goThrough_117 (by decide) ?_
                            refine lv_istore (lv' := [(7, .int (nI k)), (9, .int 1), (0, .ref h), (1, .int (nI c0)), (2, .int a), (3, .int mo), (4, .long met), (6, .int (b2i lf)), (8, .int (nI k))]) hx hb dX2_goThrough_122 hl (by decide) rfl (fun ls hl => ?_)
                            refine lv_iinc (v := nI (k + 1)) (lv' := [(8, .int (nI (k + 1))), (7, .int (nI k)), (9, .int 1), (0, .ref h), (1, .int (nI c0)), (2, .int a), (3, .int mo), (4, .long met), (6, .int (b2i lf))]) hx hb dX2_goThrough_124 hl (k := 8) rfl (mk_inc _) (by decide) rfl (fun ls hl => ?_)
                            refine lv_goto (tgt := 47) hx hb dX2_goThrough_127 (by decide) ?_
                            exact L_6ih  (k + 1) (nI k) (by omega) (by first | (rw [itr_s, ← qy]; done) | (rw [itr_s, ← qy]; first | (simp [g_sel, c_2, c_4, c_7, c_16, c_18, hb9, c_21, c_22, c_22', up_s, up_n, nI_1, b2i]; done) | (simp_all [g_sel]; done) | grind [g_sel])) (by omega) _ _ M ls (lv_sub hl [3, 4, 5, 6, 7, 8, 1, 0] rfl)
              exact L_6 ((n28 - 0) + 1) 0 (-1000000) (Nat.zero_le _) (by first | rfl | (simp only [itr]; assumption) | (simp [itr, c_2, c_4, up_s, up_n, nI_1, b2i]; done)) (Nat.lt_succ_self _) _ _ M ls (lv_sub hl [2, 3, 4, 5, 6, 7, 1, 0] rfl)
        exact L_3 ((if true = true then cntF (fun _ => false) n28 + 1 else 0) + 1) (fun _ => false) 0 0 0 true wr (fun j hj => by simp) rfl (fun q => by cases q) (Nat.lt_succ_self _) _ _ M ls (lv_sub hl [4, 5, 3, 2, 1, 0] rfl)
  exact L_1 ((n26 - 0) + 1) 0 0 0 0 (by omega) rfl (Nat.lt_succ_self _) _ _ M ls (lv_sub hl [1, 0] rfl)

def m_agree (F : Nat → Int32) (Rr : Nat → Nat → Int32) (what : Int32) : Int32 × mST := if inB 0 2 what = false then ((-1000001), F, Rr) else (if what = 0 then (m_goThrough (F 26) (F 28) Rr).1 else if what = 1 then (m_goThrough (F 26) (F 28) Rr).2.1 else (m_goThrough (F 26) (F 28) Rr).2.2, gF F (m_goThrough (F 26) (F 28) Rr).1 (m_goThrough (F 26) (F 28) Rr).2.1 (m_goThrough (F 26) (F 28) Rr).2.2, Rr)
set_option maxHeartbeats 4000000 in
set_option maxRecDepth 100000 in
theorem metX2_agree (l : Launch) (D : va_G) (cl : List vw_C) (hcl : cl[0]? = some (RX2, TX2, 61)) (h : Nat) (ad : Nat → Nat) (dA : ClassId) (F : Nat → Int32) (Rr : Nat → Nat → Int32) (p1 : Int32) (h26 : cnB (F 26) 16) (h28 : cnB (F 28) 60) (h29 : ∀ k, k < (F 28).toNatClampNeg → cnB (Rr 29 k) 15 ∧ cnB (Rr 31 k) 8 ∧ cnB (Rr 32 k) 1439999) : Met l yX2_agree (ws_ yX2_agree cX2_agree 2 (some .int)) ({ frames := 2, cells := 0, slots := 0, locals := 51 } : Room) (va_Pc [.ref h, .int p1] (mPre D cl h ad dA F Rr)) (va_Qi (fun r u => (r, u) = m_agree (va_up F 0 0) Rr p1) (mB D cl h ad dA) (mN h ad)) 0 0 (mN h ad) := by
  refine Met.ofW (cc := cX2_agree) (maxL := 2) (ret := (some .int)) (by decide) rfl ?_
  intro p e s m args below meth c s₁ B hml hv
  obtain ⟨rfl, hK, hP, hD⟩ := hv
  have hx := B.exec
  have hb := B.bytes
  have hr := B.returns
  have hts := atoms_spec (ws := (ws_ yX2_agree cX2_agree 2 (some .int))) B.pre
  have hts : ∀ w ∈ lw_all, w.before _ s = true := fun w h => hts w (List.mem_cons_of_mem _ h)
  have hown : s.vm.findClass RX2 = some m.cls := findClass_of_methodNamed B.named
  have hlocks := B.notSynchronized
  have S : CallFix p m c cX2_agree 2 s ([.ref h, .int p1] : List Value).toArray lw_all RX2 := ⟨hx, hb, hml, hown, hts⟩
  have X : mX p s m ([.ref h, .int p1] : List Value).toArray c cX2_agree 2 D cl dA := ⟨hx, hb, hml, hown, hts, hK, hcl⟩
  have M : mM D cl h ad dA (mN h ad) s F Rr s.heap [] := ⟨hP, mW_self hD, va_S.rf⟩
  have hl := lv_entry ([.ref h, .int p1]) (n := 2) (Nat.le_of_ble_eq_true rfl)
  rw [lg_entry_eq]
  generalize (lg_sl ([.ref h, .int p1]) ++ List.replicate (2 - (lg_sl ([.ref h, .int p1])).length) Slot.unset).toArray = ls at hl ⊢
  have hl : lv_has ls 2 [(0, .ref h), (1, .int p1)] := hl
  refine lv_aload_n hx hb dX2_agree_0 rfl (lv_at hl 0 rfl) ?_
  refine lv_iconst (v := 0) hx hb dX2_agree_1 (by decide) ?_
  refine mp_0 X M dX2_agree_2 (fun H locs M => ?_)
  refine lv_iload_n hx hb dX2_agree_5 rfl (lv_at hl 1 rfl) ?_
  refine lv_i2l (v := p1.toInt64) hx hb dX2_agree_6 rfl ?_
  refine lv_lconst (v := 0) hx hb dX2_agree_7 (by decide) ?_
  refine lv_ldc2 (v := 2) hx hb hown (hts _ q1626) dX2_agree_8 ?_
  refine s_cI (v := b2i (inB 0 2 p1)) (As := [.long p1.toInt64, .long 0, .long 2]) (rest := []) S (metX2_inI l p1 0 2 p1.toInt64 0 2 rfl rfl rfl) (va_cwS 3 hts (lw_S q1623 q1624 q62 q1625) rfl rfl rfl (by decide +kernel) ⟨Nat.le_of_ble_eq_true rfl, Nat.le_of_ble_eq_true rfl⟩) rfl hl.1 rfl (Nat.le_of_ble_eq_true rfl) dX2_agree_11 ⟨Nat.zero_le _, Nat.zero_le _⟩ ?_
  refine lz_if_ne (tgt := 20) hx hb dX2_agree_14 (by decide) (fun c_1 => ?_) (fun c_1 => ?_)
  · -- c_1: inB 0 2 p1 = true
    refine lv_aload_n hx hb dX2_agree_20 rfl (lv_at hl 0 rfl) ?_
    refine m_cUv (As := []) (rest := []) X M (metX2_goThrough l D cl hcl h ad dA (va_up F 0 0) Rr  h26 h28 h29) (cwV 0 hts (lw_V q1794 q1796 qs43 q62 q1797) rfl rfl rfl (by decide +kernel) ⟨Nat.le_of_ble_eq_true rfl, Nat.le_of_ble_eq_true rfl⟩) rfl hl.1 rfl (Nat.le_of_ble_eq_true rfl) dX2_agree_21 ⟨Nat.zero_le _, Nat.zero_le _⟩ (fun F9 R9 hr9 H locs M => ?_)
    obtain ⟨rfl, rfl⟩ : F9 = gF (va_up F 0 0) (m_goThrough (F 26) (F 28) Rr).1 (m_goThrough (F 26) (F 28) Rr).2.1 (m_goThrough (F 26) (F 28) Rr).2.2 ∧ Rr = R9 := ⟨congrArg Prod.fst hr9, (congrArg Prod.snd hr9).symm⟩
    refine lv_iload_n hx hb dX2_agree_24 rfl (lv_at hl 1 rfl) ?_
    refine lv_if_ne (tgt := 35) hx hb dX2_agree_25 (by decide) (fun c_2 => ?_) (fun c_2 => ?_)
    · -- c_2: p1 ≠ 0
      refine lv_iload_n hx hb dX2_agree_35 rfl (lv_at hl 1 rfl) ?_
      refine lv_iconst (v := 1) hx hb dX2_agree_36 (by decide) ?_
      refine lv_icmp_ne (tgt := 47) hx hb dX2_agree_37 (by decide) (fun c_3 => ?_) (fun c_3 => ?_)
      · -- c_3: p1 ≠ 1
        refine lv_aload_n hx hb dX2_agree_47 rfl (lv_at hl 0 rfl) ?_
        refine mg_36 X M (v := (m_goThrough (F 26) (F 28) Rr).2.2) rfl dX2_agree_48 ?_
        exact W.iret (v := (m_goThrough (F 26) (F 28) Rr).2.2) hx hb hr (fun t9 ht9 hW9 => ⟨⟨_, (gF (va_up F 0 0) (m_goThrough (F 26) (F 28) Rr).1 (m_goThrough (F 26) (F 28) Rr).2.1 (m_goThrough (F 26) (F 28) Rr).2.2, Rr), rfl, (by simp only [m_agree]; rw [if_neg (by rw [c_1]; decide)]; simp [up_s, up_n, c_2, c_3]), by show va_P _ _ _ t9.heap; rw [ht9]; exact M.1⟩, M.2.2.F ht9⟩) M.2.2.2.2 dX2_agree_51
      · -- c_3: p1 = 1
        refine lv_aload_n hx hb dX2_agree_40 rfl (lv_at hl 0 rfl) ?_
        refine mg_35 X M (v := (m_goThrough (F 26) (F 28) Rr).2.1) rfl dX2_agree_41 ?_
        refine lv_goto (tgt := 51) hx hb dX2_agree_44 (by decide) ?_
        exact W.iret (v := (m_goThrough (F 26) (F 28) Rr).2.1) hx hb hr (fun t9 ht9 hW9 => ⟨⟨_, (gF (va_up F 0 0) (m_goThrough (F 26) (F 28) Rr).1 (m_goThrough (F 26) (F 28) Rr).2.1 (m_goThrough (F 26) (F 28) Rr).2.2, Rr), rfl, (by simp only [m_agree]; rw [if_neg (by rw [c_1]; decide)]; simp [up_s, up_n, c_2, c_3]), by show va_P _ _ _ t9.heap; rw [ht9]; exact M.1⟩, M.2.2.F ht9⟩) M.2.2.2.2 dX2_agree_51
    · -- c_2: p1 = 0
      refine lv_aload_n hx hb dX2_agree_28 rfl (lv_at hl 0 rfl) ?_
      refine mg_34 X M (v := (m_goThrough (F 26) (F 28) Rr).1) rfl dX2_agree_29 ?_
      refine lv_goto (tgt := 51) hx hb dX2_agree_32 (by decide) ?_
      exact W.iret (v := (m_goThrough (F 26) (F 28) Rr).1) hx hb hr (fun t9 ht9 hW9 => ⟨⟨_, (gF (va_up F 0 0) (m_goThrough (F 26) (F 28) Rr).1 (m_goThrough (F 26) (F 28) Rr).2.1 (m_goThrough (F 26) (F 28) Rr).2.2, Rr), rfl, (by simp only [m_agree]; rw [if_neg (by rw [c_1]; decide)]; simp [up_s, up_n, c_2]), by show va_P _ _ _ t9.heap; rw [ht9]; exact M.1⟩, M.2.2.F ht9⟩) M.2.2.2.2 dX2_agree_51
  · -- c_1: inB 0 2 p1 = false
    refine lv_ldc (v := (-1000001)) hx hb hown (hts _ q1627) dX2_agree_17 ?_
    exact W.iret (v := (-1000001)) hx hb hr (fun t9 ht9 hW9 => ⟨⟨_, (va_up F 0 0, Rr), rfl, (by simp [m_agree, c_1]), by show va_P _ _ _ t9.heap; rw [ht9]; exact M.1⟩, M.2.2.F ht9⟩) M.2.2.2.2 dX2_agree_19

