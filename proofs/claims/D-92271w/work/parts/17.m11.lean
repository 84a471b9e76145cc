/-! THE REFERENCE, 11: laws() -/
def pI (z : Nat) (st : pS) : Prop := st.1 ≤ z ∧ 0 ≤ st.2.1 ∧ st.2.2.2 ≤ 30
theorem p_bad_I {z : Nat} {st : pS} {k : Int32} (h : pI z st) (hk : 0 ≤ k) : pI z (p_bad st k) := by
  refine ⟨h.1, ?_, h.2.2⟩
  show 0 ≤ (if st.2.1 = 0 then k else st.2.1)
  split
  · exact hk
  · exact h.2.1
theorem p_pre_I {z : Nat} {st : pS} {so : Bool} (h : pI z st) : pI z (p_pre st so) := by
  unfold p_pre; split
  · exact h
  · exact p_bad_I h (by decide)
theorem p_need_f {T : Nat → Int32} {z : Nat} {st : pS} {so : Bool} : (p_need T z st so).2 = (p_pre st so).2 := by
  unfold p_need p_step; split <;> rfl
theorem p_need_I {T : Nat → Int32} {z : Nat} {st : pS} {so : Bool} (h : pI z st) : pI z (p_need T z st so) :=
  ⟨p_need_le h.1, by rw [p_need_f]; exact (p_pre_I h).2.1, by rw [p_need_n]; exact h.2.2⟩
theorem p_need_ge {T : Nat → Int32} {z : Nat} {st : pS} {so : Bool} (h : st.1 ≤ z) : st.1 ≤ (p_need T z st so).1 := by
  unfold p_need
  split
  · show st.1 ≤ tkSk T z (tkE T z (p_pre st so).1)
    rw [p_pre_1]
    have h1 := tkE_le (T := T) h
    have h2 := tkSk_le (T := T) h1.2
    omega
  · rw [p_pre_1]; exact Nat.le_refl _
theorem p_need_gt {T : Nat → Int32} {z : Nat} {st : pS} (h : st.1 ≤ z) (hf : st.2.1 = 0) (ha : st.1 < tkE T z st.1) : st.1 < (p_need T z st true).1 := by
  have e : p_need T z st true = p_step T z st := by simp [p_need, p_pre, hf]
  rw [e]
  show st.1 < tkSk T z (tkE T z st.1)
  have h2 := tkSk_le (T := T) (tkE_le (T := T) h).2
  omega
theorem p_num_I {T : Nat → Int32} {z : Nat} {st : pS} {most : Int32} (h : pI z st) : pI z (p_num T z st most).2 := by
  unfold p_num
  split
  · exact h
  · refine p_need_I ?_
    split
    · exact p_bad_I h (by decide)
    · exact h
theorem p_num_ge {T : Nat → Int32} {z : Nat} {st : pS} {most : Int32} (h : st.1 ≤ z) : st.1 ≤ (p_num T z st most).2.1 := by
  unfold p_num
  split
  · exact Nat.le_refl _
  · have e : (if tkK T z st.1 = 3 ∧ most < p_val T z st.1 then p_bad st 2 else st).1 = st.1 := by split <;> rfl
    have := p_need_ge (T := T) (so := decide (tkK T z st.1 = 3)) (st := if tkK T z st.1 = 3 ∧ most < p_val T z st.1 then p_bad st 2 else st) (by rw [e]; exact h)
    rw [e] at this
    exact this
theorem p_word_pos {T : Nat → Int32} {z a : Nat} (h : ¬ p_word T z a = 0) : tkK T z a = 2 ∧ a < tkE T z a := by
  unfold p_word at h
  split at h
  · rename_i q
    refine ⟨q.1, ?_⟩
    rcases Nat.lt_or_ge a (tkE T z a) with y | y
    · exact y
    · rw [show tkE T z a - a = 0 by omega] at h; exact absurd rfl h
  · exact absurd rfl h
theorem p_law_pos {T : Nat → Int32} {z a : Nat} (h : ¬ p_law T z a = (-1000000)) : tkK T z a = 2 ∧ a < tkE T z a :=
  p_word_pos (fun q => h (by unfold p_law; rw [q]; decide))
theorem p_rl1_go {T : Nat → Int32} {z : Nat} {st : pS} (hI : pI z st) (hf : st.2.1 = 0) (h : ¬ 0 < (p_rl1 T z st).2.1) : ¬ p_law T z st.1 = (-1000000) ∧ st.2.2.2 < 30 ∧ p_rl1 T z st = p_need T z st true ∧ st.1 < (p_rl1 T z st).1 := by
  by_cases hl : p_law T z st.1 = (-1000000)
  · exfalso; apply h
    have e : p_rl1 T z st = p_need T z st false := by unfold p_rl1; simp [hl]
    rw [e, p_need_b1 hf]; decide
  · by_cases hn : st.2.2.2 = 30
    · exfalso; apply h
      have e : p_rl1 T z st = p_need T z (p_bad st 3) true := by unfold p_rl1; simp [hl, hn]
      rw [e, p_need_b3 hf]; decide
    · have e : p_rl1 T z st = p_need T z st true := by unfold p_rl1; simp [hl, hn]
      refine ⟨hl, by have := hI.2.2; omega, e, ?_⟩
      rw [e]; exact p_need_gt hI.1 hf (p_law_pos hl).2
theorem p_of_I {T : Nat → Int32} {z : Nat} {st : pS} {w : Int32} (h : pI z st) : pI z (p_of T z st w).2 := by
  unfold p_of; split; exact h; exact p_num_I h
theorem p_of_ge {T : Nat → Int32} {z : Nat} {st : pS} {w : Int32} (h : st.1 ≤ z) : st.1 ≤ (p_of T z st w).2.1 := by
  unfold p_of; split; exact Nat.le_refl _; exact p_num_ge h
theorem p_am_I {T : Nat → Int32} {z : Nat} {st : pS} {w : Int32} (h : pI z st) : pI z (p_am T z st w).2 := by
  unfold p_am; split; exact p_num_I h; exact h
theorem p_am_ge {T : Nat → Int32} {z : Nat} {st : pS} {w : Int32} (h : st.1 ≤ z) : st.1 ≤ (p_am T z st w).2.1 := by
  unfold p_am; split; exact p_num_ge h; exact Nat.le_refl _
theorem p_rl1_I {T : Nat → Int32} {z : Nat} {st : pS} (h : pI z st) : pI z (p_rl1 T z st) := by
  unfold p_rl1; refine p_need_I ?_; split; exact p_bad_I h (by decide); exact h
theorem p_rl2_I {T : Nat → Int32} {z : Nat} {st : pS} {w : Int32} (h : pI z st) : pI z (p_rl2 T z st w).1 ∧ st.1 ≤ (p_rl2 T z st w).1.1 := by
  have i2 := p_of_I (T := T) (w := w) h
  exact ⟨p_am_I i2, Nat.le_trans (p_of_ge h.1) (p_am_ge i2.1)⟩
theorem p_rl_pos {T : Nat → Int32} {z : Nat} {st : pS} {R : Nat → Nat → Int32} {day : Int32} (h : 0 < (p_rl1 T z st).2.1) : (p_rl T z st R day).1 = p_rl1 T z st := by unfold p_rl; rw [if_pos h]
theorem p_rl_neg {T : Nat → Int32} {z : Nat} {st : pS} {R : Nat → Nat → Int32} {day : Int32} (h : ¬ 0 < (p_rl1 T z st).2.1) : (p_rl T z st R day).1 = ((p_rl2 T z (p_rl1 T z st) (p_law T z st.1)).1.1, (p_rl2 T z (p_rl1 T z st) (p_law T z st.1)).1.2.1, (p_rl2 T z (p_rl1 T z st) (p_law T z st.1)).1.2.2.1, st.2.2.2 + 1) := by unfold p_rl; rw [if_neg h]
theorem p_rl1_ge {T : Nat → Int32} {z : Nat} {st : pS} (h : st.1 ≤ z) : st.1 ≤ (p_rl1 T z st).1 := by
  unfold p_rl1
  generalize (!decide (p_law T z st.1 = (-1000000))) = so
  split
  · exact p_need_ge (st := p_bad st 3) h
  · exact p_need_ge h
theorem p_rl_go {T : Nat → Int32} {z : Nat} {st : pS} {R : Nat → Nat → Int32} {day : Int32} (hI : pI z st) (hf : st.2.1 = 0) : pI z (p_rl T z st R day).1 ∧ st.1 ≤ (p_rl T z st R day).1.1 ∧ ((p_rl T z st R day).1.2.1 = 0 → st.1 < (p_rl T z st R day).1.1) := by
  by_cases h : 0 < (p_rl1 T z st).2.1
  · rw [p_rl_pos h]
    refine ⟨p_rl1_I hI, p_rl1_ge hI.1, fun q => ?_⟩
    rw [q] at h; exact absurd h (by decide)
  · rw [p_rl_neg h]
    obtain ⟨hl, hn, e, hlt⟩ := p_rl1_go hI hf h
    obtain ⟨i3, g3⟩ := p_rl2_I (T := T) (w := p_law T z st.1) (p_rl1_I (T := T) hI)
    generalize p_rl2 T z (p_rl1 T z st) (p_law T z st.1) = y at i3 g3
    generalize p_rl1 T z st = x at g3 hlt
    refine ⟨⟨i3.1, i3.2.1, ?_⟩, ?_, fun _ => ?_⟩
    · show st.2.2.2 + 1 ≤ 30; omega
    · show st.1 ≤ y.1.1; omega
    · show st.1 < y.1.1; omega
theorem wh_inv {α : Type} {c : α → Bool} {b : α → α} {μ : α → Nat} {I : α → Prop} (hI : ∀ a, I a → c a = true → I (b a)) {a : α} (ha : I a) : I (wh c b μ a) := by
  unfold wh
  generalize μ a + 1 = n
  induction n generalizing a with
  | zero => exact ha
  | succ n ih =>
    show I (if c a = true then whl c b n (b a) else a)
    split
    · rename_i h; exact ih (hI a ha h)
    · exact ha
abbrev lwX : Type := pS × (Nat → Nat → Int32) × Bool
def lwIn (T : Nat → Int32) (z : Nat) (day : Int32) (x : lwX) : lwX := ((p_rl T z x.1 x.2.1 day).1, (p_rl T z x.1 x.2.1 day).2, decide ((p_rl T z x.1 x.2.1 day).1.2.1 = 0) && !decide (p_law T z (p_rl T z x.1 x.2.1 day).1.1 = (-1000000)))
def lwM (z : Nat) (x : lwX) : Nat := if x.2.2 = true then z + 2 - x.1.1 else 0
def lwRun (T : Nat → Int32) (z : Nat) (day : Int32) (x : lwX) : lwX := wh (fun x => x.2.2) (lwIn T z day) (lwM z) x
def lwI (z a0 : Nat) (x : lwX) : Prop := pI z x.1 ∧ a0 ≤ x.1.1 ∧ (x.2.2 = true → x.1.2.1 = 0)
theorem lwIn_go {T : Nat → Int32} {z a0 : Nat} {day : Int32} : ∀ x : lwX, lwI z a0 x → x.2.2 = true → lwI z a0 (lwIn T z day x) ∧ lwM z (lwIn T z day x) < lwM z x := by
  intro x hx hc
  obtain ⟨h1, h2, h3⟩ := p_rl_go (T := T) (R := x.2.1) (day := day) hx.1 (hx.2.2 hc)
  have h0 := hx.1.1
  have h4 := hx.2.1
  unfold lwIn lwM lwI
  generalize p_rl T z x.1 x.2.1 day = y at h1 h2 h3
  rw [if_pos hc]
  refine ⟨⟨h1, Nat.le_trans h4 h2, fun q => ?_⟩, ?_⟩
  · simp at q; exact q.1
  · have h5 := h1.1
    split
    · rename_i q
      simp at q
      have := h3 q.1
      show z + 2 - y.1.1 < z + 2 - x.1.1
      omega
    · omega
theorem lwRun_f {T : Nat → Int32} {z : Nat} {day : Int32} {s : pS} {R : Nat → Nat → Int32} (h : ¬ s.2.1 = 0) : lwRun T z day (s, R, decide (s.2.1 = 0)) = (s, R, false) := by
  rw [decide_eq_false h]; exact wh_f rfl
theorem lwRun_I {T : Nat → Int32} {z : Nat} {day : Int32} {s : pS} {R : Nat → Nat → Int32} (h : pI z s) : lwI z s.1 (lwRun T z day (s, R, decide (s.2.1 = 0))) := by
  have h0 : lwI z s.1 (s, R, decide (s.2.1 = 0)) := ⟨h, Nat.le_refl _, fun q => of_decide_eq_true q⟩
  exact wh_inv (I := lwI z s.1) (c := fun x => x.2.2) (b := lwIn T z day) (μ := lwM z) (fun a ha h => (lwIn_go a ha h).1) h0
abbrev loX : Type := pS × (Nat → Nat → Int32)
def loA (T : Nat → Int32) (z : Nat) (st : pS) : Int32 × pS := p_num T z (p_need T z st (decide (p_word T z st.1 = 1718775661))) 999
def loF (T : Nat → Int32) (z : Nat) (y : lwX) : loX := (if y.1.2.1 = 0 then p_need T z y.1 (decide (tkK T z y.1.1 = 4)) else y.1, y.2.1)
def loOut (T : Nat → Int32) (z : Nat) (x : loX) : loX := loF T z (lwRun T z (loA T z x.1).1 ((loA T z x.1).2, x.2, decide ((loA T z x.1).2.2.1 = 0)))
def loC (T : Nat → Int32) (z : Nat) (x : loX) : Bool := decide (x.1.2.1 = 0) && !decide (tkK T z x.1.1 = 1)
def loM (z : Nat) (x : loX) : Nat := if x.1.2.1 = 0 then z + 2 - x.1.1 else 0
theorem loF_go {T : Nat → Int32} {z : Nat} {y : lwX} (h : pI z y.1) : pI z (loF T z y).1 ∧ y.1.1 ≤ (loF T z y).1.1 ∧ (¬ y.1.2.1 = 0 → (loF T z y).1 = y.1) := by
  unfold loF
  refine ⟨?_, ?_, fun q => if_neg q⟩
  · show pI z (if y.1.2.1 = 0 then p_need T z y.1 (decide (tkK T z y.1.1 = 4)) else y.1)
    split
    · exact p_need_I h
    · exact h
  · show y.1.1 ≤ (if y.1.2.1 = 0 then p_need T z y.1 (decide (tkK T z y.1.1 = 4)) else y.1).1
    split
    · exact p_need_ge h.1
    · exact Nat.le_refl _
theorem loA_go {T : Nat → Int32} {z : Nat} {st : pS} (h : pI z st) (hf : st.2.1 = 0) : pI z (loA T z st).2 ∧ st.1 ≤ (loA T z st).2.1 ∧ ((loA T z st).2.2.1 = 0 → st.1 < (loA T z st).2.1) := by
  unfold loA
  by_cases hw : p_word T z st.1 = 1718775661
  · rw [decide_eq_true hw]
    have g1 := p_need_gt h.1 hf (p_word_pos (by rw [hw]; decide)).2
    have i1 := p_need_I (T := T) (so := true) h
    have g2 := p_num_ge (T := T) (most := 999) i1.1
    exact ⟨p_num_I i1, by omega, fun _ => by omega⟩
  · rw [decide_eq_false hw]
    have i1 := p_need_I (T := T) (so := false) h
    have g1 := p_need_ge (T := T) (so := false) h.1
    have e := p_need_b1 (T := T) (z := z) hf
    generalize p_need T z st false = y at i1 g1 e
    have e2 : (p_num T z y 999).2 = y := by unfold p_num; rw [if_pos (by rw [e]; decide)]
    rw [e2]
    exact ⟨i1, g1, fun q => by rw [e] at q; exact absurd q (by decide)⟩
theorem loOut_go {T : Nat → Int32} {z : Nat} : ∀ x : loX, pI z x.1 → loC T z x = true → pI z (loOut T z x).1 ∧ loM z (loOut T z x) < loM z x := by
  intro x hx hc
  have hf : x.1.2.1 = 0 := by unfold loC at hc; simp at hc; exact hc.1
  obtain ⟨iA, gA, lA⟩ := loA_go (T := T) hx hf
  unfold loOut
  generalize loA T z x.1 = A at iA gA lA
  have hB := lwRun_I (T := T) (day := A.1) (R := x.2) iA
  have hN := fun h => lwRun_f (T := T) (z := z) (day := A.1) (R := x.2) (s := A.2) h
  generalize lwRun T z A.1 (A.2, x.2, decide (A.2.2.1 = 0)) = y at hB hN
  obtain ⟨iF, gF, nF⟩ := loF_go (T := T) hB.1
  refine ⟨iF, ?_⟩
  have h0 := hx.1
  have h1 := hB.2.1
  have h2 := iF.1
  unfold loM
  rw [if_pos hf]
  split
  · rename_i q
    by_cases hA0 : A.2.2.1 = 0
    · have := lA hA0
      omega
    · exfalso
      have e := hN hA0
      have e2 : y.1.2.1 = A.2.2.1 := by rw [e]
      rw [nF (by rw [e2]; exact hA0), e2] at q
      exact hA0 q
  · omega
theorem pF_init {F T : Nat → Int32} {z n a : Nat} : tS (va_up (va_up (va_up (va_up (va_up (va_up F 0 0) 19 (nI z)) 17 0) 20 0) 24 0) 15 (nI n)) T z a = pF (va_up (va_up F 0 0) 17 0) T z (a, 0, F 25, n) := by
  funext j; unfold pF tS va_up; grind
theorem itr_R16 {st : Nat → Nat → Int32} {k j : Nat} {x : Int32} (h : k ≠ 16) : mset st k j x 16 = st 16 := by unfold mset va_up; simp [Ne.symm h]
theorem p_rl_16 {T : Nat → Int32} {z : Nat} {st : pS} {R : Nat → Nat → Int32} {day : Int32} : (p_rl T z st R day).2 16 = R 16 := by
  unfold p_rl
  split
  · rfl
  · rfl
theorem p_rl_e {T : Nat → Int32} {z : Nat} {st s1 : pS} {R R1 : Nat → Nat → Int32} {day : Int32} (e : (s1, R1) = p_rl T z st R day) (hI : pI z st) (hf : st.2.1 = 0) : pI z s1 ∧ R1 16 = R 16 := by
  have h1 := (p_rl_go (T := T) (R := R) (day := day) hI hf).1
  have h2 := p_rl_16 (T := T) (z := z) (st := st) (R := R) (day := day)
  rw [← e] at h1 h2
  exact ⟨h1, h2⟩
def m_lawsEnd (F : Nat → Int32) (Rr : Nat → Nat → Int32) : loX := wh (loC (Rr 16) (F 17).toNatClampNeg) (loOut (Rr 16) (F 17).toNatClampNeg) (loM (F 17).toNatClampNeg) ((tkSk (Rr 16) (F 17).toNatClampNeg 0, 0, F 25, (F 10).toNatClampNeg), Rr)
def m_lawsF (G : Nat → Int32) (T : Nat → Int32) (z : Nat) (x : loX) : Int32 × mST := if 0 < x.1.2.1 then (-1000100 - x.1.2.2.1, va_up (pF G T z x.1) 18 x.1.2.1, x.2) else (nI x.1.2.2.2, va_up (pF G T z x.1) 10 (nI x.1.2.2.2), x.2)
def m_laws (F : Nat → Int32) (Rr : Nat → Nat → Int32) : Int32 × mST := m_lawsF (va_up F 17 0) (Rr 16) (F 17).toNatClampNeg (m_lawsEnd F Rr)
set_option maxHeartbeats 4000000 in
set_option maxRecDepth 100000 in
theorem metX2_laws (l : Launch) (D : va_G) (cl : List vw_C) (hcl : cl[0]? = some (RX2, TX2, 61)) (h : Nat) (ad : Nat → Nat) (dA : ClassId) (F : Nat → Int32) (Rr : Nat → Nat → Int32) (h10 : cnB (F 10) 30) (h17 : cnB (F 17) 400) : Met l yX2_laws (ws_ yX2_laws cX2_laws 3 (some .int)) ({ frames := 5, cells := 0, slots := 0, locals := 108 } : Room) (va_Pc [.ref h] (mPre D cl h ad dA F Rr)) (va_Qi (fun r u => (r, u) = m_laws (va_up F 0 0) Rr) (mB D cl h ad dA) (mN h ad)) 0 0 (mN h ad) := by
  refine Met.ofW (cc := cX2_laws) (maxL := 3) (ret := (some .int)) (by decide) rfl ?_
  intro p e s m args below meth c s₁ B hml hv
  obtain ⟨rfl, hK, hP, hD⟩ := hv
  have hx := B.exec
  have hb := B.bytes
  have hr := B.returns
  have hts := atoms_spec (ws := (ws_ yX2_laws cX2_laws 3 (some .int))) B.pre
  have hts : ∀ w ∈ lw_all, w.before _ s = true := fun w h => hts w (List.mem_cons_of_mem _ h)
  have hown : s.vm.findClass RX2 = some m.cls := findClass_of_methodNamed B.named
  have hlocks := B.notSynchronized
  have S : CallFix p m c cX2_laws 3 s ([.ref h] : List Value).toArray lw_all RX2 := ⟨hx, hb, hml, hown, hts⟩
  have X : mX p s m ([.ref h] : List Value).toArray c cX2_laws 3 D cl dA := ⟨hx, hb, hml, hown, hts, hK, hcl⟩
  have M : mM D cl h ad dA (mN h ad) s F Rr s.heap [] := ⟨hP, mW_self hD, va_S.rf⟩
  have hl := lv_entry ([.ref h]) (n := 3) (Nat.le_of_ble_eq_true rfl)
  rw [lg_entry_eq]
  generalize (lg_sl ([.ref h]) ++ List.replicate (3 - (lg_sl ([.ref h])).length) Slot.unset).toArray = ls at hl ⊢
  have hl : lv_has ls 3 [(0, .ref h)] := hl
  obtain ⟨z, hz4, ez⟩ := cnB_ex h17 (n := 400) rfl
  have ez2 : (F 17).toNatClampNeg = z := by rw [ez]; exact nI_clamp (by omega)
  obtain ⟨n10, hn10, en10⟩ := cnB_ex h10 (n := 30) rfl
  have em10 : (F 10).toNatClampNeg = n10 := by rw [en10]; exact nI_clamp (by omega)
  have ec10 : (nI n10).toNatClampNeg = n10 := nI_clamp (by omega)
  refine lv_aload_n hx hb dX2_laws_0 rfl (lv_at hl 0 rfl) ?_
  refine lv_iconst (v := 0) hx hb dX2_laws_1 (by decide) ?_
  refine mp_0 X M dX2_laws_2 (fun H locs M => ?_)
  refine lv_aload_n hx hb dX2_laws_5 rfl (lv_at hl 0 rfl) ?_
  refine lv_aload_n hx hb dX2_laws_6 rfl (lv_at hl 0 rfl) ?_
  refine mg_17 X M (v := F 17) rfl dX2_laws_7 ?_
  refine lv_asi (y := nI z) ez ?_
  refine mp_19 X M dX2_laws_10 (fun H locs M => ?_)
  refine lv_aload_n hx hb dX2_laws_13 rfl (lv_at hl 0 rfl) ?_
  refine lv_iconst (v := 0) hx hb dX2_laws_14 (by decide) ?_
  refine mp_17 X M dX2_laws_15 (fun H locs M => ?_)
  refine lv_aload_n hx hb dX2_laws_18 rfl (lv_at hl 0 rfl) ?_
  refine lv_iconst (v := 0) hx hb dX2_laws_19 (by decide) ?_
  refine mp_20 X M dX2_laws_20 (fun H locs M => ?_)
  refine lv_aload_n hx hb dX2_laws_23 rfl (lv_at hl 0 rfl) ?_
  refine lv_iconst (v := 0) hx hb dX2_laws_24 (by decide) ?_
  refine mp_24 X M dX2_laws_25 (fun H locs M => ?_)
  refine lv_aload_n hx hb dX2_laws_28 rfl (lv_at hl 0 rfl) ?_
  refine lv_aload_n hx hb dX2_laws_29 rfl (lv_at hl 0 rfl) ?_
  refine mg_10 X M (v := F 10) rfl dX2_laws_30 ?_
  refine lv_asi (y := nI n10) en10 ?_
  refine mp_15 X M dX2_laws_33 (fun H locs M => ?_)
  refine lv_aload_n hx hb dX2_laws_36 rfl (lv_at hl 0 rfl) ?_
  refine m_cUv (As := []) (rest := []) X M (metX2_step l D cl hcl h ad dA (va_up (va_up (va_up (va_up (va_up (va_up F 0 0) 19 (nI z)) 17 0) 20 0) 24 0) 15 (nI n10)) Rr z 0 rfl hz4 rfl (Nat.zero_le _)) (cwV 0 hts (lw_V q1681 q1683 qs28 q62 q1684) rfl rfl rfl (by decide +kernel) ⟨Nat.le_of_ble_eq_true rfl, Nat.le_of_ble_eq_true rfl⟩) rfl hl.1 rfl (Nat.le_of_ble_eq_true rfl) dX2_laws_37 ⟨Nat.zero_le _, Nat.zero_le _⟩ (fun F9 R9 hr9 H locs M => ?_)
  obtain ⟨G, eG⟩ : ∃ x9, x9 = va_up (va_up F 0 0) 17 0 := ⟨_, rfl⟩
  obtain ⟨rfl, rfl⟩ : F9 = pF G (Rr 16) z (tkSk (Rr 16) z 0, 0, F 25, n10) ∧ Rr = R9 := ⟨(congrArg Prod.fst hr9).trans (by rw [eG]; exact pF_init), (congrArg Prod.snd hr9).symm⟩
  have L_1 : ∀ (fuL_1 : Nat) (st : pS) (R1 : Nat → Nat → Int32), (pI z st) → (R1 16 = Rr 16) → (wh (loC (Rr 16) z) (loOut (Rr 16) z) (loM z) (st, R1) = wh (loC (Rr 16) z) (loOut (Rr 16) z) (loM z) ((tkSk (Rr 16) z 0, 0, F 25, n10), Rr)) → loM z (st, R1) < fuL_1 → ∀ (H : Heap) (locs : List Loc), mM D cl h ad dA (mN h ad) s (pF G (Rr 16) z st) R1 H locs → ∀ ls, lv_has ls 3 [(0, .ref h)] → W p l e ({ frames := 5, cells := 0, slots := 0, locals := 108 } : Room) s m ([.ref h] : List Value).toArray below meth c H locs 0 0 (MQ below (va_Qi (fun r u => (r, u) = m_laws (va_up F 0 0) Rr) (mB D cl h ad dA) (mN h ad)) ([.ref h] : List Value).toArray s 0 0 (mN h ad)) (F0 m 40 ls []) := by
    intro fuL_1
    induction fuL_1 with
    | zero => intro st R1 hI hT hfin hfuL_1; exact absurd hfuL_1 (Nat.not_lt_zero _)
    | succ fuL_1 L_1ih =>
      intro st R1 hI hT hfin hfuL_1 H locs M ls hl
      refine lv_aload_n hx hb dX2_laws_40 rfl (lv_at hl 0 rfl) ?_
      refine mg_24 X M (v := st.2.1) rfl dX2_laws_41 ?_
      refine lv_if_ne (tgt := 157) hx hb dX2_laws_44 (by decide) (fun c_2 => ?_) (fun c_2 => ?_)
      · -- c_2: st.2.1 ≠ 0
        have eF : m_lawsEnd F Rr = (st, R1) := by unfold m_lawsEnd; rw [ez2, em10, ← hfin]; exact wh_f (c := loC (Rr 16) z) (b := loOut (Rr 16) z) (μ := loM z) (a := (st, R1)) (by simp [loC, c_2])
        refine lv_aload_n hx hb dX2_laws_157 rfl (lv_at hl 0 rfl) ?_
        refine mg_24 X M (v := st.2.1) rfl dX2_laws_158 ?_
        refine lb_if_le (tgt := 180) hx hb dX2_laws_161 (by decide) (fun c_3 c_3' => ?_) (fun c_3 c_3' => ?_)
        · -- c_3: st.2.1 ≤ 0
          refine lv_aload_n hx hb dX2_laws_180 rfl (lv_at hl 0 rfl) ?_
          refine lv_aload_n hx hb dX2_laws_181 rfl (lv_at hl 0 rfl) ?_
          refine mg_15 X M (v := nI st.2.2.2) rfl dX2_laws_182 ?_
          refine mp_10 X M dX2_laws_185 (fun H locs M => ?_)
          refine lv_aload_n hx hb dX2_laws_188 rfl (lv_at hl 0 rfl) ?_
          refine mg_10 X M (v := nI st.2.2.2) rfl dX2_laws_189 ?_
          exact W.iret (v := nI st.2.2.2) hx hb hr (fun t9 ht9 hW9 => ⟨⟨_, (va_up (pF G (Rr 16) z st) 10 (nI st.2.2.2), R1), rfl, (by show _ = m_lawsF (va_up (va_up F 0 0) 17 0) (Rr 16) (F 17).toNatClampNeg (m_lawsEnd F Rr); rw [eF, ez2, ← eG]; unfold m_lawsF; first | (rw [if_pos c_3]; done) | (rw [if_neg c_3']; done)), by show va_P _ _ _ t9.heap; rw [ht9]; exact M.1⟩, M.2.2.F ht9⟩) M.2.2.2.2 dX2_laws_192
        · -- c_3: st.2.1 > 0
          refine lv_aload_n hx hb dX2_laws_164 rfl (lv_at hl 0 rfl) ?_
          refine lv_aload_n hx hb dX2_laws_165 rfl (lv_at hl 0 rfl) ?_
          refine mg_24 X M (v := st.2.1) rfl dX2_laws_166 ?_
          refine mp_18 X M dX2_laws_169 (fun H locs M => ?_)
          refine lv_ldc (v := (-1000100)) hx hb hown (hts _ q1727) dX2_laws_172 ?_
          refine lv_aload_n hx hb dX2_laws_174 rfl (lv_at hl 0 rfl) ?_
          refine mg_25 X M (v := st.2.2.1) rfl dX2_laws_175 ?_
          refine lv_isub hx hb dX2_laws_178 ?_
          exact W.iret (v := (-1000100) - st.2.2.1) hx hb hr (fun t9 ht9 hW9 => ⟨⟨_, (va_up (pF G (Rr 16) z st) 18 st.2.1, R1), rfl, (by show _ = m_lawsF (va_up (va_up F 0 0) 17 0) (Rr 16) (F 17).toNatClampNeg (m_lawsEnd F Rr); rw [eF, ez2, ← eG]; unfold m_lawsF; first | (rw [if_pos c_3]; done) | (rw [if_neg c_3']; done)), by show va_P _ _ _ t9.heap; rw [ht9]; exact M.1⟩, M.2.2.F ht9⟩) M.2.2.2.2 dX2_laws_179
      · -- c_2: st.2.1 = 0
        refine lv_aload_n hx hb dX2_laws_47 rfl (lv_at hl 0 rfl) ?_
        refine mg_21 X M (v := tkK (Rr 16) z st.1) rfl dX2_laws_48 ?_
        refine lv_iconst (v := 1) hx hb dX2_laws_51 (by decide) ?_
        refine lv_icmp_eq (tgt := 157) hx hb dX2_laws_52 (by decide) (fun c_4 => ?_) (fun c_4 => ?_)
        · -- c_4: tkK (Rr 16) z st.1 = 1
          have eF : m_lawsEnd F Rr = (st, R1) := by unfold m_lawsEnd; rw [ez2, em10, ← hfin]; exact wh_f (c := loC (Rr 16) z) (b := loOut (Rr 16) z) (μ := loM z) (a := (st, R1)) (by simp [loC, c_2, c_4])
          refine lv_aload_n hx hb dX2_laws_157 rfl (lv_at hl 0 rfl) ?_
          refine mg_24 X M (v := st.2.1) rfl dX2_laws_158 ?_
          refine lb_if_le (tgt := 180) hx hb dX2_laws_161 (by decide) (fun c_5 c_5' => ?_) (fun c_5 c_5' => ?_)
          · -- c_5: st.2.1 ≤ 0
            refine lv_aload_n hx hb dX2_laws_180 rfl (lv_at hl 0 rfl) ?_
            refine lv_aload_n hx hb dX2_laws_181 rfl (lv_at hl 0 rfl) ?_
            refine mg_15 X M (v := nI st.2.2.2) rfl dX2_laws_182 ?_
            refine mp_10 X M dX2_laws_185 (fun H locs M => ?_)
            refine lv_aload_n hx hb dX2_laws_188 rfl (lv_at hl 0 rfl) ?_
            refine mg_10 X M (v := nI st.2.2.2) rfl dX2_laws_189 ?_
            exact W.iret (v := nI st.2.2.2) hx hb hr (fun t9 ht9 hW9 => ⟨⟨_, (va_up (pF G (Rr 16) z st) 10 (nI st.2.2.2), R1), rfl, (by show _ = m_lawsF (va_up (va_up F 0 0) 17 0) (Rr 16) (F 17).toNatClampNeg (m_lawsEnd F Rr); rw [eF, ez2, ← eG]; unfold m_lawsF; first | (rw [if_pos c_5]; done) | (rw [if_neg c_5']; done)), by show va_P _ _ _ t9.heap; rw [ht9]; exact M.1⟩, M.2.2.F ht9⟩) M.2.2.2.2 dX2_laws_192
          · -- c_5: st.2.1 > 0
            refine lv_aload_n hx hb dX2_laws_164 rfl (lv_at hl 0 rfl) ?_
            refine lv_aload_n hx hb dX2_laws_165 rfl (lv_at hl 0 rfl) ?_
            refine mg_24 X M (v := st.2.1) rfl dX2_laws_166 ?_
            refine mp_18 X M dX2_laws_169 (fun H locs M => ?_)
            refine lv_ldc (v := (-1000100)) hx hb hown (hts _ q1727) dX2_laws_172 ?_
            refine lv_aload_n hx hb dX2_laws_174 rfl (lv_at hl 0 rfl) ?_
            refine mg_25 X M (v := st.2.2.1) rfl dX2_laws_175 ?_
            refine lv_isub hx hb dX2_laws_178 ?_
            exact W.iret (v := (-1000100) - st.2.2.1) hx hb hr (fun t9 ht9 hW9 => ⟨⟨_, (va_up (pF G (Rr 16) z st) 18 st.2.1, R1), rfl, (by show _ = m_lawsF (va_up (va_up F 0 0) 17 0) (Rr 16) (F 17).toNatClampNeg (m_lawsEnd F Rr); rw [eF, ez2, ← eG]; unfold m_lawsF; first | (rw [if_pos c_5]; done) | (rw [if_neg c_5']; done)), by show va_P _ _ _ t9.heap; rw [ht9]; exact M.1⟩, M.2.2.F ht9⟩) M.2.2.2.2 dX2_laws_179
        · -- c_4: tkK (Rr 16) z st.1 ≠ 1
          refine lv_aload_n hx hb dX2_laws_55 rfl (lv_at hl 0 rfl) ?_
          refine lv_aload_n hx hb dX2_laws_56 rfl (lv_at hl 0 rfl) ?_
          refine m_cQl (v := p_word (Rr 16) z st.1) (As := []) (rest := [.ref h]) X M (metX2_word l D cl hcl h ad dA G R1 (Rr 16) hT z st  hz4 hI.1) (cwV 0 hts (lw_V q1695 q1697 qs30 q62 q1698) rfl rfl rfl (by decide +kernel) ⟨Nat.le_of_ble_eq_true rfl, Nat.le_of_ble_eq_true rfl⟩) rfl hl.1 rfl (Nat.le_of_ble_eq_true rfl) dX2_laws_57 ⟨Nat.zero_le _, Nat.zero_le _⟩ ?_
          refine lv_ldc2 (v := 1718775661) hx hb hown (hts _ q1699) dX2_laws_60 ?_
          refine W.lcmp hx hb dX2_laws_63 ?_
          refine lc_if_ne (tgt := 71) hx hb dX2_laws_64 (by decide) (fun c_6 => ?_) (fun c_6 => ?_)
          · -- c_6: p_word (Rr 16) z st.1 ≠ 1718775661
            refine lv_iconst (v := 0) hx hb dX2_laws_71 (by decide) ?_
            refine m_cUv (As := [.int 0]) (rest := []) X M (metX2_need l D cl hcl h ad dA G R1 (Rr 16) hT z st false hz4 hI.1) (cwV 1 hts (lw_V q1700 q1702 qs31 q62 q1703) rfl rfl rfl (by decide +kernel) ⟨Nat.le_of_ble_eq_true rfl, Nat.le_of_ble_eq_true rfl⟩) rfl hl.1 rfl (Nat.le_of_ble_eq_true rfl) dX2_laws_72 ⟨Nat.zero_le _, Nat.zero_le _⟩ (fun F9 R9 hr9 H locs M => ?_)
            obtain ⟨rfl, rfl⟩ : F9 = pF G (Rr 16) z (p_need (Rr 16) z st false) ∧ R1 = R9 := ⟨congrArg Prod.fst hr9, (congrArg Prod.snd hr9).symm⟩
            obtain ⟨st_7, est_7⟩ : ∃ x9, x9 = p_need (Rr 16) z st false := ⟨_, rfl⟩
            rw [← est_7] at M
            have hst_7 : st_7.1 ≤ z := by rw [est_7]; exact p_need_le hI.1
            have nst_7 : st_7.2.2.2 = (st).2.2.2 := by rw [est_7]; exact p_need_n
            refine lv_aload_n hx hb dX2_laws_75 rfl (lv_at hl 0 rfl) ?_
            refine lv_sipush (v := 999) hx hb dX2_laws_76 (by decide) ?_
            refine m_cU (As := [.int 999]) (rest := []) X M (metX2_numberTo l D cl hcl h ad dA G R1 (Rr 16) hT z st_7 999 hz4 hst_7) (cwV 1 hts (lw_V q1708 q1710 qs33 q62 q1711) rfl rfl rfl (by decide +kernel) ⟨Nat.le_of_ble_eq_true rfl, Nat.le_of_ble_eq_true rfl⟩) rfl hl.1 rfl (Nat.le_of_ble_eq_true rfl) dX2_laws_79 ⟨Nat.zero_le _, Nat.zero_le _⟩ (fun r9 F9 R9 hr9 H locs M => ?_)
            obtain ⟨⟨v_9, st_8⟩, est_8⟩ : ∃ x9, x9 = (p_num (Rr 16) z st_7 999) := ⟨_, rfl⟩
            rw [← est_8] at hr9
            obtain ⟨rfl, rfl, rfl⟩ : v_9 = r9 ∧ F9 = pF G (Rr 16) z st_8 ∧ R1 = R9 := ⟨(congrArg Prod.fst hr9).symm, congrArg (fun z => z.2.1) hr9, (congrArg (fun z => z.2.2) hr9).symm⟩
            have hst_8 : st_8.1 ≤ z := by have q9 := p_num_le (T := Rr 16) (most := 999) hst_7; rw [← est_8] at q9; exact q9
            have nst_8 : st_8.2.2.2 = (st_7).2.2.2 := by have q9 := p_num_n (T := Rr 16) (z := z) (st := st_7) (most := 999); rw [← est_8] at q9; exact q9
            have h9I : pI z st_8 := by have q9 := p_num_I (T := Rr 16) (most := 999) (p_need_I (T := Rr 16) (so := false) hI); rw [← est_7, ← est_8] at q9; exact q9
            refine lv_istore_n (lv' := [(1, .int v_9), (0, .ref h)]) hx hb dX2_laws_82 rfl hl (by decide) rfl (fun ls hl => ?_)
            refine lv_aload_n hx hb dX2_laws_83 rfl (lv_at hl 1 rfl) ?_
            refine mg_24 X M (v := st_8.2.1) rfl dX2_laws_84 ?_
            refine lv_if_ne (tgt := 94) hx hb dX2_laws_87 (by decide) (fun c_10 => ?_) (fun c_10 => ?_)
            · -- c_10: st_8.2.1 ≠ 0
              refine lv_iconst (v := 0) hx hb dX2_laws_94 (by decide) ?_
              refine lv_istore_n (lv' := [(2, .int 0), (1, .int v_9), (0, .ref h)]) hx hb dX2_laws_95 rfl hl (by decide) rfl (fun ls hl => ?_)
              have L_11 : ∀ (fuL_11 : Nat) (st2 : pS) (R2 : Nat → Nat → Int32) (mo : Bool), (lwI z st_8.1 (st2, R2, mo)) → (R2 16 = Rr 16) → (wh (fun x : lwX => x.2.2) (lwIn (Rr 16) z v_9) (lwM z) (st2, R2, mo) = lwRun (Rr 16) z v_9 (st_8, R1, decide (st_8.2.1 = 0))) → lwM z (st2, R2, mo) < fuL_11 → ∀ (H : Heap) (locs : List Loc), mM D cl h ad dA (mN h ad) s (pF G (Rr 16) z st2) R2 H locs → ∀ ls, lv_has ls 3 [(0, .ref h), (1, .int v_9), (2, .int (b2i mo))] → W p l e ({ frames := 5, cells := 0, slots := 0, locals := 108 } : Room) s m ([.ref h] : List Value).toArray below meth c H locs 0 0 (MQ below (va_Qi (fun r u => (r, u) = m_laws (va_up F 0 0) Rr) (mB D cl h ad dA) (mN h ad)) ([.ref h] : List Value).toArray s 0 0 (mN h ad)) (F0 m 96 ls []) := by
                intro fuL_11
                induction fuL_11 with
                | zero => intro st2 R2 mo hJ hT2 hfin2 hfuL_11; exact absurd hfuL_11 (Nat.not_lt_zero _)
                | succ fuL_11 L_11ih =>
                  intro st2 R2 mo hJ hT2 hfin2 hfuL_11 H locs M ls hl
                  refine lv_iload_n hx hb dX2_laws_96 rfl (lv_at hl 2 rfl) ?_
                  refine lz_if_eq (tgt := 130) hx hb dX2_laws_97 (by decide) (fun c_12 => ?_) (fun c_12 => ?_)
                  · -- c_12: mo = false
                    have e9 : (st2, R2, mo) = lwRun (Rr 16) z v_9 (st_8, R1, decide (st_8.2.1 = 0)) := (wh_f (c := fun x : lwX => x.2.2) (b := lwIn (Rr 16) z v_9) (μ := lwM z) (a := (st2, R2, mo)) c_12).symm.trans hfin2
                    refine lv_aload_n hx hb dX2_laws_130 rfl (lv_at hl 0 rfl) ?_
                    refine mg_24 X M (v := st2.2.1) rfl dX2_laws_131 ?_
                    refine lv_if_ne (tgt := 154) hx hb dX2_laws_134 (by decide) (fun c_13 => ?_) (fun c_13 => ?_)
                    · -- c_13: st2.2.1 ≠ 0
                      refine lv_goto (tgt := 40) hx hb dX2_laws_154 (by decide) ?_
                      have hc9 : loC (Rr 16) z (st, R1) = true := by simp [loC, c_2, c_4]
                      have eA : loA (Rr 16) z st = (v_9, st_8) := by unfold loA; rw [decide_eq_false c_6, ← est_7, ← est_8]
                      have hnewo : (st2, R2) = loOut (Rr 16) z (st, R1) := by
                        unfold loOut
                        rw [eA, ← e9]
                        unfold loF
                        simp [c_13]
                      obtain ⟨hI9, hM9⟩ := loOut_go (T := Rr 16) (z := z) (st, R1) hI hc9
                      rw [← hnewo] at hI9 hM9
                      exact L_1ih  st2 R2 hI9 hT2 (by rw [hnewo]; exact (wh_t (c := loC (Rr 16) z) (b := loOut (Rr 16) z) (μ := loM z) (I := fun x => pI z x.1) loOut_go hI hc9).symm.trans hfin) (Nat.lt_of_lt_of_le hM9 (Nat.le_of_lt_succ hfuL_1)) _ _ M ls (lv_sub hl [0] rfl)
                    · -- c_13: st2.2.1 = 0
                      refine lv_aload_n hx hb dX2_laws_137 rfl (lv_at hl 0 rfl) ?_
                      refine lv_aload_n hx hb dX2_laws_138 rfl (lv_at hl 0 rfl) ?_
                      refine mg_21 X M (v := tkK (Rr 16) z st2.1) rfl dX2_laws_139 ?_
                      refine lv_iconst (v := 4) hx hb dX2_laws_142 (by decide) ?_
                      refine lv_icmp_ne (tgt := 150) hx hb dX2_laws_143 (by decide) (fun c_14 => ?_) (fun c_14 => ?_)
                      · -- c_14: tkK (Rr 16) z st2.1 ≠ 4
                        refine lv_iconst (v := 0) hx hb dX2_laws_150 (by decide) ?_
                        refine m_cUv (As := [.int 0]) (rest := []) X M (metX2_need l D cl hcl h ad dA G R2 (Rr 16) hT2 z st2 false hz4 hJ.1.1) (cwV 1 hts (lw_V q1700 q1702 qs31 q62 q1703) rfl rfl rfl (by decide +kernel) ⟨Nat.le_of_ble_eq_true rfl, Nat.le_of_ble_eq_true rfl⟩) rfl hl.1 rfl (Nat.le_of_ble_eq_true rfl) dX2_laws_151 ⟨Nat.zero_le _, Nat.zero_le _⟩ (fun F9 R9 hr9 H locs M => ?_)
                        obtain ⟨rfl, rfl⟩ : F9 = pF G (Rr 16) z (p_need (Rr 16) z st2 false) ∧ R2 = R9 := ⟨congrArg Prod.fst hr9, (congrArg Prod.snd hr9).symm⟩
                        obtain ⟨st_15, est_15⟩ : ∃ x9, x9 = p_need (Rr 16) z st2 false := ⟨_, rfl⟩
                        rw [← est_15] at M
                        have hst_15 : st_15.1 ≤ z := by rw [est_15]; exact p_need_le hJ.1.1
                        have nst_15 : st_15.2.2.2 = (st2).2.2.2 := by rw [est_15]; exact p_need_n
                        refine lv_goto (tgt := 40) hx hb dX2_laws_154 (by decide) ?_
                        have hc9 : loC (Rr 16) z (st, R1) = true := by simp [loC, c_2, c_4]
                        have eA : loA (Rr 16) z st = (v_9, st_8) := by unfold loA; rw [decide_eq_false c_6, ← est_7, ← est_8]
                        have hnewo : (st_15, R2) = loOut (Rr 16) z (st, R1) := by
                          unfold loOut
                          rw [eA, ← e9]
                          unfold loF
                          simp [c_13, c_14, ← est_15, nst_15]
                        obtain ⟨hI9, hM9⟩ := loOut_go (T := Rr 16) (z := z) (st, R1) hI hc9
                        rw [← hnewo] at hI9 hM9
                        exact L_1ih  st_15 R2 hI9 hT2 (by rw [hnewo]; exact (wh_t (c := loC (Rr 16) z) (b := loOut (Rr 16) z) (μ := loM z) (I := fun x => pI z x.1) loOut_go hI hc9).symm.trans hfin) (Nat.lt_of_lt_of_le hM9 (Nat.le_of_lt_succ hfuL_1)) _ _ M ls (lv_sub hl [0] rfl)
                      · -- c_14: tkK (Rr 16) z st2.1 = 4
                        refine lv_iconst (v := 1) hx hb dX2_laws_146 (by decide) ?_
                        refine lv_goto (tgt := 151) hx hb dX2_laws_147 (by decide) ?_
                        refine m_cUv (As := [.int 1]) (rest := []) X M (metX2_need l D cl hcl h ad dA G R2 (Rr 16) hT2 z st2 true hz4 hJ.1.1) (cwV 1 hts (lw_V q1700 q1702 qs31 q62 q1703) rfl rfl rfl (by decide +kernel) ⟨Nat.le_of_ble_eq_true rfl, Nat.le_of_ble_eq_true rfl⟩) rfl hl.1 rfl (Nat.le_of_ble_eq_true rfl) dX2_laws_151 ⟨Nat.zero_le _, Nat.zero_le _⟩ (fun F9 R9 hr9 H locs M => ?_)
                        obtain ⟨rfl, rfl⟩ : F9 = pF G (Rr 16) z (p_need (Rr 16) z st2 true) ∧ R2 = R9 := ⟨congrArg Prod.fst hr9, (congrArg Prod.snd hr9).symm⟩
                        obtain ⟨st_16, est_16⟩ : ∃ x9, x9 = p_need (Rr 16) z st2 true := ⟨_, rfl⟩
                        rw [← est_16] at M
                        have hst_16 : st_16.1 ≤ z := by rw [est_16]; exact p_need_le hJ.1.1
                        have nst_16 : st_16.2.2.2 = (st2).2.2.2 := by rw [est_16]; exact p_need_n
                        refine lv_goto (tgt := 40) hx hb dX2_laws_154 (by decide) ?_
                        have hc9 : loC (Rr 16) z (st, R1) = true := by simp [loC, c_2, c_4]
                        have eA : loA (Rr 16) z st = (v_9, st_8) := by unfold loA; rw [decide_eq_false c_6, ← est_7, ← est_8]
                        have hnewo : (st_16, R2) = loOut (Rr 16) z (st, R1) := by
                          unfold loOut
                          rw [eA, ← e9]
                          unfold loF
                          simp [c_13, c_14, ← est_16, nst_16]
                        obtain ⟨hI9, hM9⟩ := loOut_go (T := Rr 16) (z := z) (st, R1) hI hc9
                        rw [← hnewo] at hI9 hM9
                        exact L_1ih  st_16 R2 hI9 hT2 (by rw [hnewo]; exact (wh_t (c := loC (Rr 16) z) (b := loOut (Rr 16) z) (μ := loM z) (I := fun x => pI z x.1) loOut_go hI hc9).symm.trans hfin) (Nat.lt_of_lt_of_le hM9 (Nat.le_of_lt_succ hfuL_1)) _ _ M ls (lv_sub hl [0] rfl)
                  · -- c_12: mo = true
                    refine lv_aload_n hx hb dX2_laws_100 rfl (lv_at hl 0 rfl) ?_
                    refine lv_iload_n hx hb dX2_laws_101 rfl (lv_at hl 1 rfl) ?_
                    refine m_cUv (As := [.int v_9]) (rest := []) X M (metX2_readLaw l D cl hcl h ad dA G R2 (Rr 16) hT2 z st2 v_9 hz4 hJ.1.1 (hJ.2.2 c_12) hJ.1.2.2) (cwV 1 hts (lw_V q1712 q1714 qs34 q62 q1715) rfl rfl rfl (by decide +kernel) ⟨Nat.le_of_ble_eq_true rfl, Nat.le_of_ble_eq_true rfl⟩) rfl hl.1 rfl (Nat.le_of_ble_eq_true rfl) dX2_laws_102 ⟨Nat.zero_le _, Nat.zero_le _⟩ (fun F9 R9 hr9 H locs M => ?_)
                    obtain ⟨⟨st_17, R_18⟩, est_17⟩ : ∃ x9, x9 = p_rl (Rr 16) z st2 R2 v_9 := ⟨_, rfl⟩
                    rw [← est_17] at hr9
                    obtain ⟨rfl, rfl⟩ : F9 = pF G (Rr 16) z st_17 ∧ R_18 = R9 := ⟨congrArg Prod.fst hr9, (congrArg Prod.snd hr9).symm⟩
                    obtain ⟨hJ2, hT4⟩ := p_rl_e est_17 hJ.1 (hJ.2.2 c_12)
                    have hT3 : R_18 16 = Rr 16 := hT4.trans hT2
                    refine lv_aload_n hx hb dX2_laws_105 rfl (lv_at hl 0 rfl) ?_
                    refine mg_24 X M (v := st_17.2.1) rfl dX2_laws_106 ?_
                    refine lv_if_ne (tgt := 125) hx hb dX2_laws_109 (by decide) (fun c_19 => ?_) (fun c_19 => ?_)
                    · -- c_19: st_17.2.1 ≠ 0
                      refine lv_iconst (v := 0) hx hb dX2_laws_125 (by decide) ?_
                      refine lv_istore_n (lv' := [(2, .int 0), (0, .ref h), (1, .int v_9)]) hx hb dX2_laws_126 rfl hl (by decide) rfl (fun ls hl => ?_)
                      refine lv_goto (tgt := 96) hx hb dX2_laws_127 (by decide) ?_
                      have hnew : (st_17, R_18, false) = lwIn (Rr 16) z v_9 (st2, R2, mo) := by
                        unfold lwIn
                        rw [← est_17]
                        simp [← est_17, c_19]
                      obtain ⟨hJ9, hM2⟩ := lwIn_go (T := Rr 16) (day := v_9) (st2, R2, mo) hJ c_12
                      rw [← hnew] at hJ9 hM2
                      exact L_11ih  st_17 R_18 false hJ9 hT3 (by rw [hnew]; exact (wh_t (c := fun x : lwX => x.2.2) (b := lwIn (Rr 16) z v_9) (μ := lwM z) (I := lwI z st_8.1) lwIn_go hJ c_12).symm.trans hfin2) (Nat.lt_of_lt_of_le hM2 (Nat.le_of_lt_succ hfuL_11)) _ _ M ls (lv_sub hl [1, 2, 0] rfl)
                    · -- c_19: st_17.2.1 = 0
                      refine lv_aload_n hx hb dX2_laws_112 rfl (lv_at hl 0 rfl) ?_
                      refine m_cQ (v := p_law (Rr 16) z st_17.1) (As := []) (rest := []) X M (metX2_lawOfWord l D cl hcl h ad dA G R_18 (Rr 16) hT3 z st_17  hz4 hJ2.1) (cwV 0 hts (lw_V q1716 q1718 qs35 q62 q1719) rfl rfl rfl (by decide +kernel) ⟨Nat.le_of_ble_eq_true rfl, Nat.le_of_ble_eq_true rfl⟩) rfl hl.1 rfl (Nat.le_of_ble_eq_true rfl) dX2_laws_113 ⟨Nat.zero_le _, Nat.zero_le _⟩ ?_
                      refine lv_ldc (v := (-1000000)) hx hb hown (hts _ q1430) dX2_laws_116 ?_
                      refine lv_icmp_eq (tgt := 125) hx hb dX2_laws_118 (by decide) (fun c_20 => ?_) (fun c_20 => ?_)
                      · -- c_20: p_law (Rr 16) z st_17.1 = (-1000000)
                        refine lv_iconst (v := 0) hx hb dX2_laws_125 (by decide) ?_
                        refine lv_istore_n (lv' := [(2, .int 0), (0, .ref h), (1, .int v_9)]) hx hb dX2_laws_126 rfl hl (by decide) rfl (fun ls hl => ?_)
                        refine lv_goto (tgt := 96) hx hb dX2_laws_127 (by decide) ?_
                        have hnew : (st_17, R_18, false) = lwIn (Rr 16) z v_9 (st2, R2, mo) := by
                          unfold lwIn
                          rw [← est_17]
                          simp [← est_17, c_19, c_20]
                        obtain ⟨hJ9, hM2⟩ := lwIn_go (T := Rr 16) (day := v_9) (st2, R2, mo) hJ c_12
                        rw [← hnew] at hJ9 hM2
                        exact L_11ih  st_17 R_18 false hJ9 hT3 (by rw [hnew]; exact (wh_t (c := fun x : lwX => x.2.2) (b := lwIn (Rr 16) z v_9) (μ := lwM z) (I := lwI z st_8.1) lwIn_go hJ c_12).symm.trans hfin2) (Nat.lt_of_lt_of_le hM2 (Nat.le_of_lt_succ hfuL_11)) _ _ M ls (lv_sub hl [1, 2, 0] rfl)
                      · -- c_20: p_law (Rr 16) z st_17.1 ≠ (-1000000)
                        refine lv_iconst (v := 1) hx hb dX2_laws_121 (by decide) ?_
                        refine lv_goto (tgt := 126) hx hb dX2_laws_122 (by decide) ?_
                        refine lv_istore_n (lv' := [(2, .int 1), (0, .ref h), (1, .int v_9)]) hx hb dX2_laws_126 rfl hl (by decide) rfl (fun ls hl => ?_)
                        refine lv_goto (tgt := 96) hx hb dX2_laws_127 (by decide) ?_
                        have hnew : (st_17, R_18, true) = lwIn (Rr 16) z v_9 (st2, R2, mo) := by
                          unfold lwIn
                          rw [← est_17]
                          simp [← est_17, c_19, c_20]
                        obtain ⟨hJ9, hM2⟩ := lwIn_go (T := Rr 16) (day := v_9) (st2, R2, mo) hJ c_12
                        rw [← hnew] at hJ9 hM2
                        exact L_11ih  st_17 R_18 true hJ9 hT3 (by rw [hnew]; exact (wh_t (c := fun x : lwX => x.2.2) (b := lwIn (Rr 16) z v_9) (μ := lwM z) (I := lwI z st_8.1) lwIn_go hJ c_12).symm.trans hfin2) (Nat.lt_of_lt_of_le hM2 (Nat.le_of_lt_succ hfuL_11)) _ _ M ls (lv_sub hl [1, 2, 0] rfl)
              exact L_11 (lwM z (st_8, R1, false) + 1) st_8 R1 false (⟨h9I, Nat.le_refl _, fun q => by first | exact c_10 | cases q⟩) hT (by unfold lwRun; rw [decide_eq_false c_10]) (Nat.lt_succ_self _) _ _ M ls (lv_sub hl [2, 1, 0] rfl)
            · -- c_10: st_8.2.1 = 0
              refine lv_iconst (v := 1) hx hb dX2_laws_90 (by decide) ?_
              refine lv_goto (tgt := 95) hx hb dX2_laws_91 (by decide) ?_
              refine lv_istore_n (lv' := [(2, .int 1), (1, .int v_9), (0, .ref h)]) hx hb dX2_laws_95 rfl hl (by decide) rfl (fun ls hl => ?_)
              have L_21 : ∀ (fuL_21 : Nat) (st2 : pS) (R2 : Nat → Nat → Int32) (mo : Bool), (lwI z st_8.1 (st2, R2, mo)) → (R2 16 = Rr 16) → (wh (fun x : lwX => x.2.2) (lwIn (Rr 16) z v_9) (lwM z) (st2, R2, mo) = lwRun (Rr 16) z v_9 (st_8, R1, decide (st_8.2.1 = 0))) → lwM z (st2, R2, mo) < fuL_21 → ∀ (H : Heap) (locs : List Loc), mM D cl h ad dA (mN h ad) s (pF G (Rr 16) z st2) R2 H locs → ∀ ls, lv_has ls 3 [(0, .ref h), (1, .int v_9), (2, .int (b2i mo))] → W p l e ({ frames := 5, cells := 0, slots := 0, locals := 108 } : Room) s m ([.ref h] : List Value).toArray below meth c H locs 0 0 (MQ below (va_Qi (fun r u => (r, u) = m_laws (va_up F 0 0) Rr) (mB D cl h ad dA) (mN h ad)) ([.ref h] : List Value).toArray s 0 0 (mN h ad)) (F0 m 96 ls []) := by
                intro fuL_21
                induction fuL_21 with
                | zero => intro st2 R2 mo hJ hT2 hfin2 hfuL_21; exact absurd hfuL_21 (Nat.not_lt_zero _)
                | succ fuL_21 L_21ih =>
                  intro st2 R2 mo hJ hT2 hfin2 hfuL_21 H locs M ls hl
                  refine lv_iload_n hx hb dX2_laws_96 rfl (lv_at hl 2 rfl) ?_
                  refine lz_if_eq (tgt := 130) hx hb dX2_laws_97 (by decide) (fun c_22 => ?_) (fun c_22 => ?_)
                  · -- c_22: mo = false
                    have e9 : (st2, R2, mo) = lwRun (Rr 16) z v_9 (st_8, R1, decide (st_8.2.1 = 0)) := (wh_f (c := fun x : lwX => x.2.2) (b := lwIn (Rr 16) z v_9) (μ := lwM z) (a := (st2, R2, mo)) c_22).symm.trans hfin2
                    refine lv_aload_n hx hb dX2_laws_130 rfl (lv_at hl 0 rfl) ?_
                    refine mg_24 X M (v := st2.2.1) rfl dX2_laws_131 ?_
                    refine lv_if_ne (tgt := 154) hx hb dX2_laws_134 (by decide) (fun c_23 => ?_) (fun c_23 => ?_)
                    · -- c_23: st2.2.1 ≠ 0
                      refine lv_goto (tgt := 40) hx hb dX2_laws_154 (by decide) ?_
                      have hc9 : loC (Rr 16) z (st, R1) = true := by simp [loC, c_2, c_4]
                      have eA : loA (Rr 16) z st = (v_9, st_8) := by unfold loA; rw [decide_eq_false c_6, ← est_7, ← est_8]
                      have hnewo : (st2, R2) = loOut (Rr 16) z (st, R1) := by
                        unfold loOut
                        rw [eA, ← e9]
                        unfold loF
                        simp [c_23]
                      obtain ⟨hI9, hM9⟩ := loOut_go (T := Rr 16) (z := z) (st, R1) hI hc9
                      rw [← hnewo] at hI9 hM9
                      exact L_1ih  st2 R2 hI9 hT2 (by rw [hnewo]; exact (wh_t (c := loC (Rr 16) z) (b := loOut (Rr 16) z) (μ := loM z) (I := fun x => pI z x.1) loOut_go hI hc9).symm.trans hfin) (Nat.lt_of_lt_of_le hM9 (Nat.le_of_lt_succ hfuL_1)) _ _ M ls (lv_sub hl [0] rfl)
                    · -- c_23: st2.2.1 = 0
                      refine lv_aload_n hx hb dX2_laws_137 rfl (lv_at hl 0 rfl) ?_
                      refine lv_aload_n hx hb dX2_laws_138 rfl (lv_at hl 0 rfl) ?_
                      refine mg_21 X M (v := tkK (Rr 16) z st2.1) rfl dX2_laws_139 ?_
                      refine lv_iconst (v := 4) hx hb dX2_laws_142 (by decide) ?_
                      refine lv_icmp_ne (tgt := 150) hx hb dX2_laws_143 (by decide) (fun c_24 => ?_) (fun c_24 => ?_)
                      · -- c_24: tkK (Rr 16) z st2.1 ≠ 4
                        refine lv_iconst (v := 0) hx hb dX2_laws_150 (by decide) ?_
                        refine m_cUv (As := [.int 0]) (rest := []) X M (metX2_need l D cl hcl h ad dA G R2 (Rr 16) hT2 z st2 false hz4 hJ.1.1) (cwV 1 hts (lw_V q1700 q1702 qs31 q62 q1703) rfl rfl rfl (by decide +kernel) ⟨Nat.le_of_ble_eq_true rfl, Nat.le_of_ble_eq_true rfl⟩) rfl hl.1 rfl (Nat.le_of_ble_eq_true rfl) dX2_laws_151 ⟨Nat.zero_le _, Nat.zero_le _⟩ (fun F9 R9 hr9 H locs M => ?_)
                        obtain ⟨rfl, rfl⟩ : F9 = pF G (Rr 16) z (p_need (Rr 16) z st2 false) ∧ R2 = R9 := ⟨congrArg Prod.fst hr9, (congrArg Prod.snd hr9).symm⟩
                        obtain ⟨st_25, est_25⟩ : ∃ x9, x9 = p_need (Rr 16) z st2 false := ⟨_, rfl⟩
                        rw [← est_25] at M
                        have hst_25 : st_25.1 ≤ z := by rw [est_25]; exact p_need_le hJ.1.1
                        have nst_25 : st_25.2.2.2 = (st2).2.2.2 := by rw [est_25]; exact p_need_n
                        refine lv_goto (tgt := 40) hx hb dX2_laws_154 (by decide) ?_
                        have hc9 : loC (Rr 16) z (st, R1) = true := by simp [loC, c_2, c_4]
                        have eA : loA (Rr 16) z st = (v_9, st_8) := by unfold loA; rw [decide_eq_false c_6, ← est_7, ← est_8]
                        have hnewo : (st_25, R2) = loOut (Rr 16) z (st, R1) := by
                          unfold loOut
                          rw [eA, ← e9]
                          unfold loF
                          simp [c_23, c_24, ← est_25, nst_25]
                        obtain ⟨hI9, hM9⟩ := loOut_go (T := Rr 16) (z := z) (st, R1) hI hc9
                        rw [← hnewo] at hI9 hM9
                        exact L_1ih  st_25 R2 hI9 hT2 (by rw [hnewo]; exact (wh_t (c := loC (Rr 16) z) (b := loOut (Rr 16) z) (μ := loM z) (I := fun x => pI z x.1) loOut_go hI hc9).symm.trans hfin) (Nat.lt_of_lt_of_le hM9 (Nat.le_of_lt_succ hfuL_1)) _ _ M ls (lv_sub hl [0] rfl)
                      · -- c_24: tkK (Rr 16) z st2.1 = 4
                        refine lv_iconst (v := 1) hx hb dX2_laws_146 (by decide) ?_
                        refine lv_goto (tgt := 151) hx hb dX2_laws_147 (by decide) ?_
                        refine m_cUv (As := [.int 1]) (rest := []) X M (metX2_need l D cl hcl h ad dA G R2 (Rr 16) hT2 z st2 true hz4 hJ.1.1) (cwV 1 hts (lw_V q1700 q1702 qs31 q62 q1703) rfl rfl rfl (by decide +kernel) ⟨Nat.le_of_ble_eq_true rfl, Nat.le_of_ble_eq_true rfl⟩) rfl hl.1 rfl (Nat.le_of_ble_eq_true rfl) dX2_laws_151 ⟨Nat.zero_le _, Nat.zero_le _⟩ (fun F9 R9 hr9 H locs M => ?_)
                        obtain ⟨rfl, rfl⟩ : F9 = pF G (Rr 16) z (p_need (Rr 16) z st2 true) ∧ R2 = R9 := ⟨congrArg Prod.fst hr9, (congrArg Prod.snd hr9).symm⟩
                        obtain ⟨st_26, est_26⟩ : ∃ x9, x9 = p_need (Rr 16) z st2 true := ⟨_, rfl⟩
                        rw [← est_26] at M
                        have hst_26 : st_26.1 ≤ z := by rw [est_26]; exact p_need_le hJ.1.1
                        have nst_26 : st_26.2.2.2 = (st2).2.2.2 := by rw [est_26]; exact p_need_n
                        refine lv_goto (tgt := 40) hx hb dX2_laws_154 (by decide) ?_
                        have hc9 : loC (Rr 16) z (st, R1) = true := by simp [loC, c_2, c_4]
                        have eA : loA (Rr 16) z st = (v_9, st_8) := by unfold loA; rw [decide_eq_false c_6, ← est_7, ← est_8]
                        have hnewo : (st_26, R2) = loOut (Rr 16) z (st, R1) := by
                          unfold loOut
                          rw [eA, ← e9]
                          unfold loF
                          simp [c_23, c_24, ← est_26, nst_26]
                        obtain ⟨hI9, hM9⟩ := loOut_go (T := Rr 16) (z := z) (st, R1) hI hc9
                        rw [← hnewo] at hI9 hM9
                        exact L_1ih  st_26 R2 hI9 hT2 (by rw [hnewo]; exact (wh_t (c := loC (Rr 16) z) (b := loOut (Rr 16) z) (μ := loM z) (I := fun x => pI z x.1) loOut_go hI hc9).symm.trans hfin) (Nat.lt_of_lt_of_le hM9 (Nat.le_of_lt_succ hfuL_1)) _ _ M ls (lv_sub hl [0] rfl)
                  · -- c_22: mo = true
                    refine lv_aload_n hx hb dX2_laws_100 rfl (lv_at hl 0 rfl) ?_
                    refine lv_iload_n hx hb dX2_laws_101 rfl (lv_at hl 1 rfl) ?_
                    refine m_cUv (As := [.int v_9]) (rest := []) X M (metX2_readLaw l D cl hcl h ad dA G R2 (Rr 16) hT2 z st2 v_9 hz4 hJ.1.1 (hJ.2.2 c_22) hJ.1.2.2) (cwV 1 hts (lw_V q1712 q1714 qs34 q62 q1715) rfl rfl rfl (by decide +kernel) ⟨Nat.le_of_ble_eq_true rfl, Nat.le_of_ble_eq_true rfl⟩) rfl hl.1 rfl (Nat.le_of_ble_eq_true rfl) dX2_laws_102 ⟨Nat.zero_le _, Nat.zero_le _⟩ (fun F9 R9 hr9 H locs M => ?_)
                    obtain ⟨⟨st_27, R_28⟩, est_27⟩ : ∃ x9, x9 = p_rl (Rr 16) z st2 R2 v_9 := ⟨_, rfl⟩
                    rw [← est_27] at hr9
                    obtain ⟨rfl, rfl⟩ : F9 = pF G (Rr 16) z st_27 ∧ R_28 = R9 := ⟨congrArg Prod.fst hr9, (congrArg Prod.snd hr9).symm⟩
                    obtain ⟨hJ2, hT4⟩ := p_rl_e est_27 hJ.1 (hJ.2.2 c_22)
                    have hT3 : R_28 16 = Rr 16 := hT4.trans hT2
                    refine lv_aload_n hx hb dX2_laws_105 rfl (lv_at hl 0 rfl) ?_
                    refine mg_24 X M (v := st_27.2.1) rfl dX2_laws_106 ?_
                    refine lv_if_ne (tgt := 125) hx hb dX2_laws_109 (by decide) (fun c_29 => ?_) (fun c_29 => ?_)
                    · -- c_29: st_27.2.1 ≠ 0
                      refine lv_iconst (v := 0) hx hb dX2_laws_125 (by decide) ?_
                      refine lv_istore_n (lv' := [(2, .int 0), (0, .ref h), (1, .int v_9)]) hx hb dX2_laws_126 rfl hl (by decide) rfl (fun ls hl => ?_)
                      refine lv_goto (tgt := 96) hx hb dX2_laws_127 (by decide) ?_
                      have hnew : (st_27, R_28, false) = lwIn (Rr 16) z v_9 (st2, R2, mo) := by
                        unfold lwIn
                        rw [← est_27]
                        simp [← est_27, c_29]
                      obtain ⟨hJ9, hM2⟩ := lwIn_go (T := Rr 16) (day := v_9) (st2, R2, mo) hJ c_22
                      rw [← hnew] at hJ9 hM2
                      exact L_21ih  st_27 R_28 false hJ9 hT3 (by rw [hnew]; exact (wh_t (c := fun x : lwX => x.2.2) (b := lwIn (Rr 16) z v_9) (μ := lwM z) (I := lwI z st_8.1) lwIn_go hJ c_22).symm.trans hfin2) (Nat.lt_of_lt_of_le hM2 (Nat.le_of_lt_succ hfuL_21)) _ _ M ls (lv_sub hl [1, 2, 0] rfl)
                    · -- c_29: st_27.2.1 = 0
                      refine lv_aload_n hx hb dX2_laws_112 rfl (lv_at hl 0 rfl) ?_
                      refine m_cQ (v := p_law (Rr 16) z st_27.1) (As := []) (rest := []) X M (metX2_lawOfWord l D cl hcl h ad dA G R_28 (Rr 16) hT3 z st_27  hz4 hJ2.1) (cwV 0 hts (lw_V q1716 q1718 qs35 q62 q1719) rfl rfl rfl (by decide +kernel) ⟨Nat.le_of_ble_eq_true rfl, Nat.le_of_ble_eq_true rfl⟩) rfl hl.1 rfl (Nat.le_of_ble_eq_true rfl) dX2_laws_113 ⟨Nat.zero_le _, Nat.zero_le _⟩ ?_
                      refine lv_ldc (v := (-1000000)) hx hb hown (hts _ q1430) dX2_laws_116 ?_
                      refine lv_icmp_eq (tgt := 125) hx hb dX2_laws_118 (by decide) (fun c_30 => ?_) (fun c_30 => ?_)
                      · -- c_30: p_law (Rr 16) z st_27.1 = (-1000000)
                        refine lv_iconst (v := 0) hx hb dX2_laws_125 (by decide) ?_
                        refine lv_istore_n (lv' := [(2, .int 0), (0, .ref h), (1, .int v_9)]) hx hb dX2_laws_126 rfl hl (by decide) rfl (fun ls hl => ?_)
                        refine lv_goto (tgt := 96) hx hb dX2_laws_127 (by decide) ?_
                        have hnew : (st_27, R_28, false) = lwIn (Rr 16) z v_9 (st2, R2, mo) := by
                          unfold lwIn
                          rw [← est_27]
                          simp [← est_27, c_29, c_30]
                        obtain ⟨hJ9, hM2⟩ := lwIn_go (T := Rr 16) (day := v_9) (st2, R2, mo) hJ c_22
                        rw [← hnew] at hJ9 hM2
                        exact L_21ih  st_27 R_28 false hJ9 hT3 (by rw [hnew]; exact (wh_t (c := fun x : lwX => x.2.2) (b := lwIn (Rr 16) z v_9) (μ := lwM z) (I := lwI z st_8.1) lwIn_go hJ c_22).symm.trans hfin2) (Nat.lt_of_lt_of_le hM2 (Nat.le_of_lt_succ hfuL_21)) _ _ M ls (lv_sub hl [1, 2, 0] rfl)
                      · -- c_30: p_law (Rr 16) z st_27.1 ≠ (-1000000)
                        refine lv_iconst (v := 1) hx hb dX2_laws_121 (by decide) ?_
                        refine lv_goto (tgt := 126) hx hb dX2_laws_122 (by decide) ?_
                        refine lv_istore_n (lv' := [(2, .int 1), (0, .ref h), (1, .int v_9)]) hx hb dX2_laws_126 rfl hl (by decide) rfl (fun ls hl => ?_)
                        refine lv_goto (tgt := 96) hx hb dX2_laws_127 (by decide) ?_
                        have hnew : (st_27, R_28, true) = lwIn (Rr 16) z v_9 (st2, R2, mo) := by
                          unfold lwIn
                          rw [← est_27]
                          simp [← est_27, c_29, c_30]
                        obtain ⟨hJ9, hM2⟩ := lwIn_go (T := Rr 16) (day := v_9) (st2, R2, mo) hJ c_22
                        rw [← hnew] at hJ9 hM2
                        exact L_21ih  st_27 R_28 true hJ9 hT3 (by rw [hnew]; exact (wh_t (c := fun x : lwX => x.2.2) (b := lwIn (Rr 16) z v_9) (μ := lwM z) (I := lwI z st_8.1) lwIn_go hJ c_22).symm.trans hfin2) (Nat.lt_of_lt_of_le hM2 (Nat.le_of_lt_succ hfuL_21)) _ _ M ls (lv_sub hl [1, 2, 0] rfl)
              exact L_21 (lwM z (st_8, R1, true) + 1) st_8 R1 true (⟨h9I, Nat.le_refl _, fun q => by first | exact c_10 | cases q⟩) hT (by unfold lwRun; rw [decide_eq_true c_10]) (Nat.lt_succ_self _) _ _ M ls (lv_sub hl [2, 1, 0] rfl)
          · -- c_6: p_word (Rr 16) z st.1 = 1718775661
            refine lv_iconst (v := 1) hx hb dX2_laws_67 (by decide) ?_
            refine lv_goto (tgt := 72) hx hb dX2_laws_68 (by decide) ?_
            refine m_cUv (As := [.int 1]) (rest := []) X M (metX2_need l D cl hcl h ad dA G R1 (Rr 16) hT z st true hz4 hI.1) (cwV 1 hts (lw_V q1700 q1702 qs31 q62 q1703) rfl rfl rfl (by decide +kernel) ⟨Nat.le_of_ble_eq_true rfl, Nat.le_of_ble_eq_true rfl⟩) rfl hl.1 rfl (Nat.le_of_ble_eq_true rfl) dX2_laws_72 ⟨Nat.zero_le _, Nat.zero_le _⟩ (fun F9 R9 hr9 H locs M => ?_)
            obtain ⟨rfl, rfl⟩ : F9 = pF G (Rr 16) z (p_need (Rr 16) z st true) ∧ R1 = R9 := ⟨congrArg Prod.fst hr9, (congrArg Prod.snd hr9).symm⟩
            obtain ⟨st_31, est_31⟩ : ∃ x9, x9 = p_need (Rr 16) z st true := ⟨_, rfl⟩
            rw [← est_31] at M
            have hst_31 : st_31.1 ≤ z := by rw [est_31]; exact p_need_le hI.1
            have nst_31 : st_31.2.2.2 = (st).2.2.2 := by rw [est_31]; exact p_need_n
            refine lv_aload_n hx hb dX2_laws_75 rfl (lv_at hl 0 rfl) ?_
            refine lv_sipush (v := 999) hx hb dX2_laws_76 (by decide) ?_
            refine m_cU (As := [.int 999]) (rest := []) X M (metX2_numberTo l D cl hcl h ad dA G R1 (Rr 16) hT z st_31 999 hz4 hst_31) (cwV 1 hts (lw_V q1708 q1710 qs33 q62 q1711) rfl rfl rfl (by decide +kernel) ⟨Nat.le_of_ble_eq_true rfl, Nat.le_of_ble_eq_true rfl⟩) rfl hl.1 rfl (Nat.le_of_ble_eq_true rfl) dX2_laws_79 ⟨Nat.zero_le _, Nat.zero_le _⟩ (fun r9 F9 R9 hr9 H locs M => ?_)
            obtain ⟨⟨v_33, st_32⟩, est_32⟩ : ∃ x9, x9 = (p_num (Rr 16) z st_31 999) := ⟨_, rfl⟩
            rw [← est_32] at hr9
            obtain ⟨rfl, rfl, rfl⟩ : v_33 = r9 ∧ F9 = pF G (Rr 16) z st_32 ∧ R1 = R9 := ⟨(congrArg Prod.fst hr9).symm, congrArg (fun z => z.2.1) hr9, (congrArg (fun z => z.2.2) hr9).symm⟩
            have hst_32 : st_32.1 ≤ z := by have q9 := p_num_le (T := Rr 16) (most := 999) hst_31; rw [← est_32] at q9; exact q9
            have nst_32 : st_32.2.2.2 = (st_31).2.2.2 := by have q9 := p_num_n (T := Rr 16) (z := z) (st := st_31) (most := 999); rw [← est_32] at q9; exact q9
            have h9I : pI z st_32 := by have q9 := p_num_I (T := Rr 16) (most := 999) (p_need_I (T := Rr 16) (so := true) hI); rw [← est_31, ← est_32] at q9; exact q9
            refine lv_istore_n (lv' := [(1, .int v_33), (0, .ref h)]) hx hb dX2_laws_82 rfl hl (by decide) rfl (fun ls hl => ?_)
            refine lv_aload_n hx hb dX2_laws_83 rfl (lv_at hl 1 rfl) ?_
            refine mg_24 X M (v := st_32.2.1) rfl dX2_laws_84 ?_
            refine lv_if_ne (tgt := 94) hx hb dX2_laws_87 (by decide) (fun c_34 => ?_) (fun c_34 => ?_)
            · -- c_34: st_32.2.1 ≠ 0
              refine lv_iconst (v := 0) hx hb dX2_laws_94 (by decide) ?_
              refine lv_istore_n (lv' := [(2, .int 0), (1, .int v_33), (0, .ref h)]) hx hb dX2_laws_95 rfl hl (by decide) rfl (fun ls hl => ?_)
              have L_35 : ∀ (fuL_35 : Nat) (st2 : pS) (R2 : Nat → Nat → Int32) (mo : Bool), (lwI z st_32.1 (st2, R2, mo)) → (R2 16 = Rr 16) → (wh (fun x : lwX => x.2.2) (lwIn (Rr 16) z v_33) (lwM z) (st2, R2, mo) = lwRun (Rr 16) z v_33 (st_32, R1, decide (st_32.2.1 = 0))) → lwM z (st2, R2, mo) < fuL_35 → ∀ (H : Heap) (locs : List Loc), mM D cl h ad dA (mN h ad) s (pF G (Rr 16) z st2) R2 H locs → ∀ ls, lv_has ls 3 [(0, .ref h), (1, .int v_33), (2, .int (b2i mo))] → W p l e ({ frames := 5, cells := 0, slots := 0, locals := 108 } : Room) s m ([.ref h] : List Value).toArray below meth c H locs 0 0 (MQ below (va_Qi (fun r u => (r, u) = m_laws (va_up F 0 0) Rr) (mB D cl h ad dA) (mN h ad)) ([.ref h] : List Value).toArray s 0 0 (mN h ad)) (F0 m 96 ls []) := by
                intro fuL_35
                induction fuL_35 with
                | zero => intro st2 R2 mo hJ hT2 hfin2 hfuL_35; exact absurd hfuL_35 (Nat.not_lt_zero _)
                | succ fuL_35 L_35ih =>
                  intro st2 R2 mo hJ hT2 hfin2 hfuL_35 H locs M ls hl
                  refine lv_iload_n hx hb dX2_laws_96 rfl (lv_at hl 2 rfl) ?_
                  refine lz_if_eq (tgt := 130) hx hb dX2_laws_97 (by decide) (fun c_36 => ?_) (fun c_36 => ?_)
                  · -- c_36: mo = false
                    have e9 : (st2, R2, mo) = lwRun (Rr 16) z v_33 (st_32, R1, decide (st_32.2.1 = 0)) := (wh_f (c := fun x : lwX => x.2.2) (b := lwIn (Rr 16) z v_33) (μ := lwM z) (a := (st2, R2, mo)) c_36).symm.trans hfin2
                    refine lv_aload_n hx hb dX2_laws_130 rfl (lv_at hl 0 rfl) ?_
                    refine mg_24 X M (v := st2.2.1) rfl dX2_laws_131 ?_
                    refine lv_if_ne (tgt := 154) hx hb dX2_laws_134 (by decide) (fun c_37 => ?_) (fun c_37 => ?_)
                    · -- c_37: st2.2.1 ≠ 0
                      refine lv_goto (tgt := 40) hx hb dX2_laws_154 (by decide) ?_
                      have hc9 : loC (Rr 16) z (st, R1) = true := by simp [loC, c_2, c_4]
                      have eA : loA (Rr 16) z st = (v_33, st_32) := by unfold loA; rw [decide_eq_true c_6, ← est_31, ← est_32]
                      have hnewo : (st2, R2) = loOut (Rr 16) z (st, R1) := by
                        unfold loOut
                        rw [eA, ← e9]
                        unfold loF
                        simp [c_37]
                      obtain ⟨hI9, hM9⟩ := loOut_go (T := Rr 16) (z := z) (st, R1) hI hc9
                      rw [← hnewo] at hI9 hM9
                      exact L_1ih  st2 R2 hI9 hT2 (by rw [hnewo]; exact (wh_t (c := loC (Rr 16) z) (b := loOut (Rr 16) z) (μ := loM z) (I := fun x => pI z x.1) loOut_go hI hc9).symm.trans hfin) (Nat.lt_of_lt_of_le hM9 (Nat.le_of_lt_succ hfuL_1)) _ _ M ls (lv_sub hl [0] rfl)
                    · -- c_37: st2.2.1 = 0
                      refine lv_aload_n hx hb dX2_laws_137 rfl (lv_at hl 0 rfl) ?_
                      refine lv_aload_n hx hb dX2_laws_138 rfl (lv_at hl 0 rfl) ?_
                      refine mg_21 X M (v := tkK (Rr 16) z st2.1) rfl dX2_laws_139 ?_
                      refine lv_iconst (v := 4) hx hb dX2_laws_142 (by decide) ?_
                      refine lv_icmp_ne (tgt := 150) hx hb dX2_laws_143 (by decide) (fun c_38 => ?_) (fun c_38 => ?_)
                      · -- c_38: tkK (Rr 16) z st2.1 ≠ 4
                        refine lv_iconst (v := 0) hx hb dX2_laws_150 (by decide) ?_
                        refine m_cUv (As := [.int 0]) (rest := []) X M (metX2_need l D cl hcl h ad dA G R2 (Rr 16) hT2 z st2 false hz4 hJ.1.1) (cwV 1 hts (lw_V q1700 q1702 qs31 q62 q1703) rfl rfl rfl (by decide +kernel) ⟨Nat.le_of_ble_eq_true rfl, Nat.le_of_ble_eq_true rfl⟩) rfl hl.1 rfl (Nat.le_of_ble_eq_true rfl) dX2_laws_151 ⟨Nat.zero_le _, Nat.zero_le _⟩ (fun F9 R9 hr9 H locs M => ?_)
                        obtain ⟨rfl, rfl⟩ : F9 = pF G (Rr 16) z (p_need (Rr 16) z st2 false) ∧ R2 = R9 := ⟨congrArg Prod.fst hr9, (congrArg Prod.snd hr9).symm⟩
                        obtain ⟨st_39, est_39⟩ : ∃ x9, x9 = p_need (Rr 16) z st2 false := ⟨_, rfl⟩
                        rw [← est_39] at M
                        have hst_39 : st_39.1 ≤ z := by rw [est_39]; exact p_need_le hJ.1.1
                        have nst_39 : st_39.2.2.2 = (st2).2.2.2 := by rw [est_39]; exact p_need_n
                        refine lv_goto (tgt := 40) hx hb dX2_laws_154 (by decide) ?_
                        have hc9 : loC (Rr 16) z (st, R1) = true := by simp [loC, c_2, c_4]
                        have eA : loA (Rr 16) z st = (v_33, st_32) := by unfold loA; rw [decide_eq_true c_6, ← est_31, ← est_32]
                        have hnewo : (st_39, R2) = loOut (Rr 16) z (st, R1) := by
                          unfold loOut
                          rw [eA, ← e9]
                          unfold loF
                          simp [c_37, c_38, ← est_39, nst_39]
                        obtain ⟨hI9, hM9⟩ := loOut_go (T := Rr 16) (z := z) (st, R1) hI hc9
                        rw [← hnewo] at hI9 hM9
                        exact L_1ih  st_39 R2 hI9 hT2 (by rw [hnewo]; exact (wh_t (c := loC (Rr 16) z) (b := loOut (Rr 16) z) (μ := loM z) (I := fun x => pI z x.1) loOut_go hI hc9).symm.trans hfin) (Nat.lt_of_lt_of_le hM9 (Nat.le_of_lt_succ hfuL_1)) _ _ M ls (lv_sub hl [0] rfl)
                      · -- c_38: tkK (Rr 16) z st2.1 = 4
                        refine lv_iconst (v := 1) hx hb dX2_laws_146 (by decide) ?_
                        refine lv_goto (tgt := 151) hx hb dX2_laws_147 (by decide) ?_
                        refine m_cUv (As := [.int 1]) (rest := []) X M (metX2_need l D cl hcl h ad dA G R2 (Rr 16) hT2 z st2 true hz4 hJ.1.1) (cwV 1 hts (lw_V q1700 q1702 qs31 q62 q1703) rfl rfl rfl (by decide +kernel) ⟨Nat.le_of_ble_eq_true rfl, Nat.le_of_ble_eq_true rfl⟩) rfl hl.1 rfl (Nat.le_of_ble_eq_true rfl) dX2_laws_151 ⟨Nat.zero_le _, Nat.zero_le _⟩ (fun F9 R9 hr9 H locs M => ?_)
                        obtain ⟨rfl, rfl⟩ : F9 = pF G (Rr 16) z (p_need (Rr 16) z st2 true) ∧ R2 = R9 := ⟨congrArg Prod.fst hr9, (congrArg Prod.snd hr9).symm⟩
                        obtain ⟨st_40, est_40⟩ : ∃ x9, x9 = p_need (Rr 16) z st2 true := ⟨_, rfl⟩
                        rw [← est_40] at M
                        have hst_40 : st_40.1 ≤ z := by rw [est_40]; exact p_need_le hJ.1.1
                        have nst_40 : st_40.2.2.2 = (st2).2.2.2 := by rw [est_40]; exact p_need_n
                        refine lv_goto (tgt := 40) hx hb dX2_laws_154 (by decide) ?_
                        have hc9 : loC (Rr 16) z (st, R1) = true := by simp [loC, c_2, c_4]
                        have eA : loA (Rr 16) z st = (v_33, st_32) := by unfold loA; rw [decide_eq_true c_6, ← est_31, ← est_32]
                        have hnewo : (st_40, R2) = loOut (Rr 16) z (st, R1) := by
                          unfold loOut
                          rw [eA, ← e9]
                          unfold loF
                          simp [c_37, c_38, ← est_40, nst_40]
                        obtain ⟨hI9, hM9⟩ := loOut_go (T := Rr 16) (z := z) (st, R1) hI hc9
                        rw [← hnewo] at hI9 hM9
                        exact L_1ih  st_40 R2 hI9 hT2 (by rw [hnewo]; exact (wh_t (c := loC (Rr 16) z) (b := loOut (Rr 16) z) (μ := loM z) (I := fun x => pI z x.1) loOut_go hI hc9).symm.trans hfin) (Nat.lt_of_lt_of_le hM9 (Nat.le_of_lt_succ hfuL_1)) _ _ M ls (lv_sub hl [0] rfl)
                  · -- c_36: mo = true
                    refine lv_aload_n hx hb dX2_laws_100 rfl (lv_at hl 0 rfl) ?_
                    refine lv_iload_n hx hb dX2_laws_101 rfl (lv_at hl 1 rfl) ?_
                    refine m_cUv (As := [.int v_33]) (rest := []) X M (metX2_readLaw l D cl hcl h ad dA G R2 (Rr 16) hT2 z st2 v_33 hz4 hJ.1.1 (hJ.2.2 c_36) hJ.1.2.2) (cwV 1 hts (lw_V q1712 q1714 qs34 q62 q1715) rfl rfl rfl (by decide +kernel) ⟨Nat.le_of_ble_eq_true rfl, Nat.le_of_ble_eq_true rfl⟩) rfl hl.1 rfl (Nat.le_of_ble_eq_true rfl) dX2_laws_102 ⟨Nat.zero_le _, Nat.zero_le _⟩ (fun F9 R9 hr9 H locs M => ?_)
                    obtain ⟨⟨st_41, R_42⟩, est_41⟩ : ∃ x9, x9 = p_rl (Rr 16) z st2 R2 v_33 := ⟨_, rfl⟩
                    rw [← est_41] at hr9
                    obtain ⟨rfl, rfl⟩ : F9 = pF G (Rr 16) z st_41 ∧ R_42 = R9 := ⟨congrArg Prod.fst hr9, (congrArg Prod.snd hr9).symm⟩
                    obtain ⟨hJ2, hT4⟩ := p_rl_e est_41 hJ.1 (hJ.2.2 c_36)
                    have hT3 : R_42 16 = Rr 16 := hT4.trans hT2
                    refine lv_aload_n hx hb dX2_laws_105 rfl (lv_at hl 0 rfl) ?_
                    refine mg_24 X M (v := st_41.2.1) rfl dX2_laws_106 ?_
                    refine lv_if_ne (tgt := 125) hx hb dX2_laws_109 (by decide) (fun c_43 => ?_) (fun c_43 => ?_)
                    · -- c_43: st_41.2.1 ≠ 0
                      refine lv_iconst (v := 0) hx hb dX2_laws_125 (by decide) ?_
                      refine lv_istore_n (lv' := [(2, .int 0), (0, .ref h), (1, .int v_33)]) hx hb dX2_laws_126 rfl hl (by decide) rfl (fun ls hl => ?_)
                      refine lv_goto (tgt := 96) hx hb dX2_laws_127 (by decide) ?_
                      have hnew : (st_41, R_42, false) = lwIn (Rr 16) z v_33 (st2, R2, mo) := by
                        unfold lwIn
                        rw [← est_41]
                        simp [← est_41, c_43]
                      obtain ⟨hJ9, hM2⟩ := lwIn_go (T := Rr 16) (day := v_33) (st2, R2, mo) hJ c_36
                      rw [← hnew] at hJ9 hM2
                      exact L_35ih  st_41 R_42 false hJ9 hT3 (by rw [hnew]; exact (wh_t (c := fun x : lwX => x.2.2) (b := lwIn (Rr 16) z v_33) (μ := lwM z) (I := lwI z st_32.1) lwIn_go hJ c_36).symm.trans hfin2) (Nat.lt_of_lt_of_le hM2 (Nat.le_of_lt_succ hfuL_35)) _ _ M ls (lv_sub hl [1, 2, 0] rfl)
                    · -- c_43: st_41.2.1 = 0
                      refine lv_aload_n hx hb dX2_laws_112 rfl (lv_at hl 0 rfl) ?_
                      refine m_cQ (v := p_law (Rr 16) z st_41.1) (As := []) (rest := []) X M (metX2_lawOfWord l D cl hcl h ad dA G R_42 (Rr 16) hT3 z st_41  hz4 hJ2.1) (cwV 0 hts (lw_V q1716 q1718 qs35 q62 q1719) rfl rfl rfl (by decide +kernel) ⟨Nat.le_of_ble_eq_true rfl, Nat.le_of_ble_eq_true rfl⟩) rfl hl.1 rfl (Nat.le_of_ble_eq_true rfl) dX2_laws_113 ⟨Nat.zero_le _, Nat.zero_le _⟩ ?_
                      refine lv_ldc (v := (-1000000)) hx hb hown (hts _ q1430) dX2_laws_116 ?_
                      refine lv_icmp_eq (tgt := 125) hx hb dX2_laws_118 (by decide) (fun c_44 => ?_) (fun c_44 => ?_)
                      · -- c_44: p_law (Rr 16) z st_41.1 = (-1000000)
                        refine lv_iconst (v := 0) hx hb dX2_laws_125 (by decide) ?_
                        refine lv_istore_n (lv' := [(2, .int 0), (0, .ref h), (1, .int v_33)]) hx hb dX2_laws_126 rfl hl (by decide) rfl (fun ls hl => ?_)
                        refine lv_goto (tgt := 96) hx hb dX2_laws_127 (by decide) ?_
                        have hnew : (st_41, R_42, false) = lwIn (Rr 16) z v_33 (st2, R2, mo) := by
                          unfold lwIn
                          rw [← est_41]
                          simp [← est_41, c_43, c_44]
                        obtain ⟨hJ9, hM2⟩ := lwIn_go (T := Rr 16) (day := v_33) (st2, R2, mo) hJ c_36
                        rw [← hnew] at hJ9 hM2
                        exact L_35ih  st_41 R_42 false hJ9 hT3 (by rw [hnew]; exact (wh_t (c := fun x : lwX => x.2.2) (b := lwIn (Rr 16) z v_33) (μ := lwM z) (I := lwI z st_32.1) lwIn_go hJ c_36).symm.trans hfin2) (Nat.lt_of_lt_of_le hM2 (Nat.le_of_lt_succ hfuL_35)) _ _ M ls (lv_sub hl [1, 2, 0] rfl)
                      · -- c_44: p_law (Rr 16) z st_41.1 ≠ (-1000000)
                        refine lv_iconst (v := 1) hx hb dX2_laws_121 (by decide) ?_
                        refine lv_goto (tgt := 126) hx hb dX2_laws_122 (by decide) ?_
                        refine lv_istore_n (lv' := [(2, .int 1), (0, .ref h), (1, .int v_33)]) hx hb dX2_laws_126 rfl hl (by decide) rfl (fun ls hl => ?_)
                        refine lv_goto (tgt := 96) hx hb dX2_laws_127 (by decide) ?_
                        have hnew : (st_41, R_42, true) = lwIn (Rr 16) z v_33 (st2, R2, mo) := by
                          unfold lwIn
                          rw [← est_41]
                          simp [← est_41, c_43, c_44]
                        obtain ⟨hJ9, hM2⟩ := lwIn_go (T := Rr 16) (day := v_33) (st2, R2, mo) hJ c_36
                        rw [← hnew] at hJ9 hM2
                        exact L_35ih  st_41 R_42 true hJ9 hT3 (by rw [hnew]; exact (wh_t (c := fun x : lwX => x.2.2) (b := lwIn (Rr 16) z v_33) (μ := lwM z) (I := lwI z st_32.1) lwIn_go hJ c_36).symm.trans hfin2) (Nat.lt_of_lt_of_le hM2 (Nat.le_of_lt_succ hfuL_35)) _ _ M ls (lv_sub hl [1, 2, 0] rfl)
              exact L_35 (lwM z (st_32, R1, false) + 1) st_32 R1 false (⟨h9I, Nat.le_refl _, fun q => by first | exact c_34 | cases q⟩) hT (by unfold lwRun; rw [decide_eq_false c_34]) (Nat.lt_succ_self _) _ _ M ls (lv_sub hl [2, 1, 0] rfl)
            · -- c_34: st_32.2.1 = 0
              refine lv_iconst (v := 1) hx hb dX2_laws_90 (by decide) ?_
              refine lv_goto (tgt := 95) hx hb dX2_laws_91 (by decide) ?_
              refine lv_istore_n (lv' := [(2, .int 1), (1, .int v_33), (0, .ref h)]) hx hb dX2_laws_95 rfl hl (by decide) rfl (fun ls hl => ?_)
              have L_45 : ∀ (fuL_45 : Nat) (st2 : pS) (R2 : Nat → Nat → Int32) (mo : Bool), (lwI z st_32.1 (st2, R2, mo)) → (R2 16 = Rr 16) → (wh (fun x : lwX => x.2.2) (lwIn (Rr 16) z v_33) (lwM z) (st2, R2, mo) = lwRun (Rr 16) z v_33 (st_32, R1, decide (st_32.2.1 = 0))) → lwM z (st2, R2, mo) < fuL_45 → ∀ (H : Heap) (locs : List Loc), mM D cl h ad dA (mN h ad) s (pF G (Rr 16) z st2) R2 H locs → ∀ ls, lv_has ls 3 [(0, .ref h), (1, .int v_33), (2, .int (b2i mo))] → W p l e ({ frames := 5, cells := 0, slots := 0, locals := 108 } : Room) s m ([.ref h] : List Value).toArray below meth c H locs 0 0 (MQ below (va_Qi (fun r u => (r, u) = m_laws (va_up F 0 0) Rr) (mB D cl h ad dA) (mN h ad)) ([.ref h] : List Value).toArray s 0 0 (mN h ad)) (F0 m 96 ls []) := by
                intro fuL_45
                induction fuL_45 with
                | zero => intro st2 R2 mo hJ hT2 hfin2 hfuL_45; exact absurd hfuL_45 (Nat.not_lt_zero _)
                | succ fuL_45 L_45ih =>
                  intro st2 R2 mo hJ hT2 hfin2 hfuL_45 H locs M ls hl
                  refine lv_iload_n hx hb dX2_laws_96 rfl (lv_at hl 2 rfl) ?_
                  refine lz_if_eq (tgt := 130) hx hb dX2_laws_97 (by decide) (fun c_46 => ?_) (fun c_46 => ?_)
                  · -- c_46: mo = false
                    have e9 : (st2, R2, mo) = lwRun (Rr 16) z v_33 (st_32, R1, decide (st_32.2.1 = 0)) := (wh_f (c := fun x : lwX => x.2.2) (b := lwIn (Rr 16) z v_33) (μ := lwM z) (a := (st2, R2, mo)) c_46).symm.trans hfin2
                    refine lv_aload_n hx hb dX2_laws_130 rfl (lv_at hl 0 rfl) ?_
                    refine mg_24 X M (v := st2.2.1) rfl dX2_laws_131 ?_
                    refine lv_if_ne (tgt := 154) hx hb dX2_laws_134 (by decide) (fun c_47 => ?_) (fun c_47 => ?_)
                    · -- c_47: st2.2.1 ≠ 0
                      refine lv_goto (tgt := 40) hx hb dX2_laws_154 (by decide) ?_
                      have hc9 : loC (Rr 16) z (st, R1) = true := by simp [loC, c_2, c_4]
                      have eA : loA (Rr 16) z st = (v_33, st_32) := by unfold loA; rw [decide_eq_true c_6, ← est_31, ← est_32]
                      have hnewo : (st2, R2) = loOut (Rr 16) z (st, R1) := by
                        unfold loOut
                        rw [eA, ← e9]
                        unfold loF
                        simp [c_47]
                      obtain ⟨hI9, hM9⟩ := loOut_go (T := Rr 16) (z := z) (st, R1) hI hc9
                      rw [← hnewo] at hI9 hM9
                      exact L_1ih  st2 R2 hI9 hT2 (by rw [hnewo]; exact (wh_t (c := loC (Rr 16) z) (b := loOut (Rr 16) z) (μ := loM z) (I := fun x => pI z x.1) loOut_go hI hc9).symm.trans hfin) (Nat.lt_of_lt_of_le hM9 (Nat.le_of_lt_succ hfuL_1)) _ _ M ls (lv_sub hl [0] rfl)
                    · -- c_47: st2.2.1 = 0
                      refine lv_aload_n hx hb dX2_laws_137 rfl (lv_at hl 0 rfl) ?_
                      refine lv_aload_n hx hb dX2_laws_138 rfl (lv_at hl 0 rfl) ?_
                      refine mg_21 X M (v := tkK (Rr 16) z st2.1) rfl dX2_laws_139 ?_
                      refine lv_iconst (v := 4) hx hb dX2_laws_142 (by decide) ?_
                      refine lv_icmp_ne (tgt := 150) hx hb dX2_laws_143 (by decide) (fun c_48 => ?_) (fun c_48 => ?_)
                      · -- c_48: tkK (Rr 16) z st2.1 ≠ 4
                        refine lv_iconst (v := 0) hx hb dX2_laws_150 (by decide) ?_
                        refine m_cUv (As := [.int 0]) (rest := []) X M (metX2_need l D cl hcl h ad dA G R2 (Rr 16) hT2 z st2 false hz4 hJ.1.1) (cwV 1 hts (lw_V q1700 q1702 qs31 q62 q1703) rfl rfl rfl (by decide +kernel) ⟨Nat.le_of_ble_eq_true rfl, Nat.le_of_ble_eq_true rfl⟩) rfl hl.1 rfl (Nat.le_of_ble_eq_true rfl) dX2_laws_151 ⟨Nat.zero_le _, Nat.zero_le _⟩ (fun F9 R9 hr9 H locs M => ?_)
                        obtain ⟨rfl, rfl⟩ : F9 = pF G (Rr 16) z (p_need (Rr 16) z st2 false) ∧ R2 = R9 := ⟨congrArg Prod.fst hr9, (congrArg Prod.snd hr9).symm⟩
                        obtain ⟨st_49, est_49⟩ : ∃ x9, x9 = p_need (Rr 16) z st2 false := ⟨_, rfl⟩
                        rw [← est_49] at M
                        have hst_49 : st_49.1 ≤ z := by rw [est_49]; exact p_need_le hJ.1.1
                        have nst_49 : st_49.2.2.2 = (st2).2.2.2 := by rw [est_49]; exact p_need_n
                        refine lv_goto (tgt := 40) hx hb dX2_laws_154 (by decide) ?_
                        have hc9 : loC (Rr 16) z (st, R1) = true := by simp [loC, c_2, c_4]
                        have eA : loA (Rr 16) z st = (v_33, st_32) := by unfold loA; rw [decide_eq_true c_6, ← est_31, ← est_32]
                        have hnewo : (st_49, R2) = loOut (Rr 16) z (st, R1) := by
                          unfold loOut
                          rw [eA, ← e9]
                          unfold loF
                          simp [c_47, c_48, ← est_49, nst_49]
                        obtain ⟨hI9, hM9⟩ := loOut_go (T := Rr 16) (z := z) (st, R1) hI hc9
                        rw [← hnewo] at hI9 hM9
                        exact L_1ih  st_49 R2 hI9 hT2 (by rw [hnewo]; exact (wh_t (c := loC (Rr 16) z) (b := loOut (Rr 16) z) (μ := loM z) (I := fun x => pI z x.1) loOut_go hI hc9).symm.trans hfin) (Nat.lt_of_lt_of_le hM9 (Nat.le_of_lt_succ hfuL_1)) _ _ M ls (lv_sub hl [0] rfl)
                      · -- c_48: tkK (Rr 16) z st2.1 = 4
                        refine lv_iconst (v := 1) hx hb dX2_laws_146 (by decide) ?_
                        refine lv_goto (tgt := 151) hx hb dX2_laws_147 (by decide) ?_
                        refine m_cUv (As := [.int 1]) (rest := []) X M (metX2_need l D cl hcl h ad dA G R2 (Rr 16) hT2 z st2 true hz4 hJ.1.1) (cwV 1 hts (lw_V q1700 q1702 qs31 q62 q1703) rfl rfl rfl (by decide +kernel) ⟨Nat.le_of_ble_eq_true rfl, Nat.le_of_ble_eq_true rfl⟩) rfl hl.1 rfl (Nat.le_of_ble_eq_true rfl) dX2_laws_151 ⟨Nat.zero_le _, Nat.zero_le _⟩ (fun F9 R9 hr9 H locs M => ?_)
                        obtain ⟨rfl, rfl⟩ : F9 = pF G (Rr 16) z (p_need (Rr 16) z st2 true) ∧ R2 = R9 := ⟨congrArg Prod.fst hr9, (congrArg Prod.snd hr9).symm⟩
                        obtain ⟨st_50, est_50⟩ : ∃ x9, x9 = p_need (Rr 16) z st2 true := ⟨_, rfl⟩
                        rw [← est_50] at M
                        have hst_50 : st_50.1 ≤ z := by rw [est_50]; exact p_need_le hJ.1.1
                        have nst_50 : st_50.2.2.2 = (st2).2.2.2 := by rw [est_50]; exact p_need_n
                        refine lv_goto (tgt := 40) hx hb dX2_laws_154 (by decide) ?_
                        have hc9 : loC (Rr 16) z (st, R1) = true := by simp [loC, c_2, c_4]
                        have eA : loA (Rr 16) z st = (v_33, st_32) := by unfold loA; rw [decide_eq_true c_6, ← est_31, ← est_32]
                        have hnewo : (st_50, R2) = loOut (Rr 16) z (st, R1) := by
                          unfold loOut
                          rw [eA, ← e9]
                          unfold loF
                          simp [c_47, c_48, ← est_50, nst_50]
                        obtain ⟨hI9, hM9⟩ := loOut_go (T := Rr 16) (z := z) (st, R1) hI hc9
                        rw [← hnewo] at hI9 hM9
                        exact L_1ih  st_50 R2 hI9 hT2 (by rw [hnewo]; exact (wh_t (c := loC (Rr 16) z) (b := loOut (Rr 16) z) (μ := loM z) (I := fun x => pI z x.1) loOut_go hI hc9).symm.trans hfin) (Nat.lt_of_lt_of_le hM9 (Nat.le_of_lt_succ hfuL_1)) _ _ M ls (lv_sub hl [0] rfl)
                  · -- c_46: mo = true
                    refine lv_aload_n hx hb dX2_laws_100 rfl (lv_at hl 0 rfl) ?_
                    refine lv_iload_n hx hb dX2_laws_101 rfl (lv_at hl 1 rfl) ?_
                    refine m_cUv (As := [.int v_33]) (rest := []) X M (metX2_readLaw l D cl hcl h ad dA G R2 (Rr 16) hT2 z st2 v_33 hz4 hJ.1.1 (hJ.2.2 c_46) hJ.1.2.2) (cwV 1 hts (lw_V q1712 q1714 qs34 q62 q1715) rfl rfl rfl (by decide +kernel) ⟨Nat.le_of_ble_eq_true rfl, Nat.le_of_ble_eq_true rfl⟩) rfl hl.1 rfl (Nat.le_of_ble_eq_true rfl) dX2_laws_102 ⟨Nat.zero_le _, Nat.zero_le _⟩ (fun F9 R9 hr9 H locs M => ?_)
                    obtain ⟨⟨st_51, R_52⟩, est_51⟩ : ∃ x9, x9 = p_rl (Rr 16) z st2 R2 v_33 := ⟨_, rfl⟩
                    rw [← est_51] at hr9
                    obtain ⟨rfl, rfl⟩ : F9 = pF G (Rr 16) z st_51 ∧ R_52 = R9 := ⟨congrArg Prod.fst hr9, (congrArg Prod.snd hr9).symm⟩
                    obtain ⟨hJ2, hT4⟩ := p_rl_e est_51 hJ.1 (hJ.2.2 c_46)
                    have hT3 : R_52 16 = Rr 16 := hT4.trans hT2
                    refine lv_aload_n hx hb dX2_laws_105 rfl (lv_at hl 0 rfl) ?_
                    refine mg_24 X M (v := st_51.2.1) rfl dX2_laws_106 ?_
                    refine lv_if_ne (tgt := 125) hx hb dX2_laws_109 (by decide) (fun c_53 => ?_) (fun c_53 => ?_)
                    · -- c_53: st_51.2.1 ≠ 0
                      refine lv_iconst (v := 0) hx hb dX2_laws_125 (by decide) ?_
                      refine lv_istore_n (lv' := [(2, .int 0), (0, .ref h), (1, .int v_33)]) hx hb dX2_laws_126 rfl hl (by decide) rfl (fun ls hl => ?_)
                      refine lv_goto (tgt := 96) hx hb dX2_laws_127 (by decide) ?_
                      have hnew : (st_51, R_52, false) = lwIn (Rr 16) z v_33 (st2, R2, mo) := by
                        unfold lwIn
                        rw [← est_51]
                        simp [← est_51, c_53]
                      obtain ⟨hJ9, hM2⟩ := lwIn_go (T := Rr 16) (day := v_33) (st2, R2, mo) hJ c_46
                      rw [← hnew] at hJ9 hM2
                      exact L_45ih  st_51 R_52 false hJ9 hT3 (by rw [hnew]; exact (wh_t (c := fun x : lwX => x.2.2) (b := lwIn (Rr 16) z v_33) (μ := lwM z) (I := lwI z st_32.1) lwIn_go hJ c_46).symm.trans hfin2) (Nat.lt_of_lt_of_le hM2 (Nat.le_of_lt_succ hfuL_45)) _ _ M ls (lv_sub hl [1, 2, 0] rfl)
                    · -- c_53: st_51.2.1 = 0
                      refine lv_aload_n hx hb dX2_laws_112 rfl (lv_at hl 0 rfl) ?_
                      refine m_cQ (v := p_law (Rr 16) z st_51.1) (As := []) (rest := []) X M (metX2_lawOfWord l D cl hcl h ad dA G R_52 (Rr 16) hT3 z st_51  hz4 hJ2.1) (cwV 0 hts (lw_V q1716 q1718 qs35 q62 q1719) rfl rfl rfl (by decide +kernel) ⟨Nat.le_of_ble_eq_true rfl, Nat.le_of_ble_eq_true rfl⟩) rfl hl.1 rfl (Nat.le_of_ble_eq_true rfl) dX2_laws_113 ⟨Nat.zero_le _, Nat.zero_le _⟩ ?_
                      refine lv_ldc (v := (-1000000)) hx hb hown (hts _ q1430) dX2_laws_116 ?_
                      refine lv_icmp_eq (tgt := 125) hx hb dX2_laws_118 (by decide) (fun c_54 => ?_) (fun c_54 => ?_)
                      · -- c_54: p_law (Rr 16) z st_51.1 = (-1000000)
                        refine lv_iconst (v := 0) hx hb dX2_laws_125 (by decide) ?_
                        refine lv_istore_n (lv' := [(2, .int 0), (0, .ref h), (1, .int v_33)]) hx hb dX2_laws_126 rfl hl (by decide) rfl (fun ls hl => ?_)
                        refine lv_goto (tgt := 96) hx hb dX2_laws_127 (by decide) ?_
                        have hnew : (st_51, R_52, false) = lwIn (Rr 16) z v_33 (st2, R2, mo) := by
                          unfold lwIn
                          rw [← est_51]
                          simp [← est_51, c_53, c_54]
                        obtain ⟨hJ9, hM2⟩ := lwIn_go (T := Rr 16) (day := v_33) (st2, R2, mo) hJ c_46
                        rw [← hnew] at hJ9 hM2
                        exact L_45ih  st_51 R_52 false hJ9 hT3 (by rw [hnew]; exact (wh_t (c := fun x : lwX => x.2.2) (b := lwIn (Rr 16) z v_33) (μ := lwM z) (I := lwI z st_32.1) lwIn_go hJ c_46).symm.trans hfin2) (Nat.lt_of_lt_of_le hM2 (Nat.le_of_lt_succ hfuL_45)) _ _ M ls (lv_sub hl [1, 2, 0] rfl)
                      · -- c_54: p_law (Rr 16) z st_51.1 ≠ (-1000000)
                        refine lv_iconst (v := 1) hx hb dX2_laws_121 (by decide) ?_
                        refine lv_goto (tgt := 126) hx hb dX2_laws_122 (by decide) ?_
                        refine lv_istore_n (lv' := [(2, .int 1), (0, .ref h), (1, .int v_33)]) hx hb dX2_laws_126 rfl hl (by decide) rfl (fun ls hl => ?_)
                        refine lv_goto (tgt := 96) hx hb dX2_laws_127 (by decide) ?_
                        have hnew : (st_51, R_52, true) = lwIn (Rr 16) z v_33 (st2, R2, mo) := by
                          unfold lwIn
                          rw [← est_51]
                          simp [← est_51, c_53, c_54]
                        obtain ⟨hJ9, hM2⟩ := lwIn_go (T := Rr 16) (day := v_33) (st2, R2, mo) hJ c_46
                        rw [← hnew] at hJ9 hM2
                        exact L_45ih  st_51 R_52 true hJ9 hT3 (by rw [hnew]; exact (wh_t (c := fun x : lwX => x.2.2) (b := lwIn (Rr 16) z v_33) (μ := lwM z) (I := lwI z st_32.1) lwIn_go hJ c_46).symm.trans hfin2) (Nat.lt_of_lt_of_le hM2 (Nat.le_of_lt_succ hfuL_45)) _ _ M ls (lv_sub hl [1, 2, 0] rfl)
              exact L_45 (lwM z (st_32, R1, true) + 1) st_32 R1 true (⟨h9I, Nat.le_refl _, fun q => by first | exact c_34 | cases q⟩) hT (by unfold lwRun; rw [decide_eq_true c_34]) (Nat.lt_succ_self _) _ _ M ls (lv_sub hl [2, 1, 0] rfl)
  exact L_1 (loM z ((tkSk (Rr 16) z 0, 0, F 25, n10), Rr) + 1) (tkSk (Rr 16) z 0, 0, F 25, n10) Rr (⟨(tkSk_le (Nat.zero_le _)).2, (show (0 : Int32) ≤ 0 by decide), hn10⟩) rfl rfl (Nat.lt_succ_self _) _ _ M ls (lv_sub hl [0] rfl)

