/-! THE REFERENCE, 14: clerks -/
theorem wh_rel {α : Type} {c : α → Bool} {b : α → α} {μ : α → Nat} {Q : α → α → Prop} (hc : ∀ x y, Q x y → c x = c y) (hb : ∀ x y, Q x y → Q (b x) (b y)) (hm : ∀ x y, Q x y → μ x = μ y) {x y : α} (h : Q x y) : Q (wh c b μ x) (wh c b μ y) := by
  unfold wh
  rw [hm x y h]
  generalize μ y + 1 = n
  induction n generalizing x y with
  | zero => exact h
  | succ n ih =>
    show Q (if c x = true then whl c b n (b x) else x) (if c y = true then whl c b n (b y) else y)
    rw [hc x y h]
    split
    · exact ih (hb x y h)
    · exact h
def wQ (x y : wX) : Prop := x.1 = y.1 ∧ (∀ j, j < 8 → x.2.1 j = y.2.1 j) ∧ x.2.2 = y.2.2
theorem w_first_lt (fr : Nat → Int32) {c : Nat} (hc : 1 ≤ c) : w_first fr c < c := by
  unfold w_first
  have h : ∀ n, itr (w_fst fr) n 0 ≤ n := by
    intro n
    induction n with
    | zero => exact Nat.le_refl _
    | succ n ih =>
      rw [itr_s]; unfold w_fst; split
      · exact Nat.le_refl _
      · exact Nat.le_succ_of_le ih
  have := h (c - 1)
  omega
theorem itr_0 {α : Type} (f : Nat → α → α) (a : α) : itr f 0 a = a := rfl
theorem w_fst_eq {f g : Nat → Int32} (h : ∀ j, j < 8 → f j = g j) (n : Nat) : n < 8 → itr (w_fst f) n 0 = itr (w_fst g) n 0 ∧ itr (w_fst f) n 0 ≤ n := by
  induction n with
  | zero => intro _; rw [itr_0, itr_0]; exact ⟨rfl, Nat.le_refl _⟩
  | succ n ih =>
    intro hn
    obtain ⟨e, l⟩ := ih (by omega)
    rw [itr_s, itr_s, ← e]
    clear e
    generalize itr (w_fst f) n 0 = x at l
    have e2 : w_fst f n x = w_fst g n x := by
      unfold w_fst
      rw [h (n + 1) hn, h x (by omega)]
    rw [← e2]
    refine ⟨rfl, ?_⟩
    unfold w_fst
    split
    · exact Nat.le_refl _
    · exact Nat.le_succ_of_le l
theorem w_first_eq {f g : Nat → Int32} {c : Nat} (hc : 1 ≤ c) (h8 : c ≤ 8) (h : ∀ j, j < 8 → f j = g j) : w_first f c = w_first g c :=
  (w_fst_eq h (c - 1) (by omega)).1
theorem w_run_eq {I : Nat → Int32} {a n : Nat} {g tk : Int32} {c : Nat} {x y : wX} (hc : 1 ≤ c) (h8 : c ≤ 8) (h : wQ x y) : wQ (w_run I a n g tk c x) (w_run I a n g tk c y) := by
  refine wh_rel (Q := wQ) (fun x y h => ?_) (fun x y h => ?_) (fun x y h => by rw [h.1]) h
  · unfold w_c; rw [h.1]
  · obtain ⟨h1, h2, h3⟩ := h
    unfold w_body w_step
    rw [h1, w_first_eq hc h8 h2, h2 _ (Nat.lt_of_lt_of_le (w_first_lt y.2.1 hc) h8), h3]
    refine ⟨rfl, fun j hj => ?_, rfl⟩
    show va_up x.2.1 _ _ j = va_up y.2.1 _ _ j
    unfold va_up
    split
    · rfl
    · exact h2 j hj
theorem w_fr0_0 (f : Nat → Int32) : ∀ j, j < 8 → w_fr0 f j = 0 := by
  have h : ∀ n j, j < n → itr (fun k f => va_up f k (0 : Int32)) n f j = 0 := by
    intro n
    induction n with
    | zero => intro j hj; exact absurd hj (Nat.not_lt_zero _)
    | succ n ih =>
      intro j hj
      rw [itr_s]
      unfold va_up
      split
      · rfl
      · exact ih j (by omega)
  exact h 8
/-- how long all wait, whatever the row of the free held -/
def m_wait (I : Nat → Int32) (a n : Nat) (g tk : Int32) (c : Nat) : Int32 := (w_run I a n g tk c (fun _ => false, fun _ => 0, 0)).2.2
theorem m_wait_eq {Rr : Nat → Nat → Int32} {a n : Nat} {g tk : Int32} {c : Nat} (hc : 1 ≤ c) (h8 : c ≤ 8) : (m_waited Rr a n g tk c).2.2 = m_wait (Rr 4) a n g tk c :=
  (w_run_eq hc h8 (x := (fun _ => false, w_fr0 (Rr 45), 0)) (y := (fun _ => false, fun _ => 0, 0)) ⟨rfl, w_fr0_0 _, rfl⟩).2.2
def cR (Rr : Nat → Nat → Int32) (f b w : Nat → Int32) : Nat → Nat → Int32 := va_up (va_up (va_up Rr 45 f) 46 b) 47 w
theorem cR_id {Rr : Nat → Nat → Int32} : Rr = cR Rr (Rr 45) (Rr 46) (Rr 47) := by
  funext j; unfold cR va_up; grind
theorem cR_45 {Rr : Nat → Nat → Int32} {f b w g : Nat → Int32} : va_up (cR Rr f b w) 45 g = cR Rr g b w := by funext j; unfold cR va_up; grind
theorem cR_47 {Rr : Nat → Nat → Int32} {f b w : Nat → Int32} {j : Nat} {x : Int32} : mset (cR Rr f b w) 47 j x = cR Rr f b (va_up w j x) := by
  unfold mset
  rw [show cR Rr f b w 47 = w from rfl]
  funext j; unfold cR va_up; grind
theorem cR_46 {Rr : Nat → Nat → Int32} {f b w : Nat → Int32} {j : Nat} {x : Int32} : mset (cR Rr f b w) 46 j x = cR Rr f (va_up b j x) w := by
  unfold mset
  rw [show cR Rr f b w 46 = b from rfl]
  funext j; unfold cR va_up; grind
def k_ok (I : Nat → Int32) (a : Nat) (j : Nat) : Bool := inB 0 3 (I (a + (2 * j))) && inB 0 1439 (I ((a + (2 * j)) + 1))
def k_some (I : Nat → Int32) (a n : Nat) (g : Int32) : Bool := itr (fun j z => z || decide (I (a + (2 * j)) = g)) n false
def k_wait (I : Nat → Int32) (a n : Nat) (tk : Int32) (g m : Nat) : Int32 := if m = 0 then (if k_some I a n (nI g) = true then (-1000000) else 0) else m_wait I a n (nI g) tk m
def k_stp (w : Nat → Int32) (c p q r : Nat) (x : Int32 × (Nat → Int32)) : Int32 × (Nat → Int32) := if 0 ≤ w p + w (9 + q) + w (18 + r) + w (27 + (c - p - q - r)) ∧ (x.1 = (-1000000) ∨ w p + w (9 + q) + w (18 + r) + w (27 + (c - p - q - r)) < x.1) then (w p + w (9 + q) + w (18 + r) + w (27 + (c - p - q - r)), va_up (va_up (va_up (va_up x.2 0 (nI p)) 1 (nI q)) 2 (nI r)) 3 (nI (c - p - q - r))) else x
def k_r (w : Nat → Int32) (c p q : Nat) (x : Int32 × (Nat → Int32)) : Int32 × (Nat → Int32) := itr (fun l x => k_stp w c p q (c - p - q - l) x) (c - p - q + 1) x
def k_q (w : Nat → Int32) (c p : Nat) (x : Int32 × (Nat → Int32)) : Int32 × (Nat → Int32) := itr (fun j x => k_r w c p (c - p - j) x) (c - p + 1) x
def k_p (w : Nat → Int32) (c : Nat) (x : Int32 × (Nat → Int32)) : Int32 × (Nat → Int32) := itr (fun i x => k_q w c (c - i) x) (c + 1) x
def k_res (w : Nat → Int32) (c : Nat) (b : Nat → Int32) (what : Int32) : Int32 := if (k_p w c ((-1000000), b)).1 = (-1000000) then (-1000000) else if what = 0 then (k_p w c ((-1000000), b)).1 else (k_p w c ((-1000000), b)).2 (what - 1).toNatClampNeg
def m_clerks (F : Nat → Int32) (Rr : Nat → Nat → Int32) (s i n k c what : Int32) (r : Int32) (u : mST) : Prop := if inB 0 7 s = false ∨ inB 1 20 n = false ∨ inB 1 60 k = false ∨ inB 1 8 c = false ∨ inB 0 4 what = false then (r, u) = ((-1000001), F, Rr) else if (m_lookItems F Rr s i (2 * n)).1 < 0 then (r, u) = m_lookItems F Rr s i (2 * n) else if ∀ j, j < n.toNatClampNeg → k_ok (Rr 4) (64 * s.toNatClampNeg + i.toNatClampNeg) j = true then (∃ f b w, (∀ g, g < 4 → ∀ m, m ≤ c.toNatClampNeg → w (9 * g + m) = k_wait (Rr 4) (64 * s.toNatClampNeg + i.toNatClampNeg) n.toNatClampNeg k g m) ∧ r = k_res w c.toNatClampNeg (Rr 46) what ∧ u = (va_up F 1 0, cR Rr f b w)) else (r, u) = ((-1000001), F, Rr)
set_option maxHeartbeats 4000000 in
set_option maxRecDepth 100000 in
theorem metX2_clerks (l : Launch) (D : va_G) (cl : List vw_C) (hcl : cl[0]? = some (RX2, TX2, 61)) (h : Nat) (ad : Nat → Nat) (dA : ClassId) (F : Nat → Int32) (Rr : Nat → Nat → Int32) (p1 : Int32) (p2 : Int32) (p3 : Int32) (p4 : Int32) (p5 : Int32) (p6 : Int32) (h3 : ∀ k, k < 8 → cnB (Rr 3 k) 64) : Met l yX2_clerks (ws_ yX2_clerks cX2_clerks 15 (some .int)) ({ frames := 2, cells := 0, slots := 0, locals := 45 } : Room) (va_Pc [.ref h, .int p1, .int p2, .int p3, .int p4, .int p5, .int p6] (mPre D cl h ad dA F Rr)) (va_Qi (fun r u => m_clerks (va_up F 0 0) Rr p1 p2 p3 p4 p5 p6 r u) (mB D cl h ad dA) (mN h ad)) 0 0 (mN h ad) := by
  refine Met.ofW (cc := cX2_clerks) (maxL := 15) (ret := (some .int)) (by decide) rfl ?_
  intro p e s m args below meth c s₁ B hml hv
  obtain ⟨rfl, hK, hP, hD⟩ := hv
  have hx := B.exec
  have hb := B.bytes
  have hr := B.returns
  have hts := atoms_spec (ws := (ws_ yX2_clerks cX2_clerks 15 (some .int))) B.pre
  have hts : ∀ w ∈ lw_all, w.before _ s = true := fun w h => hts w (List.mem_cons_of_mem _ h)
  have hown : s.vm.findClass RX2 = some m.cls := findClass_of_methodNamed B.named
  have hlocks := B.notSynchronized
  have S : CallFix p m c cX2_clerks 15 s ([.ref h, .int p1, .int p2, .int p3, .int p4, .int p5, .int p6] : List Value).toArray lw_all RX2 := ⟨hx, hb, hml, hown, hts⟩
  have X : mX p s m ([.ref h, .int p1, .int p2, .int p3, .int p4, .int p5, .int p6] : List Value).toArray c cX2_clerks 15 D cl dA := ⟨hx, hb, hml, hown, hts, hK, hcl⟩
  have M : mM D cl h ad dA (mN h ad) s F Rr s.heap [] := ⟨hP, mW_self hD, va_S.rf⟩
  have hl := lv_entry ([.ref h, .int p1, .int p2, .int p3, .int p4, .int p5, .int p6]) (n := 15) (Nat.le_of_ble_eq_true rfl)
  rw [lg_entry_eq]
  generalize (lg_sl ([.ref h, .int p1, .int p2, .int p3, .int p4, .int p5, .int p6]) ++ List.replicate (15 - (lg_sl ([.ref h, .int p1, .int p2, .int p3, .int p4, .int p5, .int p6])).length) Slot.unset).toArray = ls at hl ⊢
  have hl : lv_has ls 15 [(0, .ref h), (1, .int p1), (2, .int p2), (3, .int p3), (4, .int p4), (5, .int p5), (6, .int p6)] := hl
  refine lv_aload_n hx hb dX2_clerks_0 rfl (lv_at hl 0 rfl) ?_
  refine lv_iconst (v := 0) hx hb dX2_clerks_1 (by decide) ?_
  refine mp_0 X M dX2_clerks_2 (fun H locs M => ?_)
  refine lv_iload_n hx hb dX2_clerks_5 rfl (lv_at hl 1 rfl) ?_
  refine s_cI (v := b2i (inB 0 7 p1)) (As := [.int p1]) (rest := []) S (metX2_isSheet l p1) (va_cwS 1 hts (lw_S q1619 q1620 q62 q1621) rfl rfl rfl (by decide +kernel) ⟨Nat.le_of_ble_eq_true rfl, Nat.le_of_ble_eq_true rfl⟩) rfl hl.1 rfl (Nat.le_of_ble_eq_true rfl) dX2_clerks_6 ⟨Nat.zero_le _, Nat.zero_le _⟩ ?_
  refine lz_if_eq (tgt := 63) hx hb dX2_clerks_9 (by decide) (fun c_1 => ?_) (fun c_1 => ?_)
  · -- c_1: inB 0 7 p1 = false
    refine lv_ldc (v := (-1000001)) hx hb hown (hts _ q1627) dX2_clerks_63 ?_
    exact W.iret (v := (-1000001)) hx hb hr (fun t9 ht9 hW9 => ⟨⟨_, (va_up F 0 0, Rr), rfl, (by show m_clerks _ _ _ _ _ _ _ _ _ _; unfold m_clerks; rw [if_pos (by simp [c_1])]), by show va_P _ _ _ t9.heap; rw [ht9]; exact M.1⟩, M.2.2.F ht9⟩) M.2.2.2.2 dX2_clerks_65
  · -- c_1: inB 0 7 p1 = true
    obtain ⟨s1, hs1, rfl⟩ := inB_ex c_1 (n := 7) rfl
    have es1 : (nI s1).toNatClampNeg = s1 := nI_clamp (by omega)
    refine lv_iload_n hx hb dX2_clerks_12 rfl (lv_at hl 3 rfl) ?_
    refine lv_i2l (v := p3.toInt64) hx hb dX2_clerks_13 rfl ?_
    refine lv_lconst (v := 1) hx hb dX2_clerks_14 (by decide) ?_
    refine lv_ldc2 (v := 20) hx hb hown (hts _ q1749) dX2_clerks_15 ?_
    refine s_cI (v := b2i (inB 1 20 p3)) (As := [.long p3.toInt64, .long 1, .long 20]) (rest := []) S (metX2_inI l p3 1 20 p3.toInt64 1 20 rfl rfl rfl) (va_cwS 3 hts (lw_S q1623 q1624 q62 q1625) rfl rfl rfl (by decide +kernel) ⟨Nat.le_of_ble_eq_true rfl, Nat.le_of_ble_eq_true rfl⟩) rfl hl.1 rfl (Nat.le_of_ble_eq_true rfl) dX2_clerks_18 ⟨Nat.zero_le _, Nat.zero_le _⟩ ?_
    refine lz_if_eq (tgt := 63) hx hb dX2_clerks_21 (by decide) (fun c_2 => ?_) (fun c_2 => ?_)
    · -- c_2: inB 1 20 p3 = false
      refine lv_ldc (v := (-1000001)) hx hb hown (hts _ q1627) dX2_clerks_63 ?_
      exact W.iret (v := (-1000001)) hx hb hr (fun t9 ht9 hW9 => ⟨⟨_, (va_up F 0 0, Rr), rfl, (by show m_clerks _ _ _ _ _ _ _ _ _ _; unfold m_clerks; rw [if_pos (by simp [c_1, es1, c_2])]), by show va_P _ _ _ t9.heap; rw [ht9]; exact M.1⟩, M.2.2.F ht9⟩) M.2.2.2.2 dX2_clerks_65
    · -- c_2: inB 1 20 p3 = true
      obtain ⟨n1, hn1, rfl⟩ := inB_ex (show inB 0 20 p3 = true from inB_t.mpr ⟨Int32.le_trans (by decide) (inB_t.mp c_2).1, (inB_t.mp c_2).2⟩) (n := 20) rfl
      have en1 : (nI n1).toNatClampNeg = n1 := nI_clamp (by omega)
      have hn1p : 1 ≤ n1 := Nat.pos_of_ne_zero (fun q => by rw [q] at c_2; exact absurd (inB_t.mp c_2).1 (by decide))
      have e2n : 2 * nI n1 = nI (2 * n1) := nI_mul 2 n1
      refine lv_iload hx hb dX2_clerks_24 (lv_at hl 4 rfl) ?_
      refine lv_i2l (v := p4.toInt64) hx hb dX2_clerks_26 rfl ?_
      refine lv_lconst (v := 1) hx hb dX2_clerks_27 (by decide) ?_
      refine lv_ldc2 (v := 60) hx hb hown (hts _ q1813) dX2_clerks_28 ?_
      refine s_cI (v := b2i (inB 1 60 p4)) (As := [.long p4.toInt64, .long 1, .long 60]) (rest := []) S (metX2_inI l p4 1 60 p4.toInt64 1 60 rfl rfl rfl) (va_cwS 3 hts (lw_S q1623 q1624 q62 q1625) rfl rfl rfl (by decide +kernel) ⟨Nat.le_of_ble_eq_true rfl, Nat.le_of_ble_eq_true rfl⟩) rfl hl.1 rfl (Nat.le_of_ble_eq_true rfl) dX2_clerks_31 ⟨Nat.zero_le _, Nat.zero_le _⟩ ?_
      refine lz_if_eq (tgt := 63) hx hb dX2_clerks_34 (by decide) (fun c_3 => ?_) (fun c_3 => ?_)
      · -- c_3: inB 1 60 p4 = false
        refine lv_ldc (v := (-1000001)) hx hb hown (hts _ q1627) dX2_clerks_63 ?_
        exact W.iret (v := (-1000001)) hx hb hr (fun t9 ht9 hW9 => ⟨⟨_, (va_up F 0 0, Rr), rfl, (by show m_clerks _ _ _ _ _ _ _ _ _ _; unfold m_clerks; rw [if_pos (by simp [c_1, es1, c_2, en1, c_3])]), by show va_P _ _ _ t9.heap; rw [ht9]; exact M.1⟩, M.2.2.F ht9⟩) M.2.2.2.2 dX2_clerks_65
      · -- c_3: inB 1 60 p4 = true
        refine lv_iload hx hb dX2_clerks_37 (lv_at hl 5 rfl) ?_
        refine lv_i2l (v := p5.toInt64) hx hb dX2_clerks_39 rfl ?_
        refine lv_lconst (v := 1) hx hb dX2_clerks_40 (by decide) ?_
        refine lv_ldc2 (v := 8) hx hb hown (hts _ q1652) dX2_clerks_41 ?_
        refine s_cI (v := b2i (inB 1 8 p5)) (As := [.long p5.toInt64, .long 1, .long 8]) (rest := []) S (metX2_inI l p5 1 8 p5.toInt64 1 8 rfl rfl rfl) (va_cwS 3 hts (lw_S q1623 q1624 q62 q1625) rfl rfl rfl (by decide +kernel) ⟨Nat.le_of_ble_eq_true rfl, Nat.le_of_ble_eq_true rfl⟩) rfl hl.1 rfl (Nat.le_of_ble_eq_true rfl) dX2_clerks_44 ⟨Nat.zero_le _, Nat.zero_le _⟩ ?_
        refine lz_if_eq (tgt := 63) hx hb dX2_clerks_47 (by decide) (fun c_4 => ?_) (fun c_4 => ?_)
        · -- c_4: inB 1 8 p5 = false
          refine lv_ldc (v := (-1000001)) hx hb hown (hts _ q1627) dX2_clerks_63 ?_
          exact W.iret (v := (-1000001)) hx hb hr (fun t9 ht9 hW9 => ⟨⟨_, (va_up F 0 0, Rr), rfl, (by show m_clerks _ _ _ _ _ _ _ _ _ _; unfold m_clerks; rw [if_pos (by simp [c_1, es1, c_2, en1, c_3, c_4])]), by show va_P _ _ _ t9.heap; rw [ht9]; exact M.1⟩, M.2.2.F ht9⟩) M.2.2.2.2 dX2_clerks_65
        · -- c_4: inB 1 8 p5 = true
          obtain ⟨c1, hc1, rfl⟩ := inB_ex (show inB 0 8 p5 = true from inB_t.mpr ⟨Int32.le_trans (by decide) (inB_t.mp c_4).1, (inB_t.mp c_4).2⟩) (n := 8) rfl
          have ec1 : (nI c1).toNatClampNeg = c1 := nI_clamp (by omega)
          have hc1p : 1 ≤ c1 := Nat.pos_of_ne_zero (fun q => by rw [q] at c_4; exact absurd (inB_t.mp c_4).1 (by decide))
          refine lv_iload hx hb dX2_clerks_50 (lv_at hl 6 rfl) ?_
          refine lv_i2l (v := p6.toInt64) hx hb dX2_clerks_52 rfl ?_
          refine lv_lconst (v := 0) hx hb dX2_clerks_53 (by decide) ?_
          refine lv_ldc2 (v := 4) hx hb hown (hts _ q1771) dX2_clerks_54 ?_
          refine s_cI (v := b2i (inB 0 4 p6)) (As := [.long p6.toInt64, .long 0, .long 4]) (rest := []) S (metX2_inI l p6 0 4 p6.toInt64 0 4 rfl rfl rfl) (va_cwS 3 hts (lw_S q1623 q1624 q62 q1625) rfl rfl rfl (by decide +kernel) ⟨Nat.le_of_ble_eq_true rfl, Nat.le_of_ble_eq_true rfl⟩) rfl hl.1 rfl (Nat.le_of_ble_eq_true rfl) dX2_clerks_57 ⟨Nat.zero_le _, Nat.zero_le _⟩ ?_
          refine lz_if_ne (tgt := 66) hx hb dX2_clerks_60 (by decide) (fun c_5 => ?_) (fun c_5 => ?_)
          · -- c_5: inB 0 4 p6 = true
            refine lv_aload_n hx hb dX2_clerks_66 rfl (lv_at hl 0 rfl) ?_
            refine lv_iload_n hx hb dX2_clerks_67 rfl (lv_at hl 1 rfl) ?_
            refine lv_iload_n hx hb dX2_clerks_68 rfl (lv_at hl 2 rfl) ?_
            refine lv_iconst (v := 2) hx hb dX2_clerks_69 (by decide) ?_
            refine lv_iload_n hx hb dX2_clerks_70 rfl (lv_at hl 3 rfl) ?_
            refine lv_imul hx hb dX2_clerks_71 ?_
            refine lv_asi (y := nI (2 * n1)) (nI_mul 2 n1) ?_
            refine m_cU (As := [.int (nI s1), .int p2, .int (nI (2 * n1))]) (rest := []) X M (metX2_lookItems l D cl hcl h ad dA (va_up F 0 0) Rr (nI s1) p2 (nI (2 * n1)) (vp_in_nI (by omega) (by omega))) (cwV 3 hts (lw_V q1767 q1769 qs40 q62 q1770) rfl rfl rfl (by decide +kernel) ⟨Nat.le_of_ble_eq_true rfl, Nat.le_of_ble_eq_true rfl⟩) rfl hl.1 rfl (Nat.le_of_ble_eq_true rfl) dX2_clerks_72 ⟨Nat.zero_le _, Nat.zero_le _⟩ (fun r9 F9 R9 hr9 H locs M => ?_)
            obtain ⟨Z_6, eZ_6⟩ : ∃ z, z = m_lookItems (va_up F 0 0) Rr (nI s1) p2 (nI (2 * n1)) := ⟨_, rfl⟩
            rw [← eZ_6] at hr9
            obtain ⟨rfl, rfl, rfl⟩ : r9 = Z_6.1 ∧ F9 = Z_6.2.1 ∧ R9 = Z_6.2.2 := ⟨congrArg Prod.fst hr9, congrArg (fun z => z.2.1) hr9, congrArg (fun z => z.2.2) hr9⟩
            refine lv_istore (lv' := [(7, .int Z_6.1), (0, .ref h), (1, .int (nI s1)), (2, .int p2), (3, .int (nI n1)), (4, .int p4), (5, .int (nI c1)), (6, .int p6)]) hx hb dX2_clerks_75 hl (by decide) rfl (fun ls hl => ?_)
            refine lv_iload hx hb dX2_clerks_77 (lv_at hl 0 rfl) ?_
            refine lb_if_ge (tgt := 85) hx hb dX2_clerks_79 (by decide) (fun c_7 c_7' => ?_) (fun c_7 c_7' => ?_)
            · -- c_7: Z_6.1 ≥ 0
              obtain ⟨look0, look1, look2, look3⟩ := m_look_ok (by rw [← eZ_6]; exact c_7)
              rw [look0] at eZ_6
              subst eZ_6
              have M : mM D cl h ad dA (mN h ad) s (va_up F 0 0) Rr H locs := M
              obtain ⟨i1, hi1, rfl⟩ := nat_ge0 look2
              have ei1 : (nI i1).toNatClampNeg = i1 := nI_clamp (by omega)
              have hs1 := add64 hi1 (b := 2 * n1) (by omega) look3 (h3 _ (by rw [es1]; omega)) (n := 64) rfl
              refine lv_bipush (v := 64) hx hb dX2_clerks_85 (by decide) ?_
              refine lv_iload_n hx hb dX2_clerks_87 rfl (lv_at hl 2 rfl) ?_
              refine lv_imul hx hb dX2_clerks_88 ?_
              refine lv_asi (y := nI (64 * s1)) (nI_mul 64 s1) ?_
              refine lv_iload_n hx hb dX2_clerks_89 rfl (lv_at hl 3 rfl) ?_
              refine lv_iadd hx hb dX2_clerks_90 ?_
              refine lv_asi (y := nI ((64 * s1) + i1)) (nI_add (64 * s1) i1) ?_
              refine lv_istore (lv' := [(8, .int (nI ((64 * s1) + i1))), (7, .int 0), (0, .ref h), (1, .int (nI s1)), (2, .int (nI i1)), (3, .int (nI n1)), (4, .int p4), (5, .int (nI c1)), (6, .int p6)]) hx hb dX2_clerks_91 hl (by decide) rfl (fun ls hl => ?_)
              refine lv_iconst (v := 0) hx hb dX2_clerks_93 (by decide) ?_
              refine lv_istore (lv' := [(9, .int 0), (8, .int (nI ((64 * s1) + i1))), (7, .int 0), (0, .ref h), (1, .int (nI s1)), (2, .int (nI i1)), (3, .int (nI n1)), (4, .int p4), (5, .int (nI c1)), (6, .int p6)]) hx hb dX2_clerks_94 hl (by decide) rfl (fun ls hl => ?_)
              have L_8 : ∀ (fuL_8 : Nat) (i : Nat), (i ≤ n1) → (∀ j, j < i → k_ok (Rr 4) (64 * s1 + i1) j = true) → n1 - i < fuL_8 → ∀ (H : Heap) (locs : List Loc), mM D cl h ad dA (mN h ad) s (va_up F 0 0) Rr H locs → ∀ ls, lv_has ls 15 [(0, .ref h), (1, .int (nI s1)), (2, .int (nI i1)), (3, .int (nI n1)), (4, .int p4), (5, .int (nI c1)), (6, .int p6), (7, .int 0), (8, .int (nI ((64 * s1) + i1))), (9, .int (nI i))] → W p l e ({ frames := 2, cells := 0, slots := 0, locals := 45 } : Room) s m ([.ref h, .int (nI s1), .int (nI i1), .int (nI n1), .int p4, .int (nI c1), .int p6] : List Value).toArray below meth c H locs 0 0 (MQ below (va_Qi (fun r u => m_clerks (va_up F 0 0) Rr (nI s1) (nI i1) (nI n1) p4 (nI c1) p6 r u) (mB D cl h ad dA) (mN h ad)) ([.ref h, .int (nI s1), .int (nI i1), .int (nI n1), .int p4, .int (nI c1), .int p6] : List Value).toArray s 0 0 (mN h ad)) (F0 m 96 ls []) := by
                intro fuL_8
                induction fuL_8 with
                | zero => intro i hi hall hfuL_8; exact absurd hfuL_8 (Nat.not_lt_zero _)
                | succ fuL_8 L_8ih =>
                  intro i hi hall hfuL_8 H locs M ls hl
                  refine lv_iload hx hb dX2_clerks_96 (lv_at hl 9 rfl) ?_
                  refine lv_iload_n hx hb dX2_clerks_98 rfl (lv_at hl 3 rfl) ?_
                  refine ln_icmp_ge (tgt := 154) hx hb (a := i) (b := n1) (by omega) (by omega) dX2_clerks_99 (by decide) (fun c_9 => ?_) (fun c_9 => ?_)
                  · -- c_9: nI i ≥ nI n1
                    have hall9 : ∀ j, j < n1 → k_ok (Rr 4) (64 * s1 + i1) j = true := fun k hk => hall k (by omega)
                    refine lv_aload_n hx hb dX2_clerks_154 rfl (lv_at hl 0 rfl) ?_
                    refine lv_iconst (v := 0) hx hb dX2_clerks_155 (by decide) ?_
                    refine mp_1 X M dX2_clerks_156 (fun H locs M => ?_)
                    refine lv_iconst (v := 0) hx hb dX2_clerks_159 (by decide) ?_
                    refine lv_istore (lv' := [(9, .int 0), (0, .ref h), (1, .int (nI s1)), (2, .int (nI i1)), (3, .int (nI n1)), (4, .int p4), (5, .int (nI c1)), (6, .int p6), (7, .int 0), (8, .int (nI ((64 * s1) + i1)))]) hx hb dX2_clerks_160 hl (by decide) rfl (fun ls hl => ?_)
                    have L_10 : ∀ (fuL_10 : Nat) (g0 : Nat) (f : Nat → Int32) (wv : Nat → Int32), (g0 ≤ 4) → (∀ g, g < g0 → ∀ m, m ≤ c1 → wv (9 * g + m) = k_wait (Rr 4) (64 * s1 + i1) n1 p4 g m) → 4 - g0 < fuL_10 → ∀ (H : Heap) (locs : List Loc), mM D cl h ad dA (mN h ad) s (va_up (va_up F 0 0) 1 0) (cR Rr f (Rr 46) wv) H locs → ∀ ls, lv_has ls 15 [(0, .ref h), (1, .int (nI s1)), (2, .int (nI i1)), (3, .int (nI n1)), (4, .int p4), (5, .int (nI c1)), (6, .int p6), (7, .int 0), (8, .int (nI ((64 * s1) + i1))), (9, .int (nI g0))] → W p l e ({ frames := 2, cells := 0, slots := 0, locals := 45 } : Room) s m ([.ref h, .int (nI s1), .int (nI i1), .int (nI n1), .int p4, .int (nI c1), .int p6] : List Value).toArray below meth c H locs 0 0 (MQ below (va_Qi (fun r u => m_clerks (va_up F 0 0) Rr (nI s1) (nI i1) (nI n1) p4 (nI c1) p6 r u) (mB D cl h ad dA) (mN h ad)) ([.ref h, .int (nI s1), .int (nI i1), .int (nI n1), .int p4, .int (nI c1), .int p6] : List Value).toArray s 0 0 (mN h ad)) (F0 m 162 ls []) := by
                      intro fuL_10
                      induction fuL_10 with
                      | zero => intro g0 f wv hg0 hw hfuL_10; exact absurd hfuL_10 (Nat.not_lt_zero _)
                      | succ fuL_10 L_10ih =>
                        intro g0 f wv hg0 hw hfuL_10 H locs M ls hl
                        refine lv_iload hx hb dX2_clerks_162 (lv_at hl 9 rfl) ?_
                        refine lv_iconst (v := 4) hx hb dX2_clerks_164 (by decide) ?_
                        refine ln_icmp_ge (tgt := 284) hx hb (a := g0) (b := 4) (by omega) (by omega) dX2_clerks_165 (by decide) (fun c_11 => ?_) (fun c_11 => ?_)
                        · -- c_11: nI g0 ≥ 4
                          have hwF : ∀ g, g < 4 → ∀ m, m ≤ c1 → wv (9 * g + m) = k_wait (Rr 4) (64 * s1 + i1) n1 p4 g m := fun g hg m hm => hw g (by omega) m hm
                          refine lv_ldc (v := (-1000000)) hx hb hown (hts _ q1430) dX2_clerks_284 ?_
                          refine lv_istore (lv' := [(9, .int (-1000000)), (0, .ref h), (1, .int (nI s1)), (2, .int (nI i1)), (3, .int (nI n1)), (4, .int p4), (5, .int (nI c1)), (6, .int p6), (7, .int 0), (8, .int (nI ((64 * s1) + i1)))]) hx hb dX2_clerks_286 hl (by decide) rfl (fun ls hl => ?_)
                          refine lv_iload hx hb dX2_clerks_288 (lv_at hl 6 rfl) ?_
                          refine lv_istore (lv' := [(10, .int (nI c1)), (9, .int (-1000000)), (0, .ref h), (1, .int (nI s1)), (2, .int (nI i1)), (3, .int (nI n1)), (4, .int p4), (5, .int (nI c1)), (6, .int p6), (7, .int 0), (8, .int (nI ((64 * s1) + i1)))]) hx hb dX2_clerks_290 hl (by decide) rfl (fun ls hl => ?_)
                          have L_12 : ∀ (fuL_12 : Nat) (ip : Nat) (rp : Nat) (le : Int32) (b : Nat → Int32), (ip + rp = c1 + 1) → ((le, b) = itr (fun i x => k_q wv c1 (c1 - i) x) ip ((-1000000), (Rr 46))) → rp < fuL_12 → ∀ (H : Heap) (locs : List Loc), mM D cl h ad dA (mN h ad) s (va_up (va_up F 0 0) 1 0) (cR Rr f b wv) H locs → ∀ ls, lv_has ls 15 [(0, .ref h), (1, .int (nI s1)), (2, .int (nI i1)), (3, .int (nI n1)), (4, .int p4), (5, .int (nI c1)), (6, .int p6), (7, .int 0), (8, .int (nI ((64 * s1) + i1))), (9, .int le), (10, .int (nI rp - 1))] → W p l e ({ frames := 2, cells := 0, slots := 0, locals := 45 } : Room) s m ([.ref h, .int (nI s1), .int (nI i1), .int (nI n1), .int p4, .int (nI c1), .int p6] : List Value).toArray below meth c H locs 0 0 (MQ below (va_Qi (fun r u => m_clerks (va_up F 0 0) Rr (nI s1) (nI i1) (nI n1) p4 (nI c1) p6 r u) (mB D cl h ad dA) (mN h ad)) ([.ref h, .int (nI s1), .int (nI i1), .int (nI n1), .int p4, .int (nI c1), .int p6] : List Value).toArray s 0 0 (mN h ad)) (F0 m 292 ls []) := by
                            intro fuL_12
                            induction fuL_12 with
                            | zero => intro ip rp le b hsip qle hfuL_12; exact absurd hfuL_12 (Nat.not_lt_zero _)
                            | succ fuL_12 L_12ih =>
                              intro ip rp le b hsip qle hfuL_12 H locs M ls hl
                              refine lv_iload hx hb dX2_clerks_292 (lv_at hl 10 rfl) ?_
                              refine lb_if_lt (tgt := 452) hx hb dX2_clerks_294 (by decide) (fun c_13 c_13' => ?_) (fun c_13 c_13' => ?_)
                              · -- c_13: nI rp - 1 < 0
                                have er1 : rp = 0 := dec_lt0 (by omega) c_13
                                have ek1 : (le, b) = k_p wv c1 (-1000000, Rr 46) := by unfold k_p; rw [qle, show ip = c1 + 1 by omega]
                                refine lv_iload hx hb dX2_clerks_452 (lv_at hl 9 rfl) ?_
                                refine lv_ldc (v := (-1000000)) hx hb hown (hts _ q1430) dX2_clerks_454 ?_
                                refine lv_icmp_ne (tgt := 464) hx hb dX2_clerks_456 (by decide) (fun c_14 => ?_) (fun c_14 => ?_)
                                · -- c_14: le ≠ (-1000000)
                                  refine lv_iload hx hb dX2_clerks_464 (lv_at hl 6 rfl) ?_
                                  refine lv_if_ne (tgt := 474) hx hb dX2_clerks_466 (by decide) (fun c_15 => ?_) (fun c_15 => ?_)
                                  · -- c_15: p6 ≠ 0
                                    refine lv_aload_n hx hb dX2_clerks_474 rfl (lv_at hl 0 rfl) ?_
                                    refine mg_46 X M dX2_clerks_475 ?_
                                    refine lv_iload hx hb dX2_clerks_478 (lv_at hl 6 rfl) ?_
                                    refine lv_iconst (v := 1) hx hb dX2_clerks_480 (by decide) ?_
                                    refine lv_isub hx hb dX2_clerks_481 ?_
                                    refine mr_46 X M (f := b) rfl (j := (p6 - 1).toNatClampNeg) (by first | assumption | exact vp_inN (N := 4) rfl (by grind [inB]) (by grind [inB])) rfl dX2_clerks_482 ?_
                                    exact W.iret (v := b ((p6 - 1).toNatClampNeg)) hx hb hr (fun t9 ht9 hW9 => ⟨⟨_, (va_up (va_up F 0 0) 1 0, cR Rr f b wv), rfl, (by show m_clerks _ _ _ _ _ _ _ _ _ _; unfold m_clerks; rw [en1, ec1, es1, ei1, e2n, look0]; rw [if_neg (by simp [c_1, c_2, c_3, c_4, c_5]), if_neg (by show ¬ ((0 : Int32) < 0); decide), if_pos hall9]; exact ⟨f, b, wv, hwF, (by unfold k_res; rw [← ek1]; simp [c_14, c_15]), rfl⟩), by show va_P _ _ _ t9.heap; rw [ht9]; exact M.1⟩, M.2.2.F ht9⟩) M.2.2.2.2 dX2_clerks_483
                                  · -- c_15: p6 = 0
                                    refine lv_iload hx hb dX2_clerks_469 (lv_at hl 9 rfl) ?_
                                    refine lv_goto (tgt := 483) hx hb dX2_clerks_471 (by decide) ?_
                                    exact W.iret (v := le) hx hb hr (fun t9 ht9 hW9 => ⟨⟨_, (va_up (va_up F 0 0) 1 0, cR Rr f b wv), rfl, (by show m_clerks _ _ _ _ _ _ _ _ _ _; unfold m_clerks; rw [en1, ec1, es1, ei1, e2n, look0]; rw [if_neg (by simp [c_1, c_2, c_3, c_4, c_5]), if_neg (by show ¬ ((0 : Int32) < 0); decide), if_pos hall9]; exact ⟨f, b, wv, hwF, (by unfold k_res; rw [← ek1]; simp [c_14, c_15]), rfl⟩), by show va_P _ _ _ t9.heap; rw [ht9]; exact M.1⟩, M.2.2.F ht9⟩) M.2.2.2.2 dX2_clerks_483
                                · -- c_14: le = (-1000000)
                                  refine lv_ldc (v := (-1000000)) hx hb hown (hts _ q1430) dX2_clerks_459 ?_
                                  refine lv_goto (tgt := 483) hx hb dX2_clerks_461 (by decide) ?_
                                  exact W.iret (v := (-1000000)) hx hb hr (fun t9 ht9 hW9 => ⟨⟨_, (va_up (va_up F 0 0) 1 0, cR Rr f b wv), rfl, (by show m_clerks _ _ _ _ _ _ _ _ _ _; unfold m_clerks; rw [en1, ec1, es1, ei1, e2n, look0]; rw [if_neg (by simp [c_1, c_2, c_3, c_4, c_5]), if_neg (by show ¬ ((0 : Int32) < 0); decide), if_pos hall9]; exact ⟨f, b, wv, hwF, (by unfold k_res; rw [← ek1]; simp [c_14]), rfl⟩), by show va_P _ _ _ t9.heap; rw [ht9]; exact M.1⟩, M.2.2.F ht9⟩) M.2.2.2.2 dX2_clerks_483
                              · -- c_13: nI rp - 1 ≥ 0
                                obtain ⟨rp1, rfl⟩ := dec_ge0 c_13
                                rw [nI_pred] at hl
                                refine lv_iload hx hb dX2_clerks_297 (lv_at hl 5 rfl) ?_
                                refine lv_iload hx hb dX2_clerks_299 (lv_at hl 10 rfl) ?_
                                refine lv_isub hx hb dX2_clerks_301 ?_
                                refine lv_asi (y := nI (c1 - rp1)) (nI_subN (a := c1) (b := rp1) (by omega)) ?_
                                refine lv_istore (lv' := [(11, .int (nI (c1 - rp1))), (0, .ref h), (1, .int (nI s1)), (2, .int (nI i1)), (3, .int (nI n1)), (4, .int p4), (5, .int (nI c1)), (6, .int p6), (7, .int 0), (8, .int (nI ((64 * s1) + i1))), (9, .int le), (10, .int (nI rp1))]) hx hb dX2_clerks_302 hl (by decide) rfl (fun ls hl => ?_)
                                have L_16 : ∀ (fuL_16 : Nat) (iq : Nat) (rq : Nat) (le2 : Int32) (b2 : Nat → Int32), (iq + rq = c1 - rp1 + 1) → ((le2, b2) = itr (fun j x => k_r wv c1 rp1 (c1 - rp1 - j) x) iq (le, b)) → rq < fuL_16 → ∀ (H : Heap) (locs : List Loc), mM D cl h ad dA (mN h ad) s (va_up (va_up F 0 0) 1 0) (cR Rr f b2 wv) H locs → ∀ ls, lv_has ls 15 [(0, .ref h), (1, .int (nI s1)), (2, .int (nI i1)), (3, .int (nI n1)), (4, .int p4), (5, .int (nI c1)), (6, .int p6), (7, .int 0), (8, .int (nI ((64 * s1) + i1))), (9, .int le2), (10, .int (nI rp1)), (11, .int (nI rq - 1))] → W p l e ({ frames := 2, cells := 0, slots := 0, locals := 45 } : Room) s m ([.ref h, .int (nI s1), .int (nI i1), .int (nI n1), .int p4, .int (nI c1), .int p6] : List Value).toArray below meth c H locs 0 0 (MQ below (va_Qi (fun r u => m_clerks (va_up F 0 0) Rr (nI s1) (nI i1) (nI n1) p4 (nI c1) p6 r u) (mB D cl h ad dA) (mN h ad)) ([.ref h, .int (nI s1), .int (nI i1), .int (nI n1), .int p4, .int (nI c1), .int p6] : List Value).toArray s 0 0 (mN h ad)) (F0 m 304 ls []) := by
                                  intro fuL_16
                                  induction fuL_16 with
                                  | zero => intro iq rq le2 b2 hsiq qle2 hfuL_16; exact absurd hfuL_16 (Nat.not_lt_zero _)
                                  | succ fuL_16 L_16ih =>
                                    intro iq rq le2 b2 hsiq qle2 hfuL_16 H locs M ls hl
                                    refine lv_iload hx hb dX2_clerks_304 (lv_at hl 11 rfl) ?_
                                    refine lb_if_lt (tgt := 446) hx hb dX2_clerks_306 (by decide) (fun c_17 c_17' => ?_) (fun c_17 c_17' => ?_)
                                    · -- c_17: nI rq - 1 < 0
                                      have er2 : rq = 0 := dec_lt0 (by omega) c_17
                                      have ek2 : (le2, b2) = k_q wv c1 rp1 (le, b) := by unfold k_q; rw [qle2, show iq = c1 - rp1 + 1 by omega]
                                      refine lv_iinc (v := nI rp1 - 1) (lv' := [(10, .int (nI rp1 - 1)), (0, .ref h), (1, .int (nI s1)), (2, .int (nI i1)), (3, .int (nI n1)), (4, .int p4), (5, .int (nI c1)), (6, .int p6), (7, .int 0), (8, .int (nI ((64 * s1) + i1))), (9, .int le2), (11, .int (nI rq - 1))]) hx hb dX2_clerks_446 hl (k := 10) rfl (mk_dec _) (by decide) rfl (fun ls hl => ?_)
                                      refine lv_goto (tgt := 292) hx hb dX2_clerks_449 (by decide) ?_
                                      exact L_12ih  (ip + 1) rp1 le2 (b2) (by omega) (by rw [itr_s, ← qle]; show _ = k_q wv c1 (c1 - ip) (le, b); rw [show c1 - ip = rp1 by omega]; exact ek2) (by omega) _ _ M ls (lv_sub hl [1, 2, 3, 4, 5, 6, 7, 8, 9, 10, 0] rfl)
                                    · -- c_17: nI rq - 1 ≥ 0
                                      obtain ⟨rq1, rfl⟩ := dec_ge0 c_17
                                      rw [nI_pred] at hl
                                      refine lv_iload hx hb dX2_clerks_309 (lv_at hl 5 rfl) ?_
                                      refine lv_iload hx hb dX2_clerks_311 (lv_at hl 10 rfl) ?_
                                      refine lv_isub hx hb dX2_clerks_313 ?_
                                      refine lv_asi (y := nI (c1 - rp1)) (nI_subN (a := c1) (b := rp1) (by omega)) ?_
                                      refine lv_iload hx hb dX2_clerks_314 (lv_at hl 11 rfl) ?_
                                      refine lv_isub hx hb dX2_clerks_316 ?_
                                      refine lv_asi (y := nI ((c1 - rp1) - rq1)) (nI_subN (a := c1 - rp1) (b := rq1) (by omega)) ?_
                                      refine lv_istore (lv' := [(12, .int (nI ((c1 - rp1) - rq1))), (0, .ref h), (1, .int (nI s1)), (2, .int (nI i1)), (3, .int (nI n1)), (4, .int p4), (5, .int (nI c1)), (6, .int p6), (7, .int 0), (8, .int (nI ((64 * s1) + i1))), (9, .int le2), (10, .int (nI rp1)), (11, .int (nI rq1))]) hx hb dX2_clerks_317 hl (by decide) rfl (fun ls hl => ?_)
                                      have L_18 : ∀ (fuL_18 : Nat) (il : Nat) (rl : Nat) (le3 : Int32) (b3 : Nat → Int32), (il + rl = c1 - rp1 - rq1 + 1) → ((le3, b3) = itr (fun l x => k_stp wv c1 rp1 rq1 (c1 - rp1 - rq1 - l) x) il (le2, b2)) → rl < fuL_18 → ∀ (H : Heap) (locs : List Loc), mM D cl h ad dA (mN h ad) s (va_up (va_up F 0 0) 1 0) (cR Rr f b3 wv) H locs → ∀ ls, lv_has ls 15 [(0, .ref h), (1, .int (nI s1)), (2, .int (nI i1)), (3, .int (nI n1)), (4, .int p4), (5, .int (nI c1)), (6, .int p6), (7, .int 0), (8, .int (nI ((64 * s1) + i1))), (9, .int le3), (10, .int (nI rp1)), (11, .int (nI rq1)), (12, .int (nI rl - 1))] → W p l e ({ frames := 2, cells := 0, slots := 0, locals := 45 } : Room) s m ([.ref h, .int (nI s1), .int (nI i1), .int (nI n1), .int p4, .int (nI c1), .int p6] : List Value).toArray below meth c H locs 0 0 (MQ below (va_Qi (fun r u => m_clerks (va_up F 0 0) Rr (nI s1) (nI i1) (nI n1) p4 (nI c1) p6 r u) (mB D cl h ad dA) (mN h ad)) ([.ref h, .int (nI s1), .int (nI i1), .int (nI n1), .int p4, .int (nI c1), .int p6] : List Value).toArray s 0 0 (mN h ad)) (F0 m 319 ls []) := by
                                        intro fuL_18
                                        induction fuL_18 with
                                        | zero => intro il rl le3 b3 hsil qle3 hfuL_18; exact absurd hfuL_18 (Nat.not_lt_zero _)
                                        | succ fuL_18 L_18ih =>
                                          intro il rl le3 b3 hsil qle3 hfuL_18 H locs M ls hl
                                          refine lv_iload hx hb dX2_clerks_319 (lv_at hl 12 rfl) ?_
                                          refine lb_if_lt (tgt := 440) hx hb dX2_clerks_321 (by decide) (fun c_19 c_19' => ?_) (fun c_19 c_19' => ?_)
                                          · -- c_19: nI rl - 1 < 0
                                            have er3 : rl = 0 := dec_lt0 (by omega) c_19
                                            have ek3 : (le3, b3) = k_r wv c1 rp1 rq1 (le2, b2) := by unfold k_r; rw [qle3, show il = c1 - rp1 - rq1 + 1 by omega]
                                            refine lv_iinc (v := nI rq1 - 1) (lv' := [(11, .int (nI rq1 - 1)), (0, .ref h), (1, .int (nI s1)), (2, .int (nI i1)), (3, .int (nI n1)), (4, .int p4), (5, .int (nI c1)), (6, .int p6), (7, .int 0), (8, .int (nI ((64 * s1) + i1))), (9, .int le3), (10, .int (nI rp1)), (12, .int (nI rl - 1))]) hx hb dX2_clerks_440 hl (k := 11) rfl (mk_dec _) (by decide) rfl (fun ls hl => ?_)
                                            refine lv_goto (tgt := 304) hx hb dX2_clerks_443 (by decide) ?_
                                            exact L_16ih  (iq + 1) rq1 le3 (b3) (by omega) (by rw [itr_s, ← qle2]; show _ = k_r wv c1 rp1 (c1 - rp1 - iq) (le2, b2); rw [show c1 - rp1 - iq = rq1 by omega]; exact ek3) (by omega) _ _ M ls (lv_sub hl [1, 2, 3, 4, 5, 6, 7, 8, 9, 10, 11, 0] rfl)
                                          · -- c_19: nI rl - 1 ≥ 0
                                            obtain ⟨rl1, rfl⟩ := dec_ge0 c_19
                                            rw [nI_pred] at hl
                                            refine lv_iload hx hb dX2_clerks_324 (lv_at hl 5 rfl) ?_
                                            refine lv_iload hx hb dX2_clerks_326 (lv_at hl 10 rfl) ?_
                                            refine lv_isub hx hb dX2_clerks_328 ?_
                                            refine lv_asi (y := nI (c1 - rp1)) (nI_subN (a := c1) (b := rp1) (by omega)) ?_
                                            refine lv_iload hx hb dX2_clerks_329 (lv_at hl 11 rfl) ?_
                                            refine lv_isub hx hb dX2_clerks_331 ?_
                                            refine lv_asi (y := nI ((c1 - rp1) - rq1)) (nI_subN (a := c1 - rp1) (b := rq1) (by omega)) ?_
                                            refine lv_iload hx hb dX2_clerks_332 (lv_at hl 12 rfl) ?_
                                            refine lv_isub hx hb dX2_clerks_334 ?_
                                            refine lv_asi (y := nI (((c1 - rp1) - rq1) - rl1)) (nI_subN (a := (c1 - rp1) - rq1) (b := rl1) (by omega)) ?_
                                            refine lv_istore (lv' := [(13, .int (nI (((c1 - rp1) - rq1) - rl1))), (0, .ref h), (1, .int (nI s1)), (2, .int (nI i1)), (3, .int (nI n1)), (4, .int p4), (5, .int (nI c1)), (6, .int p6), (7, .int 0), (8, .int (nI ((64 * s1) + i1))), (9, .int le3), (10, .int (nI rp1)), (11, .int (nI rq1)), (12, .int (nI rl1))]) hx hb dX2_clerks_335 hl (by decide) rfl (fun ls hl => ?_)
                                            refine lv_aload_n hx hb dX2_clerks_337 rfl (lv_at hl 1 rfl) ?_
                                            refine mg_47 X M dX2_clerks_338 ?_
                                            refine lv_iload hx hb dX2_clerks_341 (lv_at hl 11 rfl) ?_
                                            refine mr_47 X M (f := wv) rfl (j := rp1) (vp_in_nI (by omega) (by omega)) (nI_clamp (by omega)) dX2_clerks_343 ?_
                                            refine lv_aload_n hx hb dX2_clerks_344 rfl (lv_at hl 1 rfl) ?_
                                            refine mg_47 X M dX2_clerks_345 ?_
                                            refine lv_bipush (v := 9) hx hb dX2_clerks_348 (by decide) ?_
                                            refine lv_iload hx hb dX2_clerks_350 (lv_at hl 12 rfl) ?_
                                            refine lv_iadd hx hb dX2_clerks_352 ?_
                                            refine lv_asi (y := nI (9 + rq1)) (nI_add 9 rq1) ?_
                                            refine mr_47 X M (f := wv) rfl (j := 9 + rq1) (vp_in_nI (by omega) (by omega)) (nI_clamp (by omega)) dX2_clerks_353 ?_
                                            refine lv_iadd hx hb dX2_clerks_354 ?_
                                            refine lv_aload_n hx hb dX2_clerks_355 rfl (lv_at hl 1 rfl) ?_
                                            refine mg_47 X M dX2_clerks_356 ?_
                                            refine lv_bipush (v := 18) hx hb dX2_clerks_359 (by decide) ?_
                                            refine lv_iload hx hb dX2_clerks_361 (lv_at hl 13 rfl) ?_
                                            refine lv_iadd hx hb dX2_clerks_363 ?_
                                            refine lv_asi (y := nI (18 + rl1)) (nI_add 18 rl1) ?_
                                            refine mr_47 X M (f := wv) rfl (j := 18 + rl1) (vp_in_nI (by omega) (by omega)) (nI_clamp (by omega)) dX2_clerks_364 ?_
                                            refine lv_iadd hx hb dX2_clerks_365 ?_
                                            refine lv_aload_n hx hb dX2_clerks_366 rfl (lv_at hl 1 rfl) ?_
                                            refine mg_47 X M dX2_clerks_367 ?_
                                            refine lv_bipush (v := 27) hx hb dX2_clerks_370 (by decide) ?_
                                            refine lv_iload hx hb dX2_clerks_372 (lv_at hl 0 rfl) ?_
                                            refine lv_iadd hx hb dX2_clerks_374 ?_
                                            refine lv_asi (y := nI (27 + (((c1 - rp1) - rq1) - rl1))) (nI_add 27 (((c1 - rp1) - rq1) - rl1)) ?_
                                            refine mr_47 X M (f := wv) rfl (j := 27 + (((c1 - rp1) - rq1) - rl1)) (vp_in_nI (by omega) (by omega)) (nI_clamp (by omega)) dX2_clerks_375 ?_
                                            refine lv_iadd hx hb dX2_clerks_376 ?_
                                            refine lv_istore (lv' := [(14, .int ((((wv rp1) + (wv (9 + rq1))) + (wv (18 + rl1))) + (wv (27 + (((c1 - rp1) - rq1) - rl1))))), (13, .int (nI (((c1 - rp1) - rq1) - rl1))), (0, .ref h), (1, .int (nI s1)), (2, .int (nI i1)), (3, .int (nI n1)), (4, .int p4), (5, .int (nI c1)), (6, .int p6), (7, .int 0), (8, .int (nI ((64 * s1) + i1))), (9, .int le3), (10, .int (nI rp1)), (11, .int (nI rq1)), (12, .int (nI rl1))]) hx hb dX2_clerks_377 hl (by decide) rfl (fun ls hl => ?_)
                                            refine lv_iload hx hb dX2_clerks_379 (lv_at hl 0 rfl) ?_
                                            refine lb_if_lt (tgt := 434) hx hb dX2_clerks_381 (by decide) (fun c_20 c_20' => ?_) (fun c_20 c_20' => ?_)
                                            · -- c_20: (((wv rp1) + (wv (9 + rq1))) + (wv (18 + rl1))) + (wv (27 + (((c1 - rp1) - rq1) - rl1))) < 0
                                              refine lv_iinc (v := nI rl1 - 1) (lv' := [(12, .int (nI rl1 - 1)), (14, .int ((((wv rp1) + (wv (9 + rq1))) + (wv (18 + rl1))) + (wv (27 + (((c1 - rp1) - rq1) - rl1))))), (13, .int (nI (((c1 - rp1) - rq1) - rl1))), (0, .ref h), (1, .int (nI s1)), (2, .int (nI i1)), (3, .int (nI n1)), (4, .int p4), (5, .int (nI c1)), (6, .int p6), (7, .int 0), (8, .int (nI ((64 * s1) + i1))), (9, .int le3), (10, .int (nI rp1)), (11, .int (nI rq1))]) hx hb dX2_clerks_434 hl (k := 14) rfl (mk_dec _) (by decide) rfl (fun ls hl => ?_)
                                              refine lv_goto (tgt := 319) hx hb dX2_clerks_437 (by decide) ?_
                                              exact L_18ih  (il + 1) rl1 le3 (b3) (by omega) (by rw [itr_s, ← qle3]; show _ = k_stp wv c1 rp1 rq1 (c1 - rp1 - rq1 - il) (le3, b3); rw [show c1 - rp1 - rq1 - il = rl1 by omega]; unfold k_stp; rw [if_neg (fun h => c_20' h.1)]) (by omega) _ _ M ls (lv_sub hl [3, 4, 5, 6, 7, 8, 9, 10, 11, 12, 13, 14, 0] rfl)
                                            · -- c_20: (((wv rp1) + (wv (9 + rq1))) + (wv (18 + rl1))) + (wv (27 + (((c1 - rp1) - rq1) - rl1))) ≥ 0
                                              refine lv_iload hx hb dX2_clerks_384 (lv_at hl 11 rfl) ?_
                                              refine lv_ldc (v := (-1000000)) hx hb hown (hts _ q1430) dX2_clerks_386 ?_
                                              refine lv_icmp_eq (tgt := 398) hx hb dX2_clerks_388 (by decide) (fun c_21 => ?_) (fun c_21 => ?_)
                                              · -- c_21: le3 = (-1000000)
                                                refine lv_iload hx hb dX2_clerks_398 (lv_at hl 0 rfl) ?_
                                                refine lv_istore (lv' := [(9, .int ((((wv rp1) + (wv (9 + rq1))) + (wv (18 + rl1))) + (wv (27 + (((c1 - rp1) - rq1) - rl1))))), (14, .int ((((wv rp1) + (wv (9 + rq1))) + (wv (18 + rl1))) + (wv (27 + (((c1 - rp1) - rq1) - rl1))))), (13, .int (nI (((c1 - rp1) - rq1) - rl1))), (0, .ref h), (1, .int (nI s1)), (2, .int (nI i1)), (3, .int (nI n1)), (4, .int p4), (5, .int (nI c1)), (6, .int p6), (7, .int 0), (8, .int (nI ((64 * s1) + i1))), (10, .int (nI rp1)), (11, .int (nI rq1)), (12, .int (nI rl1))]) hx hb dX2_clerks_400 hl (by decide) rfl (fun ls hl => ?_)
                                                refine lv_aload_n hx hb dX2_clerks_402 rfl (lv_at hl 3 rfl) ?_
                                                refine mg_46 X M dX2_clerks_403 ?_
                                                refine lv_iconst (v := 0) hx hb dX2_clerks_406 (by decide) ?_
                                                refine lv_iload hx hb dX2_clerks_407 (lv_at hl 12 rfl) ?_
                                                refine ms_46 X M (j := 0) (show vp_in (nI 0) _ from vp_in_nI (by decide) (by decide)) rfl dX2_clerks_409 (fun H locs M => ?_)
                                                refine lv_aload_n hx hb dX2_clerks_410 rfl (lv_at hl 3 rfl) ?_
                                                refine mg_46 X M dX2_clerks_411 ?_
                                                refine lv_iconst (v := 1) hx hb dX2_clerks_414 (by decide) ?_
                                                refine lv_iload hx hb dX2_clerks_415 (lv_at hl 13 rfl) ?_
                                                refine ms_46 X M (j := 1) (show vp_in (nI 1) _ from vp_in_nI (by decide) (by decide)) rfl dX2_clerks_417 (fun H locs M => ?_)
                                                refine lv_aload_n hx hb dX2_clerks_418 rfl (lv_at hl 3 rfl) ?_
                                                refine mg_46 X M dX2_clerks_419 ?_
                                                refine lv_iconst (v := 2) hx hb dX2_clerks_422 (by decide) ?_
                                                refine lv_iload hx hb dX2_clerks_423 (lv_at hl 14 rfl) ?_
                                                refine ms_46 X M (j := 2) (show vp_in (nI 2) _ from vp_in_nI (by decide) (by decide)) rfl dX2_clerks_425 (fun H locs M => ?_)
                                                refine lv_aload_n hx hb dX2_clerks_426 rfl (lv_at hl 3 rfl) ?_
                                                refine mg_46 X M dX2_clerks_427 ?_
                                                refine lv_iconst (v := 3) hx hb dX2_clerks_430 (by decide) ?_
                                                refine lv_iload hx hb dX2_clerks_431 (lv_at hl 2 rfl) ?_
                                                refine ms_46 X M (j := 3) (show vp_in (nI 3) _ from vp_in_nI (by decide) (by decide)) rfl dX2_clerks_433 (fun H locs M => ?_)
                                                refine lv_iinc (v := nI rl1 - 1) (lv' := [(12, .int (nI rl1 - 1)), (9, .int ((((wv rp1) + (wv (9 + rq1))) + (wv (18 + rl1))) + (wv (27 + (((c1 - rp1) - rq1) - rl1))))), (14, .int ((((wv rp1) + (wv (9 + rq1))) + (wv (18 + rl1))) + (wv (27 + (((c1 - rp1) - rq1) - rl1))))), (13, .int (nI (((c1 - rp1) - rq1) - rl1))), (0, .ref h), (1, .int (nI s1)), (2, .int (nI i1)), (3, .int (nI n1)), (4, .int p4), (5, .int (nI c1)), (6, .int p6), (7, .int 0), (8, .int (nI ((64 * s1) + i1))), (10, .int (nI rp1)), (11, .int (nI rq1))]) hx hb dX2_clerks_434 hl (k := 14) rfl (mk_dec _) (by decide) rfl (fun ls hl => ?_)
                                                refine lv_goto (tgt := 319) hx hb dX2_clerks_437 (by decide) ?_
                                                exact L_18ih  (il + 1) rl1 ((((wv rp1) + (wv (9 + rq1))) + (wv (18 + rl1))) + (wv (27 + (((c1 - rp1) - rq1) - rl1)))) (va_up (va_up (va_up (va_up b3 0 (nI rp1)) 1 (nI rq1)) 2 (nI rl1)) 3 (nI (((c1 - rp1) - rq1) - rl1))) (by omega) (by rw [itr_s, ← qle3]; show _ = k_stp wv c1 rp1 rq1 (c1 - rp1 - rq1 - il) (le3, b3); rw [show c1 - rp1 - rq1 - il = rl1 by omega]; unfold k_stp; rw [if_pos ⟨c_20, Or.inl c_21⟩]) (by omega) _ _ (by rw [cR_46, cR_46, cR_46, cR_46] at M; exact M) ls (lv_sub hl [4, 5, 6, 7, 8, 9, 10, 11, 12, 1, 13, 14, 0] rfl)
                                              · -- c_21: le3 ≠ (-1000000)
                                                refine lv_iload hx hb dX2_clerks_391 (lv_at hl 0 rfl) ?_
                                                refine lv_iload hx hb dX2_clerks_393 (lv_at hl 11 rfl) ?_
                                                refine lb_icmp_ge (tgt := 434) hx hb dX2_clerks_395 (by decide) (fun c_22 c_22' => ?_) (fun c_22 c_22' => ?_)
                                                · -- c_22: (((wv rp1) + (wv (9 + rq1))) + (wv (18 + rl1))) + (wv (27 + (((c1 - rp1) - rq1) - rl1))) ≥ le3
                                                  refine lv_iinc (v := nI rl1 - 1) (lv' := [(12, .int (nI rl1 - 1)), (14, .int ((((wv rp1) + (wv (9 + rq1))) + (wv (18 + rl1))) + (wv (27 + (((c1 - rp1) - rq1) - rl1))))), (13, .int (nI (((c1 - rp1) - rq1) - rl1))), (0, .ref h), (1, .int (nI s1)), (2, .int (nI i1)), (3, .int (nI n1)), (4, .int p4), (5, .int (nI c1)), (6, .int p6), (7, .int 0), (8, .int (nI ((64 * s1) + i1))), (9, .int le3), (10, .int (nI rp1)), (11, .int (nI rq1))]) hx hb dX2_clerks_434 hl (k := 14) rfl (mk_dec _) (by decide) rfl (fun ls hl => ?_)
                                                  refine lv_goto (tgt := 319) hx hb dX2_clerks_437 (by decide) ?_
                                                  exact L_18ih  (il + 1) rl1 le3 (b3) (by omega) (by rw [itr_s, ← qle3]; show _ = k_stp wv c1 rp1 rq1 (c1 - rp1 - rq1 - il) (le3, b3); rw [show c1 - rp1 - rq1 - il = rl1 by omega]; unfold k_stp; rw [if_neg (fun h => h.2.elim c_21 c_22')]) (by omega) _ _ M ls (lv_sub hl [3, 4, 5, 6, 7, 8, 9, 10, 11, 12, 13, 14, 0] rfl)
                                                · -- c_22: (((wv rp1) + (wv (9 + rq1))) + (wv (18 + rl1))) + (wv (27 + (((c1 - rp1) - rq1) - rl1))) < le3
                                                  refine lv_iload hx hb dX2_clerks_398 (lv_at hl 0 rfl) ?_
                                                  refine lv_istore (lv' := [(9, .int ((((wv rp1) + (wv (9 + rq1))) + (wv (18 + rl1))) + (wv (27 + (((c1 - rp1) - rq1) - rl1))))), (14, .int ((((wv rp1) + (wv (9 + rq1))) + (wv (18 + rl1))) + (wv (27 + (((c1 - rp1) - rq1) - rl1))))), (13, .int (nI (((c1 - rp1) - rq1) - rl1))), (0, .ref h), (1, .int (nI s1)), (2, .int (nI i1)), (3, .int (nI n1)), (4, .int p4), (5, .int (nI c1)), (6, .int p6), (7, .int 0), (8, .int (nI ((64 * s1) + i1))), (10, .int (nI rp1)), (11, .int (nI rq1)), (12, .int (nI rl1))]) hx hb dX2_clerks_400 hl (by decide) rfl (fun ls hl => ?_)
                                                  refine lv_aload_n hx hb dX2_clerks_402 rfl (lv_at hl 3 rfl) ?_
                                                  refine mg_46 X M dX2_clerks_403 ?_
                                                  refine lv_iconst (v := 0) hx hb dX2_clerks_406 (by decide) ?_
                                                  refine lv_iload hx hb dX2_clerks_407 (lv_at hl 12 rfl) ?_
                                                  refine ms_46 X M (j := 0) (show vp_in (nI 0) _ from vp_in_nI (by decide) (by decide)) rfl dX2_clerks_409 (fun H locs M => ?_)
                                                  refine lv_aload_n hx hb dX2_clerks_410 rfl (lv_at hl 3 rfl) ?_
                                                  refine mg_46 X M dX2_clerks_411 ?_
                                                  refine lv_iconst (v := 1) hx hb dX2_clerks_414 (by decide) ?_
                                                  refine lv_iload hx hb dX2_clerks_415 (lv_at hl 13 rfl) ?_
                                                  refine ms_46 X M (j := 1) (show vp_in (nI 1) _ from vp_in_nI (by decide) (by decide)) rfl dX2_clerks_417 (fun H locs M => ?_)
                                                  refine lv_aload_n hx hb dX2_clerks_418 rfl (lv_at hl 3 rfl) ?_
                                                  refine mg_46 X M dX2_clerks_419 ?_
                                                  refine lv_iconst (v := 2) hx hb dX2_clerks_422 (by decide) ?_
                                                  refine lv_iload hx hb dX2_clerks_423 (lv_at hl 14 rfl) ?_
                                                  refine ms_46 X M (j := 2) (show vp_in (nI 2) _ from vp_in_nI (by decide) (by decide)) rfl dX2_clerks_425 (fun H locs M => ?_)
                                                  refine lv_aload_n hx hb dX2_clerks_426 rfl (lv_at hl 3 rfl) ?_
                                                  refine mg_46 X M dX2_clerks_427 ?_
                                                  refine lv_iconst (v := 3) hx hb dX2_clerks_430 (by decide) ?_
                                                  refine lv_iload hx hb dX2_clerks_431 (lv_at hl 2 rfl) ?_
                                                  refine ms_46 X M (j := 3) (show vp_in (nI 3) _ from vp_in_nI (by decide) (by decide)) rfl dX2_clerks_433 (fun H locs M => ?_)
                                                  refine lv_iinc (v := nI rl1 - 1) (lv' := [(12, .int (nI rl1 - 1)), (9, .int ((((wv rp1) + (wv (9 + rq1))) + (wv (18 + rl1))) + (wv (27 + (((c1 - rp1) - rq1) - rl1))))), (14, .int ((((wv rp1) + (wv (9 + rq1))) + (wv (18 + rl1))) + (wv (27 + (((c1 - rp1) - rq1) - rl1))))), (13, .int (nI (((c1 - rp1) - rq1) - rl1))), (0, .ref h), (1, .int (nI s1)), (2, .int (nI i1)), (3, .int (nI n1)), (4, .int p4), (5, .int (nI c1)), (6, .int p6), (7, .int 0), (8, .int (nI ((64 * s1) + i1))), (10, .int (nI rp1)), (11, .int (nI rq1))]) hx hb dX2_clerks_434 hl (k := 14) rfl (mk_dec _) (by decide) rfl (fun ls hl => ?_)
                                                  refine lv_goto (tgt := 319) hx hb dX2_clerks_437 (by decide) ?_
                                                  exact L_18ih  (il + 1) rl1 ((((wv rp1) + (wv (9 + rq1))) + (wv (18 + rl1))) + (wv (27 + (((c1 - rp1) - rq1) - rl1)))) (va_up (va_up (va_up (va_up b3 0 (nI rp1)) 1 (nI rq1)) 2 (nI rl1)) 3 (nI (((c1 - rp1) - rq1) - rl1))) (by omega) (by rw [itr_s, ← qle3]; show _ = k_stp wv c1 rp1 rq1 (c1 - rp1 - rq1 - il) (le3, b3); rw [show c1 - rp1 - rq1 - il = rl1 by omega]; unfold k_stp; rw [if_pos ⟨c_20, Or.inr c_22⟩]) (by omega) _ _ (by rw [cR_46, cR_46, cR_46, cR_46] at M; exact M) ls (lv_sub hl [4, 5, 6, 7, 8, 9, 10, 11, 12, 1, 13, 14, 0] rfl)
                                      have hl : lv_has ls 15 [(12, .int (nI (c1 - rp1 - rq1 + 1) - 1)), (0, .ref h), (1, .int (nI s1)), (2, .int (nI i1)), (3, .int (nI n1)), (4, .int p4), (5, .int (nI c1)), (6, .int p6), (7, .int 0), (8, .int (nI ((64 * s1) + i1))), (9, .int le2), (10, .int (nI rp1)), (11, .int (nI rq1))] := by rw [nI_pred]; exact hl
                                      exact L_18 ((c1 - rp1 - rq1 + 1) + 1) 0 (c1 - rp1 - rq1 + 1) le2 (b2) (Nat.zero_add _) rfl (Nat.lt_succ_self _) _ _ M ls (lv_sub hl [1, 2, 3, 4, 5, 6, 7, 8, 9, 10, 11, 12, 0] rfl)
                                have hl : lv_has ls 15 [(11, .int (nI (c1 - rp1 + 1) - 1)), (0, .ref h), (1, .int (nI s1)), (2, .int (nI i1)), (3, .int (nI n1)), (4, .int p4), (5, .int (nI c1)), (6, .int p6), (7, .int 0), (8, .int (nI ((64 * s1) + i1))), (9, .int le), (10, .int (nI rp1))] := by rw [nI_pred]; exact hl
                                exact L_16 ((c1 - rp1 + 1) + 1) 0 (c1 - rp1 + 1) le (b) (Nat.zero_add _) rfl (Nat.lt_succ_self _) _ _ M ls (lv_sub hl [1, 2, 3, 4, 5, 6, 7, 8, 9, 10, 11, 0] rfl)
                          have hl : lv_has ls 15 [(10, .int (nI (c1 + 1) - 1)), (9, .int (-1000000)), (0, .ref h), (1, .int (nI s1)), (2, .int (nI i1)), (3, .int (nI n1)), (4, .int p4), (5, .int (nI c1)), (6, .int p6), (7, .int 0), (8, .int (nI ((64 * s1) + i1)))] := by rw [nI_pred]; exact hl
                          exact L_12 ((c1 + 1) + 1) 0 (c1 + 1) (-1000000) (Rr 46) (Nat.zero_add _) rfl (Nat.lt_succ_self _) _ _ M ls (lv_sub hl [2, 3, 4, 5, 6, 7, 8, 9, 10, 1, 0] rfl)
                        · -- c_11: nI g0 < 4
                          refine lv_iconst (v := 0) hx hb dX2_clerks_168 (by decide) ?_
                          refine lv_istore (lv' := [(10, .int 0), (0, .ref h), (1, .int (nI s1)), (2, .int (nI i1)), (3, .int (nI n1)), (4, .int p4), (5, .int (nI c1)), (6, .int p6), (7, .int 0), (8, .int (nI ((64 * s1) + i1))), (9, .int (nI g0))]) hx hb dX2_clerks_169 hl (by decide) rfl (fun ls hl => ?_)
                          refine lv_iconst (v := 0) hx hb dX2_clerks_171 (by decide) ?_
                          refine lv_istore (lv' := [(11, .int 0), (10, .int 0), (0, .ref h), (1, .int (nI s1)), (2, .int (nI i1)), (3, .int (nI n1)), (4, .int p4), (5, .int (nI c1)), (6, .int p6), (7, .int 0), (8, .int (nI ((64 * s1) + i1))), (9, .int (nI g0))]) hx hb dX2_clerks_172 hl (by decide) rfl (fun ls hl => ?_)
                          have L_23 : ∀ (fuL_23 : Nat) (j : Nat) (z : Bool), (j ≤ n1) → (z = itr (fun j z => z || decide (Rr 4 ((64 * s1 + i1) + (2 * j)) = nI g0)) j false) → n1 - j < fuL_23 → ∀ (H : Heap) (locs : List Loc), mM D cl h ad dA (mN h ad) s (va_up (va_up F 0 0) 1 0) (cR Rr f (Rr 46) wv) H locs → ∀ ls, lv_has ls 15 [(0, .ref h), (1, .int (nI s1)), (2, .int (nI i1)), (3, .int (nI n1)), (4, .int p4), (5, .int (nI c1)), (6, .int p6), (7, .int 0), (8, .int (nI ((64 * s1) + i1))), (9, .int (nI g0)), (10, .int (b2i z)), (11, .int (nI j))] → W p l e ({ frames := 2, cells := 0, slots := 0, locals := 45 } : Room) s m ([.ref h, .int (nI s1), .int (nI i1), .int (nI n1), .int p4, .int (nI c1), .int p6] : List Value).toArray below meth c H locs 0 0 (MQ below (va_Qi (fun r u => m_clerks (va_up F 0 0) Rr (nI s1) (nI i1) (nI n1) p4 (nI c1) p6 r u) (mB D cl h ad dA) (mN h ad)) ([.ref h, .int (nI s1), .int (nI i1), .int (nI n1), .int p4, .int (nI c1), .int p6] : List Value).toArray s 0 0 (mN h ad)) (F0 m 174 ls []) := by
                            intro fuL_23
                            induction fuL_23 with
                            | zero => intro j z hj qz hfuL_23; exact absurd hfuL_23 (Nat.not_lt_zero _)
                            | succ fuL_23 L_23ih =>
                              intro j z hj qz hfuL_23 H locs M ls hl
                              refine lv_iload hx hb dX2_clerks_174 (lv_at hl 11 rfl) ?_
                              refine lv_iload_n hx hb dX2_clerks_176 rfl (lv_at hl 3 rfl) ?_
                              refine ln_icmp_ge (tgt := 215) hx hb (a := j) (b := n1) (by omega) (by omega) dX2_clerks_177 (by decide) (fun c_24 => ?_) (fun c_24 => ?_)
                              · -- c_24: nI j ≥ nI n1
                                have ej : j = n1 := by omega
                                rw [ej] at qz
                                refine lv_aload_n hx hb dX2_clerks_215 rfl (lv_at hl 0 rfl) ?_
                                refine mg_47 X M dX2_clerks_216 ?_
                                refine lv_bipush (v := 9) hx hb dX2_clerks_219 (by decide) ?_
                                refine lv_iload hx hb dX2_clerks_221 (lv_at hl 9 rfl) ?_
                                refine lv_imul hx hb dX2_clerks_223 ?_
                                refine lv_asi (y := nI (9 * g0)) (nI_mul 9 g0) ?_
                                refine lv_iload hx hb dX2_clerks_224 (lv_at hl 10 rfl) ?_
                                refine lz_if_eq (tgt := 234) hx hb dX2_clerks_226 (by decide) (fun c_25 => ?_) (fun c_25 => ?_)
                                · -- c_25: z = false
                                  refine lv_iconst (v := 0) hx hb dX2_clerks_234 (by decide) ?_
                                  refine ms_47 X M (j := 9 * g0) (vp_in_nI (by omega) (by omega)) (nI_clamp (by omega)) dX2_clerks_235 (fun H locs M => ?_)
                                  refine lv_iconst (v := 1) hx hb dX2_clerks_236 (by decide) ?_
                                  refine lv_istore (lv' := [(11, .int 1), (0, .ref h), (1, .int (nI s1)), (2, .int (nI i1)), (3, .int (nI n1)), (4, .int p4), (5, .int (nI c1)), (6, .int p6), (7, .int 0), (8, .int (nI ((64 * s1) + i1))), (9, .int (nI g0)), (10, .int (b2i z))]) hx hb dX2_clerks_237 hl (by decide) rfl (fun ls hl => ?_)
                                  have L_26 : ∀ (fuL_26 : Nat) (i : Nat) (f2 : Nat → Int32) (w2 : Nat → Int32), (i ≤ c1) → (∀ g, g < g0 → ∀ m, m ≤ c1 → w2 (9 * g + m) = k_wait (Rr 4) (64 * s1 + i1) n1 p4 g m) → (∀ m, m ≤ i → w2 (9 * g0 + m) = k_wait (Rr 4) (64 * s1 + i1) n1 p4 g0 m) → c1 - i < fuL_26 → ∀ (H : Heap) (locs : List Loc), mM D cl h ad dA (mN h ad) s (va_up (va_up F 0 0) 1 0) (cR Rr f2 (Rr 46) w2) H locs → ∀ ls, lv_has ls 15 [(0, .ref h), (1, .int (nI s1)), (2, .int (nI i1)), (3, .int (nI n1)), (4, .int p4), (5, .int (nI c1)), (6, .int p6), (7, .int 0), (8, .int (nI ((64 * s1) + i1))), (9, .int (nI g0)), (11, .int (nI (i + 1)))] → W p l e ({ frames := 2, cells := 0, slots := 0, locals := 45 } : Room) s m ([.ref h, .int (nI s1), .int (nI i1), .int (nI n1), .int p4, .int (nI c1), .int p6] : List Value).toArray below meth c H locs 0 0 (MQ below (va_Qi (fun r u => m_clerks (va_up F 0 0) Rr (nI s1) (nI i1) (nI n1) p4 (nI c1) p6 r u) (mB D cl h ad dA) (mN h ad)) ([.ref h, .int (nI s1), .int (nI i1), .int (nI n1), .int p4, .int (nI c1), .int p6] : List Value).toArray s 0 0 (mN h ad)) (F0 m 239 ls []) := by
                                    intro fuL_26
                                    induction fuL_26 with
                                    | zero => intro i f2 w2 hi hw2 hw3 hfuL_26; exact absurd hfuL_26 (Nat.not_lt_zero _)
                                    | succ fuL_26 L_26ih =>
                                      intro i f2 w2 hi hw2 hw3 hfuL_26 H locs M ls hl
                                      refine lv_iload hx hb dX2_clerks_239 (lv_at hl 10 rfl) ?_
                                      refine lv_iload hx hb dX2_clerks_241 (lv_at hl 5 rfl) ?_
                                      refine ln_icmp_gt (tgt := 278) hx hb (a := i + 1) (b := c1) (by omega) (by omega) dX2_clerks_243 (by decide) (fun c_27 => ?_) (fun c_27 => ?_)
                                      · -- c_27: nI (i + 1) > nI c1
                                        refine lv_iinc (v := nI (g0 + 1)) (lv' := [(9, .int (nI (g0 + 1))), (0, .ref h), (1, .int (nI s1)), (2, .int (nI i1)), (3, .int (nI n1)), (4, .int p4), (5, .int (nI c1)), (6, .int p6), (7, .int 0), (8, .int (nI ((64 * s1) + i1))), (11, .int (nI (i + 1)))]) hx hb dX2_clerks_278 hl (k := 9) rfl (mk_inc _) (by decide) rfl (fun ls hl => ?_)
                                        refine lv_goto (tgt := 162) hx hb dX2_clerks_281 (by decide) ?_
                                        have hw9 : ∀ g, g < g0 + 1 → ∀ m, m ≤ c1 → w2 (9 * g + m) = k_wait (Rr 4) (64 * s1 + i1) n1 p4 g m := by
                                          intro g hg m hm
                                          rcases Nat.lt_or_ge g g0 with q | q
                                          · exact hw2 g q m hm
                                          · rw [show g = g0 by omega]; exact hw3 m (by omega)
                                        exact L_10ih  (g0 + 1) f2 w2 (by omega) hw9 (by omega) _ _ M ls (lv_sub hl [1, 2, 3, 4, 5, 6, 7, 8, 9, 0] rfl)
                                      · -- c_27: nI (i + 1) ≤ nI c1
                                        refine lv_aload_n hx hb dX2_clerks_246 rfl (lv_at hl 0 rfl) ?_
                                        refine mg_47 X M dX2_clerks_247 ?_
                                        refine lv_bipush (v := 9) hx hb dX2_clerks_250 (by decide) ?_
                                        refine lv_iload hx hb dX2_clerks_252 (lv_at hl 9 rfl) ?_
                                        refine lv_imul hx hb dX2_clerks_254 ?_
                                        refine lv_asi (y := nI (9 * g0)) (nI_mul 9 g0) ?_
                                        refine lv_iload hx hb dX2_clerks_255 (lv_at hl 10 rfl) ?_
                                        refine lv_iadd hx hb dX2_clerks_257 ?_
                                        refine lv_asi (y := nI ((9 * g0) + (i + 1))) (nI_add (9 * g0) (i + 1)) ?_
                                        refine lv_aload_n hx hb dX2_clerks_258 rfl (lv_at hl 0 rfl) ?_
                                        refine lv_iload hx hb dX2_clerks_259 (lv_at hl 8 rfl) ?_
                                        refine lv_iload_n hx hb dX2_clerks_261 rfl (lv_at hl 3 rfl) ?_
                                        refine lv_iload hx hb dX2_clerks_262 (lv_at hl 9 rfl) ?_
                                        refine lv_iload hx hb dX2_clerks_264 (lv_at hl 4 rfl) ?_
                                        refine lv_iload hx hb dX2_clerks_266 (lv_at hl 10 rfl) ?_
                                        refine m_cU (As := [.int (nI ((64 * s1) + i1)), .int (nI n1), .int (nI g0), .int p4, .int (nI (i + 1))]) (rest := [.int (nI ((9 * g0) + (i + 1))), .ref (ad 47)]) X M (metX2_waitedAt l D cl hcl h ad dA (va_up (va_up F 0 0) 1 0) (cR Rr f2 (Rr 46) w2) ((64 * s1) + i1) n1 (nI g0) p4 (i + 1) (by omega) (by omega) (by omega) (by omega)) (cwV 5 hts (lw_V q1859 q1861 qs48 q62 q1862) rfl rfl rfl (by decide +kernel) ⟨Nat.le_of_ble_eq_true rfl, Nat.le_of_ble_eq_true rfl⟩) rfl hl.1 rfl (Nat.le_of_ble_eq_true rfl) dX2_clerks_268 ⟨Nat.zero_le _, Nat.zero_le _⟩ (fun r9 F9 R9 hr9 H locs M => ?_)
                                        obtain ⟨f3, ef3⟩ : ∃ x9, x9 = (m_waited (cR Rr f2 (Rr 46) w2) (64 * s1 + i1) n1 (nI g0) p4 (i + 1)).2.1 := ⟨_, rfl⟩
                                        obtain ⟨rfl, rfl, rfl⟩ : m_wait (Rr 4) (64 * s1 + i1) n1 (nI g0) p4 (i + 1) = r9 ∧ va_up (va_up F 0 0) 1 0 = F9 ∧ va_up (cR Rr f2 (Rr 46) w2) 45 f3 = R9 := ⟨(m_wait_eq (Rr := cR Rr f2 (Rr 46) w2) (by omega) (by omega)).symm.trans (congrArg Prod.fst hr9).symm, (congrArg (fun z => z.2.1) hr9).symm, by rw [ef3]; exact (congrArg (fun z => z.2.2) hr9).symm⟩
                                        rw [cR_45] at M
                                        refine ms_47 X M (j := (9 * g0) + (i + 1)) (vp_in_nI (by omega) (by omega)) (nI_clamp (by omega)) dX2_clerks_271 (fun H locs M => ?_)
                                        refine lv_iinc (v := nI (i + 1 + 1)) (lv' := [(11, .int (nI (i + 1 + 1))), (0, .ref h), (1, .int (nI s1)), (2, .int (nI i1)), (3, .int (nI n1)), (4, .int p4), (5, .int (nI c1)), (6, .int p6), (7, .int 0), (8, .int (nI ((64 * s1) + i1))), (9, .int (nI g0))]) hx hb dX2_clerks_272 hl (k := 10) rfl (mk_inc _) (by decide) rfl (fun ls hl => ?_)
                                        refine lv_goto (tgt := 239) hx hb dX2_clerks_275 (by decide) ?_
                                        exact L_26ih  (i + 1) f3 (va_up w2 ((9 * g0) + (i + 1)) (m_wait (Rr 4) (64 * s1 + i1) n1 (nI g0) p4 (i + 1))) (by omega) (fun g hg m hm => by rw [up_n _ _ (by omega)]; exact hw2 g hg m hm) (fun m hm => (Nat.lt_or_ge m (i + 1)).elim (fun q => by rw [up_n _ _ (by omega)]; exact hw3 m (by omega)) (fun q => by rw [show m = i + 1 by omega, up_s]; simp [k_wait])) (by omega) _ _ (by rw [cR_47] at M; exact M) ls (lv_sub hl [1, 2, 3, 4, 5, 6, 7, 8, 9, 10, 0] rfl)
                                  exact L_26 ((c1 - 0) + 1) 0 f (va_up wv (9 * g0) 0) (by omega) (fun g hg m hm => by rw [up_n _ _ (by omega)]; exact hw g hg m hm) (fun m hm => by rw [show m = 0 by omega, Nat.add_zero, up_s]; simp [k_wait, k_some, ← qz, c_25]) (Nat.lt_succ_self _) _ _ (by rw [cR_47] at M; exact M) ls (lv_sub hl [1, 2, 3, 4, 5, 6, 7, 8, 9, 10, 0] rfl)
                                · -- c_25: z = true
                                  refine lv_ldc (v := (-1000000)) hx hb hown (hts _ q1430) dX2_clerks_229 ?_
                                  refine lv_goto (tgt := 235) hx hb dX2_clerks_231 (by decide) ?_
                                  refine ms_47 X M (j := 9 * g0) (vp_in_nI (by omega) (by omega)) (nI_clamp (by omega)) dX2_clerks_235 (fun H locs M => ?_)
                                  refine lv_iconst (v := 1) hx hb dX2_clerks_236 (by decide) ?_
                                  refine lv_istore (lv' := [(11, .int 1), (0, .ref h), (1, .int (nI s1)), (2, .int (nI i1)), (3, .int (nI n1)), (4, .int p4), (5, .int (nI c1)), (6, .int p6), (7, .int 0), (8, .int (nI ((64 * s1) + i1))), (9, .int (nI g0)), (10, .int (b2i z))]) hx hb dX2_clerks_237 hl (by decide) rfl (fun ls hl => ?_)
                                  have L_28 : ∀ (fuL_28 : Nat) (i : Nat) (f2 : Nat → Int32) (w2 : Nat → Int32), (i ≤ c1) → (∀ g, g < g0 → ∀ m, m ≤ c1 → w2 (9 * g + m) = k_wait (Rr 4) (64 * s1 + i1) n1 p4 g m) → (∀ m, m ≤ i → w2 (9 * g0 + m) = k_wait (Rr 4) (64 * s1 + i1) n1 p4 g0 m) → c1 - i < fuL_28 → ∀ (H : Heap) (locs : List Loc), mM D cl h ad dA (mN h ad) s (va_up (va_up F 0 0) 1 0) (cR Rr f2 (Rr 46) w2) H locs → ∀ ls, lv_has ls 15 [(0, .ref h), (1, .int (nI s1)), (2, .int (nI i1)), (3, .int (nI n1)), (4, .int p4), (5, .int (nI c1)), (6, .int p6), (7, .int 0), (8, .int (nI ((64 * s1) + i1))), (9, .int (nI g0)), (11, .int (nI (i + 1)))] → W p l e ({ frames := 2, cells := 0, slots := 0, locals := 45 } : Room) s m ([.ref h, .int (nI s1), .int (nI i1), .int (nI n1), .int p4, .int (nI c1), .int p6] : List Value).toArray below meth c H locs 0 0 (MQ below (va_Qi (fun r u => m_clerks (va_up F 0 0) Rr (nI s1) (nI i1) (nI n1) p4 (nI c1) p6 r u) (mB D cl h ad dA) (mN h ad)) ([.ref h, .int (nI s1), .int (nI i1), .int (nI n1), .int p4, .int (nI c1), .int p6] : List Value).toArray s 0 0 (mN h ad)) (F0 m 239 ls []) := by
                                    intro fuL_28
                                    induction fuL_28 with
                                    | zero => intro i f2 w2 hi hw2 hw3 hfuL_28; exact absurd hfuL_28 (Nat.not_lt_zero _)
                                    | succ fuL_28 L_28ih =>
                                      intro i f2 w2 hi hw2 hw3 hfuL_28 H locs M ls hl
                                      refine lv_iload hx hb dX2_clerks_239 (lv_at hl 10 rfl) ?_
                                      refine lv_iload hx hb dX2_clerks_241 (lv_at hl 5 rfl) ?_
                                      refine ln_icmp_gt (tgt := 278) hx hb (a := i + 1) (b := c1) (by omega) (by omega) dX2_clerks_243 (by decide) (fun c_29 => ?_) (fun c_29 => ?_)
                                      · -- c_29: nI (i + 1) > nI c1
                                        refine lv_iinc (v := nI (g0 + 1)) (lv' := [(9, .int (nI (g0 + 1))), (0, .ref h), (1, .int (nI s1)), (2, .int (nI i1)), (3, .int (nI n1)), (4, .int p4), (5, .int (nI c1)), (6, .int p6), (7, .int 0), (8, .int (nI ((64 * s1) + i1))), (11, .int (nI (i + 1)))]) hx hb dX2_clerks_278 hl (k := 9) rfl (mk_inc _) (by decide) rfl (fun ls hl => ?_)
                                        refine lv_goto (tgt := 162) hx hb dX2_clerks_281 (by decide) ?_
                                        have hw9 : ∀ g, g < g0 + 1 → ∀ m, m ≤ c1 → w2 (9 * g + m) = k_wait (Rr 4) (64 * s1 + i1) n1 p4 g m := by
                                          intro g hg m hm
                                          rcases Nat.lt_or_ge g g0 with q | q
                                          · exact hw2 g q m hm
                                          · rw [show g = g0 by omega]; exact hw3 m (by omega)
                                        exact L_10ih  (g0 + 1) f2 w2 (by omega) hw9 (by omega) _ _ M ls (lv_sub hl [1, 2, 3, 4, 5, 6, 7, 8, 9, 0] rfl)
                                      · -- c_29: nI (i + 1) ≤ nI c1
                                        refine lv_aload_n hx hb dX2_clerks_246 rfl (lv_at hl 0 rfl) ?_
                                        refine mg_47 X M dX2_clerks_247 ?_
                                        refine lv_bipush (v := 9) hx hb dX2_clerks_250 (by decide) ?_
                                        refine lv_iload hx hb dX2_clerks_252 (lv_at hl 9 rfl) ?_
                                        refine lv_imul hx hb dX2_clerks_254 ?_
                                        refine lv_asi (y := nI (9 * g0)) (nI_mul 9 g0) ?_
                                        refine lv_iload hx hb dX2_clerks_255 (lv_at hl 10 rfl) ?_
                                        refine lv_iadd hx hb dX2_clerks_257 ?_
                                        refine lv_asi (y := nI ((9 * g0) + (i + 1))) (nI_add (9 * g0) (i + 1)) ?_
                                        refine lv_aload_n hx hb dX2_clerks_258 rfl (lv_at hl 0 rfl) ?_
                                        refine lv_iload hx hb dX2_clerks_259 (lv_at hl 8 rfl) ?_
                                        refine lv_iload_n hx hb dX2_clerks_261 rfl (lv_at hl 3 rfl) ?_
                                        refine lv_iload hx hb dX2_clerks_262 (lv_at hl 9 rfl) ?_
                                        refine lv_iload hx hb dX2_clerks_264 (lv_at hl 4 rfl) ?_
                                        refine lv_iload hx hb dX2_clerks_266 (lv_at hl 10 rfl) ?_
                                        refine m_cU (As := [.int (nI ((64 * s1) + i1)), .int (nI n1), .int (nI g0), .int p4, .int (nI (i + 1))]) (rest := [.int (nI ((9 * g0) + (i + 1))), .ref (ad 47)]) X M (metX2_waitedAt l D cl hcl h ad dA (va_up (va_up F 0 0) 1 0) (cR Rr f2 (Rr 46) w2) ((64 * s1) + i1) n1 (nI g0) p4 (i + 1) (by omega) (by omega) (by omega) (by omega)) (cwV 5 hts (lw_V q1859 q1861 qs48 q62 q1862) rfl rfl rfl (by decide +kernel) ⟨Nat.le_of_ble_eq_true rfl, Nat.le_of_ble_eq_true rfl⟩) rfl hl.1 rfl (Nat.le_of_ble_eq_true rfl) dX2_clerks_268 ⟨Nat.zero_le _, Nat.zero_le _⟩ (fun r9 F9 R9 hr9 H locs M => ?_)
                                        obtain ⟨f3, ef3⟩ : ∃ x9, x9 = (m_waited (cR Rr f2 (Rr 46) w2) (64 * s1 + i1) n1 (nI g0) p4 (i + 1)).2.1 := ⟨_, rfl⟩
                                        obtain ⟨rfl, rfl, rfl⟩ : m_wait (Rr 4) (64 * s1 + i1) n1 (nI g0) p4 (i + 1) = r9 ∧ va_up (va_up F 0 0) 1 0 = F9 ∧ va_up (cR Rr f2 (Rr 46) w2) 45 f3 = R9 := ⟨(m_wait_eq (Rr := cR Rr f2 (Rr 46) w2) (by omega) (by omega)).symm.trans (congrArg Prod.fst hr9).symm, (congrArg (fun z => z.2.1) hr9).symm, by rw [ef3]; exact (congrArg (fun z => z.2.2) hr9).symm⟩
                                        rw [cR_45] at M
                                        refine ms_47 X M (j := (9 * g0) + (i + 1)) (vp_in_nI (by omega) (by omega)) (nI_clamp (by omega)) dX2_clerks_271 (fun H locs M => ?_)
                                        refine lv_iinc (v := nI (i + 1 + 1)) (lv' := [(11, .int (nI (i + 1 + 1))), (0, .ref h), (1, .int (nI s1)), (2, .int (nI i1)), (3, .int (nI n1)), (4, .int p4), (5, .int (nI c1)), (6, .int p6), (7, .int 0), (8, .int (nI ((64 * s1) + i1))), (9, .int (nI g0))]) hx hb dX2_clerks_272 hl (k := 10) rfl (mk_inc _) (by decide) rfl (fun ls hl => ?_)
                                        refine lv_goto (tgt := 239) hx hb dX2_clerks_275 (by decide) ?_
                                        exact L_28ih  (i + 1) f3 (va_up w2 ((9 * g0) + (i + 1)) (m_wait (Rr 4) (64 * s1 + i1) n1 (nI g0) p4 (i + 1))) (by omega) (fun g hg m hm => by rw [up_n _ _ (by omega)]; exact hw2 g hg m hm) (fun m hm => (Nat.lt_or_ge m (i + 1)).elim (fun q => by rw [up_n _ _ (by omega)]; exact hw3 m (by omega)) (fun q => by rw [show m = i + 1 by omega, up_s]; simp [k_wait])) (by omega) _ _ (by rw [cR_47] at M; exact M) ls (lv_sub hl [1, 2, 3, 4, 5, 6, 7, 8, 9, 10, 0] rfl)
                                  exact L_28 ((c1 - 0) + 1) 0 f (va_up wv (9 * g0) (-1000000)) (by omega) (fun g hg m hm => by rw [up_n _ _ (by omega)]; exact hw g hg m hm) (fun m hm => by rw [show m = 0 by omega, Nat.add_zero, up_s]; simp [k_wait, k_some, ← qz, c_25]) (Nat.lt_succ_self _) _ _ (by rw [cR_47] at M; exact M) ls (lv_sub hl [1, 2, 3, 4, 5, 6, 7, 8, 9, 10, 0] rfl)
                              · -- c_24: nI j < nI n1
                                refine lv_iload hx hb dX2_clerks_180 (lv_at hl 10 rfl) ?_
                                refine lz_if_ne (tgt := 202) hx hb dX2_clerks_182 (by decide) (fun c_30 => ?_) (fun c_30 => ?_)
                                · -- c_30: z = true
                                  refine lv_iconst (v := 1) hx hb dX2_clerks_202 (by decide) ?_
                                  refine lv_goto (tgt := 207) hx hb dX2_clerks_203 (by decide) ?_
                                  refine lv_istore (lv' := [(10, .int 1), (0, .ref h), (1, .int (nI s1)), (2, .int (nI i1)), (3, .int (nI n1)), (4, .int p4), (5, .int (nI c1)), (6, .int p6), (7, .int 0), (8, .int (nI ((64 * s1) + i1))), (9, .int (nI g0)), (11, .int (nI j))]) hx hb dX2_clerks_207 hl (by decide) rfl (fun ls hl => ?_)
                                  refine lv_iinc (v := nI (j + 1)) (lv' := [(11, .int (nI (j + 1))), (10, .int 1), (0, .ref h), (1, .int (nI s1)), (2, .int (nI i1)), (3, .int (nI n1)), (4, .int p4), (5, .int (nI c1)), (6, .int p6), (7, .int 0), (8, .int (nI ((64 * s1) + i1))), (9, .int (nI g0))]) hx hb dX2_clerks_209 hl (k := 11) rfl (mk_inc _) (by decide) rfl (fun ls hl => ?_)
                                  refine lv_goto (tgt := 174) hx hb dX2_clerks_212 (by decide) ?_
                                  exact L_23ih  (j + 1) true (by omega) (by first | (rw [itr_s, ← qz]; done) | (rw [itr_s, ← qz]; first | (simp [c_1, es1, c_2, en1, c_3, c_4, ec1, c_5, look0, ei1, c_9, c_11, c_24, c_30, up_s, up_n, nI_1, b2i]; done) | (simp_all []; done) | grind [])) (by omega) _ _ M ls (lv_sub hl [2, 3, 4, 5, 6, 7, 8, 9, 10, 11, 1, 0] rfl)
                                · -- c_30: z = false
                                  refine lv_aload_n hx hb dX2_clerks_185 rfl (lv_at hl 0 rfl) ?_
                                  refine mg_4 X M dX2_clerks_186 ?_
                                  refine lv_iload hx hb dX2_clerks_189 (lv_at hl 8 rfl) ?_
                                  refine lv_iconst (v := 2) hx hb dX2_clerks_191 (by decide) ?_
                                  refine lv_iload hx hb dX2_clerks_192 (lv_at hl 11 rfl) ?_
                                  refine lv_imul hx hb dX2_clerks_194 ?_
                                  refine lv_asi (y := nI (2 * j)) (nI_mul 2 j) ?_
                                  refine lv_iadd hx hb dX2_clerks_195 ?_
                                  refine lv_asi (y := nI (((64 * s1) + i1) + (2 * j))) (nI_add ((64 * s1) + i1) (2 * j)) ?_
                                  refine mr_4 X M (f := Rr 4) rfl (j := ((64 * s1) + i1) + (2 * j)) (vp_in_nI (by omega) (by omega)) (nI_clamp (by omega)) dX2_clerks_196 ?_
                                  refine lv_iload hx hb dX2_clerks_197 (lv_at hl 9 rfl) ?_
                                  refine lv_icmp_ne (tgt := 206) hx hb dX2_clerks_199 (by decide) (fun c_31 => ?_) (fun c_31 => ?_)
                                  · -- c_31: Rr 4 (((64 * s1) + i1) + (2 * j)) ≠ nI g0
                                    refine lv_iconst (v := 0) hx hb dX2_clerks_206 (by decide) ?_
                                    refine lv_istore (lv' := [(10, .int 0), (0, .ref h), (1, .int (nI s1)), (2, .int (nI i1)), (3, .int (nI n1)), (4, .int p4), (5, .int (nI c1)), (6, .int p6), (7, .int 0), (8, .int (nI ((64 * s1) + i1))), (9, .int (nI g0)), (11, .int (nI j))]) hx hb dX2_clerks_207 hl (by decide) rfl (fun ls hl => ?_)
                                    refine lv_iinc (v := nI (j + 1)) (lv' := [(11, .int (nI (j + 1))), (10, .int 0), (0, .ref h), (1, .int (nI s1)), (2, .int (nI i1)), (3, .int (nI n1)), (4, .int p4), (5, .int (nI c1)), (6, .int p6), (7, .int 0), (8, .int (nI ((64 * s1) + i1))), (9, .int (nI g0))]) hx hb dX2_clerks_209 hl (k := 11) rfl (mk_inc _) (by decide) rfl (fun ls hl => ?_)
                                    refine lv_goto (tgt := 174) hx hb dX2_clerks_212 (by decide) ?_
                                    exact L_23ih  (j + 1) false (by omega) (by first | (rw [itr_s, ← qz]; done) | (rw [itr_s, ← qz]; first | (simp [c_1, es1, c_2, en1, c_3, c_4, ec1, c_5, look0, ei1, c_9, c_11, c_24, c_30, c_31, up_s, up_n, nI_1, b2i]; done) | (simp_all []; done) | grind [])) (by omega) _ _ M ls (lv_sub hl [2, 3, 4, 5, 6, 7, 8, 9, 10, 11, 1, 0] rfl)
                                  · -- c_31: Rr 4 (((64 * s1) + i1) + (2 * j)) = nI g0
                                    refine lv_iconst (v := 1) hx hb dX2_clerks_202 (by decide) ?_
                                    refine lv_goto (tgt := 207) hx hb dX2_clerks_203 (by decide) ?_
                                    refine lv_istore (lv' := [(10, .int 1), (0, .ref h), (1, .int (nI s1)), (2, .int (nI i1)), (3, .int (nI n1)), (4, .int p4), (5, .int (nI c1)), (6, .int p6), (7, .int 0), (8, .int (nI ((64 * s1) + i1))), (9, .int (nI g0)), (11, .int (nI j))]) hx hb dX2_clerks_207 hl (by decide) rfl (fun ls hl => ?_)
                                    refine lv_iinc (v := nI (j + 1)) (lv' := [(11, .int (nI (j + 1))), (10, .int 1), (0, .ref h), (1, .int (nI s1)), (2, .int (nI i1)), (3, .int (nI n1)), (4, .int p4), (5, .int (nI c1)), (6, .int p6), (7, .int 0), (8, .int (nI ((64 * s1) + i1))), (9, .int (nI g0))]) hx hb dX2_clerks_209 hl (k := 11) rfl (mk_inc _) (by decide) rfl (fun ls hl => ?_)
                                    refine lv_goto (tgt := 174) hx hb dX2_clerks_212 (by decide) ?_
                                    exact L_23ih  (j + 1) true (by omega) (by first | (rw [itr_s, ← qz]; done) | (rw [itr_s, ← qz]; first | (simp [c_1, es1, c_2, en1, c_3, c_4, ec1, c_5, look0, ei1, c_9, c_11, c_24, c_30, c_31, up_s, up_n, nI_1, b2i]; done) | (simp_all []; done) | grind [])) (by omega) _ _ M ls (lv_sub hl [2, 3, 4, 5, 6, 7, 8, 9, 10, 11, 1, 0] rfl)
                          exact L_23 ((n1 - 0) + 1) 0 false (Nat.zero_le _) (by first | rfl | (simp only [itr]; assumption) | (simp [itr, c_1, es1, c_2, en1, c_3, c_4, ec1, c_5, look0, ei1, c_9, c_11, up_s, up_n, nI_1, b2i]; done)) (Nat.lt_succ_self _) _ _ M ls (lv_sub hl [2, 3, 4, 5, 6, 7, 8, 9, 10, 11, 1, 0] rfl)
                    exact L_10 ((4 - 0) + 1) 0 (Rr 45) (Rr 47) (by omega) (fun g hg => absurd hg (Nat.not_lt_zero g)) (Nat.lt_succ_self _) _ _ (by rw [← cR_id]; exact M) ls (lv_sub hl [1, 2, 3, 4, 5, 6, 7, 8, 9, 0] rfl)
                  · -- c_9: nI i < nI n1
                    refine lv_aload_n hx hb dX2_clerks_102 rfl (lv_at hl 0 rfl) ?_
                    refine mg_4 X M dX2_clerks_103 ?_
                    refine lv_iload hx hb dX2_clerks_106 (lv_at hl 8 rfl) ?_
                    refine lv_iconst (v := 2) hx hb dX2_clerks_108 (by decide) ?_
                    refine lv_iload hx hb dX2_clerks_109 (lv_at hl 9 rfl) ?_
                    refine lv_imul hx hb dX2_clerks_111 ?_
                    refine lv_asi (y := nI (2 * i)) (nI_mul 2 i) ?_
                    refine lv_iadd hx hb dX2_clerks_112 ?_
                    refine lv_asi (y := nI (((64 * s1) + i1) + (2 * i))) (nI_add ((64 * s1) + i1) (2 * i)) ?_
                    refine mr_4 X M (f := Rr 4) rfl (j := ((64 * s1) + i1) + (2 * i)) (vp_in_nI (by omega) (by omega)) (nI_clamp (by omega)) dX2_clerks_113 ?_
                    refine lv_i2l (v := (Rr 4 (((64 * s1) + i1) + (2 * i))).toInt64) hx hb dX2_clerks_114 rfl ?_
                    refine lv_lconst (v := 0) hx hb dX2_clerks_115 (by decide) ?_
                    refine lv_ldc2 (v := 3) hx hb hown (hts _ q1822) dX2_clerks_116 ?_
                    refine s_cI (v := b2i (inB 0 3 (Rr 4 (((64 * s1) + i1) + (2 * i))))) (As := [.long ((Rr 4 (((64 * s1) + i1) + (2 * i))).toInt64), .long 0, .long 3]) (rest := []) S (metX2_inI l (Rr 4 (((64 * s1) + i1) + (2 * i))) 0 3 ((Rr 4 (((64 * s1) + i1) + (2 * i))).toInt64) 0 3 rfl rfl rfl) (va_cwS 3 hts (lw_S q1623 q1624 q62 q1625) rfl rfl rfl (by decide +kernel) ⟨Nat.le_of_ble_eq_true rfl, Nat.le_of_ble_eq_true rfl⟩) rfl hl.1 rfl (Nat.le_of_ble_eq_true rfl) dX2_clerks_119 ⟨Nat.zero_le _, Nat.zero_le _⟩ ?_
                    refine lz_if_eq (tgt := 145) hx hb dX2_clerks_122 (by decide) (fun c_32 => ?_) (fun c_32 => ?_)
                    · -- c_32: inB 0 3 (Rr 4 (((64 * s1) + i1) + (2 * i))) = false
                      refine lv_ldc (v := (-1000001)) hx hb hown (hts _ q1627) dX2_clerks_145 ?_
                      exact W.iret (v := (-1000001)) hx hb hr (fun t9 ht9 hW9 => ⟨⟨_, (va_up F 0 0, Rr), rfl, (by have hne : ¬ ∀ j, j < n1 → k_ok (Rr 4) (64 * s1 + i1) j = true := (fun q => by have q1 := q i (by omega); simp [k_ok, c_1, c_2, c_3, c_4, c_5, c_9, c_32] at q1); show m_clerks _ _ _ _ _ _ _ _ _ _; unfold m_clerks; rw [en1, ec1, es1, ei1, e2n, look0]; rw [if_neg (by simp [c_1, c_2, c_3, c_4, c_5]), if_neg (by show ¬ ((0 : Int32) < 0); decide), if_neg hne]), by show va_P _ _ _ t9.heap; rw [ht9]; exact M.1⟩, M.2.2.F ht9⟩) M.2.2.2.2 dX2_clerks_147
                    · -- c_32: inB 0 3 (Rr 4 (((64 * s1) + i1) + (2 * i))) = true
                      refine lv_aload_n hx hb dX2_clerks_125 rfl (lv_at hl 0 rfl) ?_
                      refine mg_4 X M dX2_clerks_126 ?_
                      refine lv_iload hx hb dX2_clerks_129 (lv_at hl 8 rfl) ?_
                      refine lv_iconst (v := 2) hx hb dX2_clerks_131 (by decide) ?_
                      refine lv_iload hx hb dX2_clerks_132 (lv_at hl 9 rfl) ?_
                      refine lv_imul hx hb dX2_clerks_134 ?_
                      refine lv_asi (y := nI (2 * i)) (nI_mul 2 i) ?_
                      refine lv_iadd hx hb dX2_clerks_135 ?_
                      refine lv_asi (y := nI (((64 * s1) + i1) + (2 * i))) (nI_add ((64 * s1) + i1) (2 * i)) ?_
                      refine lv_iconst (v := 1) hx hb dX2_clerks_136 (by decide) ?_
                      refine lv_iadd hx hb dX2_clerks_137 ?_
                      refine lv_asi (y := nI ((((64 * s1) + i1) + (2 * i)) + 1)) (nI_add (((64 * s1) + i1) + (2 * i)) 1) ?_
                      refine mr_4 X M (f := Rr 4) rfl (j := (((64 * s1) + i1) + (2 * i)) + 1) (vp_in_nI (by omega) (by omega)) (nI_clamp (by omega)) dX2_clerks_138 ?_
                      refine s_cI (v := b2i (inB 0 1439 (Rr 4 ((((64 * s1) + i1) + (2 * i)) + 1)))) (As := [.int (Rr 4 ((((64 * s1) + i1) + (2 * i)) + 1))]) (rest := []) S (metX2_isMinute l (Rr 4 ((((64 * s1) + i1) + (2 * i)) + 1))) (va_cwS 1 hts (lw_S q1653 q1654 q62 q1655) rfl rfl rfl (by decide +kernel) ⟨Nat.le_of_ble_eq_true rfl, Nat.le_of_ble_eq_true rfl⟩) rfl hl.1 rfl (Nat.le_of_ble_eq_true rfl) dX2_clerks_139 ⟨Nat.zero_le _, Nat.zero_le _⟩ ?_
                      refine lz_if_ne (tgt := 148) hx hb dX2_clerks_142 (by decide) (fun c_33 => ?_) (fun c_33 => ?_)
                      · -- c_33: inB 0 1439 (Rr 4 ((((64 * s1) + i1) + (2 * i)) + 1)) = true
                        refine lv_iinc (v := nI (i + 1)) (lv' := [(9, .int (nI (i + 1))), (0, .ref h), (1, .int (nI s1)), (2, .int (nI i1)), (3, .int (nI n1)), (4, .int p4), (5, .int (nI c1)), (6, .int p6), (7, .int 0), (8, .int (nI ((64 * s1) + i1)))]) hx hb dX2_clerks_148 hl (k := 9) rfl (mk_inc _) (by decide) rfl (fun ls hl => ?_)
                        refine lv_goto (tgt := 96) hx hb dX2_clerks_151 (by decide) ?_
                        exact L_8ih  (i + 1) (by omega) (all_succ hall (by simp [k_ok, c_1, es1, c_2, en1, c_3, c_4, ec1, c_5, look0, ei1, c_9, c_32, c_33])) (by omega) _ _ M ls (lv_sub hl [1, 2, 3, 4, 5, 6, 7, 8, 9, 0] rfl)
                      · -- c_33: inB 0 1439 (Rr 4 ((((64 * s1) + i1) + (2 * i)) + 1)) = false
                        refine lv_ldc (v := (-1000001)) hx hb hown (hts _ q1627) dX2_clerks_145 ?_
                        exact W.iret (v := (-1000001)) hx hb hr (fun t9 ht9 hW9 => ⟨⟨_, (va_up F 0 0, Rr), rfl, (by have hne : ¬ ∀ j, j < n1 → k_ok (Rr 4) (64 * s1 + i1) j = true := (fun q => by have q1 := q i (by omega); simp [k_ok, c_1, c_2, c_3, c_4, c_5, c_9, c_32, c_33] at q1); show m_clerks _ _ _ _ _ _ _ _ _ _; unfold m_clerks; rw [en1, ec1, es1, ei1, e2n, look0]; rw [if_neg (by simp [c_1, c_2, c_3, c_4, c_5]), if_neg (by show ¬ ((0 : Int32) < 0); decide), if_neg hne]), by show va_P _ _ _ t9.heap; rw [ht9]; exact M.1⟩, M.2.2.F ht9⟩) M.2.2.2.2 dX2_clerks_147
              exact L_8 ((n1 - 0) + 1) 0 (by omega) (fun j hj => absurd hj (Nat.not_lt_zero j)) (Nat.lt_succ_self _) _ _ M ls (lv_sub hl [3, 4, 5, 6, 7, 8, 9, 2, 1, 0] rfl)
            · -- c_7: Z_6.1 < 0
              refine lv_iload hx hb dX2_clerks_82 (lv_at hl 0 rfl) ?_
              exact W.iret (v := Z_6.1) hx hb hr (fun t9 ht9 hW9 => ⟨⟨_, (Z_6.2.1, Z_6.2.2), rfl, (by show m_clerks _ _ _ _ _ _ _ _ _ _; unfold m_clerks; rw [e2n, if_neg (by simp [c_1, c_2, c_3, c_4, c_5]), ← eZ_6, if_pos c_7]), by show va_P _ _ _ t9.heap; rw [ht9]; exact M.1⟩, M.2.2.F ht9⟩) M.2.2.2.2 dX2_clerks_84
          · -- c_5: inB 0 4 p6 = false
            refine lv_ldc (v := (-1000001)) hx hb hown (hts _ q1627) dX2_clerks_63 ?_
            exact W.iret (v := (-1000001)) hx hb hr (fun t9 ht9 hW9 => ⟨⟨_, (va_up F 0 0, Rr), rfl, (by show m_clerks _ _ _ _ _ _ _ _ _ _; unfold m_clerks; rw [if_pos (by simp [c_1, es1, c_2, en1, c_3, c_4, ec1, c_5])]), by show va_P _ _ _ t9.heap; rw [ht9]; exact M.1⟩, M.2.2.F ht9⟩) M.2.2.2.2 dX2_clerks_65

