/-! THE SYSTEM, 3: asked; rows of its own told -/
def x_any (p : Nat → Bool) (n : Nat) : Bool := itr (fun k z => z || p k) n false
theorem x_any_t {p : Nat → Bool} {k : Nat} (hk : p k = true) : ∀ n, k < n → x_any p n = true := by
  intro n
  induction n with
  | zero => intro h; exact absurd h (Nat.not_lt_zero _)
  | succ n ih =>
    intro h
    show (x_any p n || p n) = true
    rcases Nat.lt_or_ge k n with q | q
    · rw [ih q]; rfl
    · rw [show n = k by omega, hk]; simp
theorem x_any_f {p : Nat → Bool} : ∀ n, (∀ k, k < n → p k = false) → x_any p n = false := by
  intro n
  induction n with
  | zero => intro _; rfl
  | succ n ih =>
    intro h
    show (x_any p n || p n) = false
    rw [ih (fun k hk => h k (by omega)), h n (by omega)]; rfl
theorem all_succF {p : Nat → Bool} {i : Nat} (h : ∀ j, j < i → p j = false) (hi : p i = false) : ∀ j, j < i + 1 → p j = false := by
  intro j hj
  rcases Nat.lt_or_ge j i with q | q
  · exact h j q
  · rw [show j = i by omega]; exact hi
def x_bell (F : Nat → Int32) (Rr : Nat → Nat → Int32) (g o f : Int32) : Int32 × mST := if inB 0 8 g = false ∨ inB 0 1440 o = false ∨ inB (o + 1) 1440 f = false then ((-1000001), F, Rr) else (1, F, mset (mset Rr 1 g.toNatClampNeg o) 2 g.toNatClampNeg f)
def x_part (F : Nat → Int32) (Rr : Nat → Nat → Int32) (g v : Int32) : Int32 × mST := if inB 0 8 g = false ∨ inB 1 300 v = false then ((-1000001), F, Rr) else (Rr 3 g.toNatClampNeg, F, mset Rr 3 g.toNatClampNeg v)
def x_stands (F : Nat → Int32) (Rr : Nat → Nat → Int32) (g x y : Int32) : Int32 × mST := if inB 0 8 g = false ∨ (inB 0 999 x && inB 0 999 y) = false then ((-1000001), F, Rr) else (1, F, mset (mset Rr 4 g.toNatClampNeg x) 5 g.toNatClampNeg y)
def x_high (F : Nat → Int32) (Rr : Nat → Nat → Int32) (g v : Int32) : Int32 × mST := if inB 0 11 g = false ∨ inB 1 99 v = false then ((-1000001), F, Rr) else (Rr 17 g.toNatClampNeg, F, mset Rr 17 g.toNatClampNeg v)
def x_fell (F : Nat → Int32) (Rr : Nat → Nat → Int32) (g day : Int32) : Int32 × mST := if inB 0 7 g = false ∨ inB 0 999 day = false then ((-1000001), F, Rr) else if ¬ Rr 16 g.toNatClampNeg = (-1000000) ∧ Rr 16 g.toNatClampNeg ≤ day then (0, F, Rr) else (1, F, mset Rr 16 g.toNatClampNeg day)
def x_day (F : Nat → Int32) (Rr : Nat → Nat → Int32) (d : Int32) : Int32 × mST := if inB 0 999 d = false then ((-1000001), F, Rr) else (F 21, va_up F 21 d, Rr)
def x_lean (F : Nat → Int32) (Rr : Nat → Nat → Int32) (g a b : Int32) : Int32 × mST := if inB 0 11 g = false ∨ inB 0 99 a = false ∨ inB 0 99 b = false then ((-1000001), F, Rr) else if F 20 = 20 then ((-1000003), F, Rr) else (F 20 + 1, va_up F 20 (F 20 + 1), mset (mset Rr 18 g.toNatClampNeg (x_max (Rr 18 g.toNatClampNeg) a)) 19 g.toNatClampNeg (x_max (Rr 19 g.toNatClampNeg) b))
def x_trace (F : Nat → Int32) (Rr : Nat → Nat → Int32) (i : Int32) : Int32 := if inB 0 (F 22 - 1) i = true then Rr 22 i.toNatClampNeg else (-1000000)
set_option maxHeartbeats 4000000 in
set_option maxRecDepth 100000 in
theorem metX0_bell (l : Launch) (D : va_G) (dA : Nat → ClassId) (A : Nat → Prop) (e0 h : Nat) (G : xG) (T : va_W) (F : Nat → Int32) (Rr : Nat → Nat → Int32) (p1 : Int32) (p2 : Int32) (p3 : Int32) : Met l yX0_bell (ws_ yX0_bell cX0_bell 4 (some .int)) ({ frames := 2, cells := 0, slots := 0, locals := 45 } : Room) (va_Pc [.ref h, .int p1, .int p2, .int p3] (xPre D dA A e0 h G T F Rr)) (va_Qi (fun r u => (r, u) = x_bell F Rr p1 p2 p3) (xB0 D dA A e0 h G T) A) 0 0 A := by
  refine Met.ofW (cc := cX0_bell) (maxL := 4) (ret := (some .int)) (by decide) rfl ?_
  intro p e s m args below meth c s₁ B hml hv
  obtain ⟨rfl, hC, hP, hD, hI⟩ := hv
  have hx := B.exec
  have hb := B.bytes
  have hr := B.returns
  have hts := atoms_spec (ws := (ws_ yX0_bell cX0_bell 4 (some .int))) B.pre
  have hts : ∀ w ∈ lw_all, w.before _ s = true := fun w h => hts w (List.mem_cons_of_mem _ h)
  have hown : s.vm.findClass RX0 = some m.cls := findClass_of_methodNamed B.named
  have hlocks := B.notSynchronized
  have S : CallFix p m c cX0_bell 4 s ([.ref h, .int p1, .int p2, .int p3] : List Value).toArray lw_all RX0 := ⟨hx, hb, hml, hown, hts⟩
  have X : xX RX0 p s m ([.ref h, .int p1, .int p2, .int p3] : List Value).toArray c cX0_bell 4 D dA A e0 := ⟨S, hC⟩
  have M : xM D dA A e0 h G T s F Rr s.heap [] := ⟨hP, hD, va_S.rf, hI⟩
  have hl := lv_entry ([.ref h, .int p1, .int p2, .int p3]) (n := 4) (Nat.le_of_ble_eq_true rfl)
  rw [lg_entry_eq]
  generalize (lg_sl ([.ref h, .int p1, .int p2, .int p3]) ++ List.replicate (4 - (lg_sl ([.ref h, .int p1, .int p2, .int p3])).length) Slot.unset).toArray = ls at hl ⊢
  have hl : lv_has ls 4 [(0, .ref h), (1, .int p1), (2, .int p2), (3, .int p3)] := hl
  refine lv_iload_n hx hb dX0_bell_0 rfl (lv_at hl 1 rfl) ?_
  refine s_cI (v := b2i (inB 0 8 p1)) (As := [.int p1]) (rest := []) S (metX0_isGate l p1) (va_cwS 1 hts (lw_S q388 q389 q57 q390) rfl rfl rfl (by decide +kernel) ⟨Nat.le_of_ble_eq_true rfl, Nat.le_of_ble_eq_true rfl⟩) rfl hl.1 rfl (Nat.le_of_ble_eq_true rfl) dX0_bell_1 ⟨Nat.le_of_ble_eq_true rfl, Nat.le_of_ble_eq_true rfl⟩ ?_
  refine lz_if_eq (tgt := 34) hx hb dX0_bell_4 (by decide) (fun c_1 => ?_) (fun c_1 => ?_)
  · -- c_1: inB 0 8 p1 = false
    refine lv_ldc (v := (-1000001)) hx hb hown (hts _ q234) dX0_bell_34 ?_
    exact W.iret (v := (-1000001)) hx hb hr (fun t9 ht9 hW9 => ⟨⟨_, (F, Rr), rfl, (by first | (simp [x_bell, c_1, up_s, up_n, nI_1, b2i]; done) | (simp_all [x_bell]; done) | grind [x_bell]), ⟨by rw [ht9]; exact M.1, M.2.1, M.2.2.2⟩⟩, M.2.2.1.F ht9⟩) M.2.2.1.2.2 dX0_bell_36
  · -- c_1: inB 0 8 p1 = true
    obtain ⟨g1, hg1, rfl⟩ := inB_ex c_1 (n := 8) rfl
    have eg1 : (nI g1).toNatClampNeg = g1 := nI_clamp (by omega)
    refine lv_iload_n hx hb dX0_bell_7 rfl (lv_at hl 2 rfl) ?_
    refine lv_i2l (v := p2.toInt64) hx hb dX0_bell_8 rfl ?_
    refine lv_lconst (v := 0) hx hb dX0_bell_9 (by decide) ?_
    refine lv_ldc2 (v := 1440) hx hb hown (hts _ q392) dX0_bell_10 ?_
    refine s_cI (v := b2i (inB 0 1440 p2)) (As := [.long p2.toInt64, .long 0, .long 1440]) (rest := []) S (metX0_isInI l p2 0 1440 p2.toInt64 0 1440 rfl rfl rfl) (va_cwS 3 hts (lw_S q230 q231 q57 q232) rfl rfl rfl (by decide +kernel) ⟨Nat.le_of_ble_eq_true rfl, Nat.le_of_ble_eq_true rfl⟩) rfl hl.1 rfl (Nat.le_of_ble_eq_true rfl) dX0_bell_13 ⟨Nat.le_of_ble_eq_true rfl, Nat.le_of_ble_eq_true rfl⟩ ?_
    refine lz_if_eq (tgt := 34) hx hb dX0_bell_16 (by decide) (fun c_2 => ?_) (fun c_2 => ?_)
    · -- c_2: inB 0 1440 p2 = false
      refine lv_ldc (v := (-1000001)) hx hb hown (hts _ q234) dX0_bell_34 ?_
      exact W.iret (v := (-1000001)) hx hb hr (fun t9 ht9 hW9 => ⟨⟨_, (F, Rr), rfl, (by first | (simp [x_bell, c_1, eg1, c_2, up_s, up_n, nI_1, b2i]; done) | (simp_all [x_bell]; done) | grind [x_bell]), ⟨by rw [ht9]; exact M.1, M.2.1, M.2.2.2⟩⟩, M.2.2.1.F ht9⟩) M.2.2.1.2.2 dX0_bell_36
    · -- c_2: inB 0 1440 p2 = true
      refine lv_iload_n hx hb dX0_bell_19 rfl (lv_at hl 3 rfl) ?_
      refine lv_i2l (v := p3.toInt64) hx hb dX0_bell_20 rfl ?_
      refine lv_iload_n hx hb dX0_bell_21 rfl (lv_at hl 2 rfl) ?_
      refine lv_iconst (v := 1) hx hb dX0_bell_22 (by decide) ?_
      refine lv_iadd hx hb dX0_bell_23 ?_
      refine lv_i2l (v := (p2 + 1).toInt64) hx hb dX0_bell_24 rfl ?_
      refine lv_ldc2 (v := 1440) hx hb hown (hts _ q392) dX0_bell_25 ?_
      refine s_cI (v := b2i (inB (p2 + 1) 1440 p3)) (As := [.long p3.toInt64, .long ((p2 + 1).toInt64), .long 1440]) (rest := []) S (metX0_isInI l p3 (p2 + 1) 1440 p3.toInt64 ((p2 + 1).toInt64) 1440 rfl rfl rfl) (va_cwS 3 hts (lw_S q230 q231 q57 q232) rfl rfl rfl (by decide +kernel) ⟨Nat.le_of_ble_eq_true rfl, Nat.le_of_ble_eq_true rfl⟩) rfl hl.1 rfl (Nat.le_of_ble_eq_true rfl) dX0_bell_28 ⟨Nat.le_of_ble_eq_true rfl, Nat.le_of_ble_eq_true rfl⟩ ?_
      refine lz_if_ne (tgt := 37) hx hb dX0_bell_31 (by decide) (fun c_3 => ?_) (fun c_3 => ?_)
      · -- c_3: inB (p2 + 1) 1440 p3 = true
        refine lv_aload_n hx hb dX0_bell_37 rfl (lv_at hl 0 rfl) ?_
        refine xg_1 X M dX0_bell_38 ?_
        refine lv_iload_n hx hb dX0_bell_41 rfl (lv_at hl 1 rfl) ?_
        refine lv_iload_n hx hb dX0_bell_42 rfl (lv_at hl 2 rfl) ?_
        refine xs_1 X M (j := g1) (vp_in_nI (by omega) (by omega)) (nI_clamp (by omega)) dX0_bell_43 (fun H locs M => ?_)
        refine lv_aload_n hx hb dX0_bell_44 rfl (lv_at hl 0 rfl) ?_
        refine xg_2 X M dX0_bell_45 ?_
        refine lv_iload_n hx hb dX0_bell_48 rfl (lv_at hl 1 rfl) ?_
        refine lv_iload_n hx hb dX0_bell_49 rfl (lv_at hl 3 rfl) ?_
        refine xs_2 X M (j := g1) (vp_in_nI (by omega) (by omega)) (nI_clamp (by omega)) dX0_bell_50 (fun H locs M => ?_)
        refine lv_iconst (v := 1) hx hb dX0_bell_51 (by decide) ?_
        exact W.iret (v := 1) hx hb hr (fun t9 ht9 hW9 => ⟨⟨_, (F, mset (mset Rr 1 g1 p2) 2 g1 p3), rfl, (by first | (simp [x_bell, c_1, eg1, c_2, c_3, up_s, up_n, nI_1, b2i]; done) | (simp_all [x_bell]; done) | grind [x_bell]), ⟨by rw [ht9]; exact M.1, M.2.1, M.2.2.2⟩⟩, M.2.2.1.F ht9⟩) M.2.2.1.2.2 dX0_bell_52
      · -- c_3: inB (p2 + 1) 1440 p3 = false
        refine lv_ldc (v := (-1000001)) hx hb hown (hts _ q234) dX0_bell_34 ?_
        exact W.iret (v := (-1000001)) hx hb hr (fun t9 ht9 hW9 => ⟨⟨_, (F, Rr), rfl, (by first | (simp [x_bell, c_1, eg1, c_2, c_3, up_s, up_n, nI_1, b2i]; done) | (simp_all [x_bell]; done) | grind [x_bell]), ⟨by rw [ht9]; exact M.1, M.2.1, M.2.2.2⟩⟩, M.2.2.1.F ht9⟩) M.2.2.1.2.2 dX0_bell_36

set_option maxHeartbeats 4000000 in
set_option maxRecDepth 100000 in
theorem metX0_part (l : Launch) (D : va_G) (dA : Nat → ClassId) (A : Nat → Prop) (e0 h : Nat) (G : xG) (T : va_W) (F : Nat → Int32) (Rr : Nat → Nat → Int32) (p1 : Int32) (p2 : Int32) : Met l yX0_part (ws_ yX0_part cX0_part 4 (some .int)) ({ frames := 2, cells := 0, slots := 0, locals := 45 } : Room) (va_Pc [.ref h, .int p1, .int p2] (xPre D dA A e0 h G T F Rr)) (va_Qi (fun r u => (r, u) = x_part F Rr p1 p2) (xB0 D dA A e0 h G T) A) 0 0 A := by
  refine Met.ofW (cc := cX0_part) (maxL := 4) (ret := (some .int)) (by decide) rfl ?_
  intro p e s m args below meth c s₁ B hml hv
  obtain ⟨rfl, hC, hP, hD, hI⟩ := hv
  have hx := B.exec
  have hb := B.bytes
  have hr := B.returns
  have hts := atoms_spec (ws := (ws_ yX0_part cX0_part 4 (some .int))) B.pre
  have hts : ∀ w ∈ lw_all, w.before _ s = true := fun w h => hts w (List.mem_cons_of_mem _ h)
  have hown : s.vm.findClass RX0 = some m.cls := findClass_of_methodNamed B.named
  have hlocks := B.notSynchronized
  have S : CallFix p m c cX0_part 4 s ([.ref h, .int p1, .int p2] : List Value).toArray lw_all RX0 := ⟨hx, hb, hml, hown, hts⟩
  have X : xX RX0 p s m ([.ref h, .int p1, .int p2] : List Value).toArray c cX0_part 4 D dA A e0 := ⟨S, hC⟩
  have M : xM D dA A e0 h G T s F Rr s.heap [] := ⟨hP, hD, va_S.rf, hI⟩
  have hl := lv_entry ([.ref h, .int p1, .int p2]) (n := 4) (Nat.le_of_ble_eq_true rfl)
  rw [lg_entry_eq]
  generalize (lg_sl ([.ref h, .int p1, .int p2]) ++ List.replicate (4 - (lg_sl ([.ref h, .int p1, .int p2])).length) Slot.unset).toArray = ls at hl ⊢
  have hl : lv_has ls 4 [(0, .ref h), (1, .int p1), (2, .int p2)] := hl
  refine lv_iload_n hx hb dX0_part_0 rfl (lv_at hl 1 rfl) ?_
  refine s_cI (v := b2i (inB 0 8 p1)) (As := [.int p1]) (rest := []) S (metX0_isGate l p1) (va_cwS 1 hts (lw_S q388 q389 q57 q390) rfl rfl rfl (by decide +kernel) ⟨Nat.le_of_ble_eq_true rfl, Nat.le_of_ble_eq_true rfl⟩) rfl hl.1 rfl (Nat.le_of_ble_eq_true rfl) dX0_part_1 ⟨Nat.le_of_ble_eq_true rfl, Nat.le_of_ble_eq_true rfl⟩ ?_
  refine lz_if_eq (tgt := 19) hx hb dX0_part_4 (by decide) (fun c_1 => ?_) (fun c_1 => ?_)
  · -- c_1: inB 0 8 p1 = false
    refine lv_ldc (v := (-1000001)) hx hb hown (hts _ q234) dX0_part_19 ?_
    exact W.iret (v := (-1000001)) hx hb hr (fun t9 ht9 hW9 => ⟨⟨_, (F, Rr), rfl, (by first | (simp [x_part, c_1, up_s, up_n, nI_1, b2i]; done) | (simp_all [x_part]; done) | grind [x_part]), ⟨by rw [ht9]; exact M.1, M.2.1, M.2.2.2⟩⟩, M.2.2.1.F ht9⟩) M.2.2.1.2.2 dX0_part_21
  · -- c_1: inB 0 8 p1 = true
    obtain ⟨g1, hg1, rfl⟩ := inB_ex c_1 (n := 8) rfl
    have eg1 : (nI g1).toNatClampNeg = g1 := nI_clamp (by omega)
    refine lv_iload_n hx hb dX0_part_7 rfl (lv_at hl 2 rfl) ?_
    refine lv_i2l (v := p2.toInt64) hx hb dX0_part_8 rfl ?_
    refine lv_lconst (v := 1) hx hb dX0_part_9 (by decide) ?_
    refine lv_ldc2 (v := 300) hx hb hown (hts _ q397) dX0_part_10 ?_
    refine s_cI (v := b2i (inB 1 300 p2)) (As := [.long p2.toInt64, .long 1, .long 300]) (rest := []) S (metX0_isInI l p2 1 300 p2.toInt64 1 300 rfl rfl rfl) (va_cwS 3 hts (lw_S q230 q231 q57 q232) rfl rfl rfl (by decide +kernel) ⟨Nat.le_of_ble_eq_true rfl, Nat.le_of_ble_eq_true rfl⟩) rfl hl.1 rfl (Nat.le_of_ble_eq_true rfl) dX0_part_13 ⟨Nat.le_of_ble_eq_true rfl, Nat.le_of_ble_eq_true rfl⟩ ?_
    refine lz_if_ne (tgt := 22) hx hb dX0_part_16 (by decide) (fun c_2 => ?_) (fun c_2 => ?_)
    · -- c_2: inB 1 300 p2 = true
      refine lv_aload_n hx hb dX0_part_22 rfl (lv_at hl 0 rfl) ?_
      refine xg_3 X M dX0_part_23 ?_
      refine lv_iload_n hx hb dX0_part_26 rfl (lv_at hl 1 rfl) ?_
      refine xr_3 X M (f := Rr 3) rfl (j := g1) (vp_in_nI (by omega) (by omega)) (nI_clamp (by omega)) dX0_part_27 ?_
      refine lv_istore_n (lv' := [(3, .int (Rr 3 g1)), (0, .ref h), (1, .int (nI g1)), (2, .int p2)]) hx hb dX0_part_28 rfl hl (by decide) rfl (fun ls hl => ?_)
      refine lv_aload_n hx hb dX0_part_29 rfl (lv_at hl 1 rfl) ?_
      refine xg_3 X M dX0_part_30 ?_
      refine lv_iload_n hx hb dX0_part_33 rfl (lv_at hl 2 rfl) ?_
      refine lv_iload_n hx hb dX0_part_34 rfl (lv_at hl 3 rfl) ?_
      refine xs_3 X M (j := g1) (vp_in_nI (by omega) (by omega)) (nI_clamp (by omega)) dX0_part_35 (fun H locs M => ?_)
      refine lv_iload_n hx hb dX0_part_36 rfl (lv_at hl 0 rfl) ?_
      exact W.iret (v := Rr 3 g1) hx hb hr (fun t9 ht9 hW9 => ⟨⟨_, (F, mset Rr 3 g1 p2), rfl, (by first | (simp [x_part, c_1, eg1, c_2, up_s, up_n, nI_1, b2i]; done) | (simp_all [x_part]; done) | grind [x_part]), ⟨by rw [ht9]; exact M.1, M.2.1, M.2.2.2⟩⟩, M.2.2.1.F ht9⟩) M.2.2.1.2.2 dX0_part_37
    · -- c_2: inB 1 300 p2 = false
      refine lv_ldc (v := (-1000001)) hx hb hown (hts _ q234) dX0_part_19 ?_
      exact W.iret (v := (-1000001)) hx hb hr (fun t9 ht9 hW9 => ⟨⟨_, (F, Rr), rfl, (by first | (simp [x_part, c_1, eg1, c_2, up_s, up_n, nI_1, b2i]; done) | (simp_all [x_part]; done) | grind [x_part]), ⟨by rw [ht9]; exact M.1, M.2.1, M.2.2.2⟩⟩, M.2.2.1.F ht9⟩) M.2.2.1.2.2 dX0_part_21

set_option maxHeartbeats 4000000 in
set_option maxRecDepth 100000 in
theorem metX0_stands (l : Launch) (D : va_G) (dA : Nat → ClassId) (A : Nat → Prop) (e0 h : Nat) (G : xG) (T : va_W) (F : Nat → Int32) (Rr : Nat → Nat → Int32) (p1 : Int32) (p2 : Int32) (p3 : Int32) : Met l yX0_stands (ws_ yX0_stands cX0_stands 4 (some .int)) ({ frames := 2, cells := 0, slots := 0, locals := 46 } : Room) (va_Pc [.ref h, .int p1, .int p2, .int p3] (xPre D dA A e0 h G T F Rr)) (va_Qi (fun r u => (r, u) = x_stands F Rr p1 p2 p3) (xB0 D dA A e0 h G T) A) 0 0 A := by
  refine Met.ofW (cc := cX0_stands) (maxL := 4) (ret := (some .int)) (by decide) rfl ?_
  intro p e s m args below meth c s₁ B hml hv
  obtain ⟨rfl, hC, hP, hD, hI⟩ := hv
  have hx := B.exec
  have hb := B.bytes
  have hr := B.returns
  have hts := atoms_spec (ws := (ws_ yX0_stands cX0_stands 4 (some .int))) B.pre
  have hts : ∀ w ∈ lw_all, w.before _ s = true := fun w h => hts w (List.mem_cons_of_mem _ h)
  have hown : s.vm.findClass RX0 = some m.cls := findClass_of_methodNamed B.named
  have hlocks := B.notSynchronized
  have S : CallFix p m c cX0_stands 4 s ([.ref h, .int p1, .int p2, .int p3] : List Value).toArray lw_all RX0 := ⟨hx, hb, hml, hown, hts⟩
  have X : xX RX0 p s m ([.ref h, .int p1, .int p2, .int p3] : List Value).toArray c cX0_stands 4 D dA A e0 := ⟨S, hC⟩
  have M : xM D dA A e0 h G T s F Rr s.heap [] := ⟨hP, hD, va_S.rf, hI⟩
  have hl := lv_entry ([.ref h, .int p1, .int p2, .int p3]) (n := 4) (Nat.le_of_ble_eq_true rfl)
  rw [lg_entry_eq]
  generalize (lg_sl ([.ref h, .int p1, .int p2, .int p3]) ++ List.replicate (4 - (lg_sl ([.ref h, .int p1, .int p2, .int p3])).length) Slot.unset).toArray = ls at hl ⊢
  have hl : lv_has ls 4 [(0, .ref h), (1, .int p1), (2, .int p2), (3, .int p3)] := hl
  refine lv_iload_n hx hb dX0_stands_0 rfl (lv_at hl 1 rfl) ?_
  refine s_cI (v := b2i (inB 0 8 p1)) (As := [.int p1]) (rest := []) S (metX0_isGate l p1) (va_cwS 1 hts (lw_S q388 q389 q57 q390) rfl rfl rfl (by decide +kernel) ⟨Nat.le_of_ble_eq_true rfl, Nat.le_of_ble_eq_true rfl⟩) rfl hl.1 rfl (Nat.le_of_ble_eq_true rfl) dX0_stands_1 ⟨Nat.le_of_ble_eq_true rfl, Nat.le_of_ble_eq_true rfl⟩ ?_
  refine lz_if_eq (tgt := 15) hx hb dX0_stands_4 (by decide) (fun c_1 => ?_) (fun c_1 => ?_)
  · -- c_1: inB 0 8 p1 = false
    refine lv_ldc (v := (-1000001)) hx hb hown (hts _ q234) dX0_stands_15 ?_
    exact W.iret (v := (-1000001)) hx hb hr (fun t9 ht9 hW9 => ⟨⟨_, (F, Rr), rfl, (by first | (simp [x_stands, c_1, up_s, up_n, nI_1, b2i]; done) | (simp_all [x_stands]; done) | grind [x_stands]), ⟨by rw [ht9]; exact M.1, M.2.1, M.2.2.2⟩⟩, M.2.2.1.F ht9⟩) M.2.2.1.2.2 dX0_stands_17
  · -- c_1: inB 0 8 p1 = true
    obtain ⟨g1, hg1, rfl⟩ := inB_ex c_1 (n := 8) rfl
    have eg1 : (nI g1).toNatClampNeg = g1 := nI_clamp (by omega)
    refine lv_iload_n hx hb dX0_stands_7 rfl (lv_at hl 2 rfl) ?_
    refine lv_iload_n hx hb dX0_stands_8 rfl (lv_at hl 3 rfl) ?_
    refine s_cI (v := b2i (inB 0 999 p2 && inB 0 999 p3)) (As := [.int p2, .int p3]) (rest := []) S (metX0_isPlace l p2 p3) (va_cwS 2 hts (lw_S q402 q403 q57 q404) rfl rfl rfl (by decide +kernel) ⟨Nat.le_of_ble_eq_true rfl, Nat.le_of_ble_eq_true rfl⟩) rfl hl.1 rfl (Nat.le_of_ble_eq_true rfl) dX0_stands_9 ⟨Nat.le_of_ble_eq_true rfl, Nat.le_of_ble_eq_true rfl⟩ ?_
    refine lz_if_ne (tgt := 18) hx hb dX0_stands_12 (by decide) (fun c_2 => ?_) (fun c_2 => ?_)
    · -- c_2: inB 0 999 p2 && inB 0 999 p3 = true
      refine lv_aload_n hx hb dX0_stands_18 rfl (lv_at hl 0 rfl) ?_
      refine xg_4 X M dX0_stands_19 ?_
      refine lv_iload_n hx hb dX0_stands_22 rfl (lv_at hl 1 rfl) ?_
      refine lv_iload_n hx hb dX0_stands_23 rfl (lv_at hl 2 rfl) ?_
      refine xs_4 X M (j := g1) (vp_in_nI (by omega) (by omega)) (nI_clamp (by omega)) dX0_stands_24 (fun H locs M => ?_)
      refine lv_aload_n hx hb dX0_stands_25 rfl (lv_at hl 0 rfl) ?_
      refine xg_5 X M dX0_stands_26 ?_
      refine lv_iload_n hx hb dX0_stands_29 rfl (lv_at hl 1 rfl) ?_
      refine lv_iload_n hx hb dX0_stands_30 rfl (lv_at hl 3 rfl) ?_
      refine xs_5 X M (j := g1) (vp_in_nI (by omega) (by omega)) (nI_clamp (by omega)) dX0_stands_31 (fun H locs M => ?_)
      refine lv_iconst (v := 1) hx hb dX0_stands_32 (by decide) ?_
      exact W.iret (v := 1) hx hb hr (fun t9 ht9 hW9 => ⟨⟨_, (F, mset (mset Rr 4 g1 p2) 5 g1 p3), rfl, (by first | (simp [x_stands, c_1, eg1, c_2, up_s, up_n, nI_1, b2i]; done) | (simp_all [x_stands]; done) | grind [x_stands]), ⟨by rw [ht9]; exact M.1, M.2.1, M.2.2.2⟩⟩, M.2.2.1.F ht9⟩) M.2.2.1.2.2 dX0_stands_33
    · -- c_2: inB 0 999 p2 && inB 0 999 p3 = false
      refine lv_ldc (v := (-1000001)) hx hb hown (hts _ q234) dX0_stands_15 ?_
      exact W.iret (v := (-1000001)) hx hb hr (fun t9 ht9 hW9 => ⟨⟨_, (F, Rr), rfl, (by first | (simp [x_stands, c_1, eg1, c_2, up_s, up_n, nI_1, b2i]; done) | (simp_all [x_stands]; done) | grind [x_stands]), ⟨by rw [ht9]; exact M.1, M.2.1, M.2.2.2⟩⟩, M.2.2.1.F ht9⟩) M.2.2.1.2.2 dX0_stands_17

set_option maxHeartbeats 4000000 in
set_option maxRecDepth 100000 in
theorem metX0_high (l : Launch) (D : va_G) (dA : Nat → ClassId) (A : Nat → Prop) (e0 h : Nat) (G : xG) (T : va_W) (F : Nat → Int32) (Rr : Nat → Nat → Int32) (p1 : Int32) (p2 : Int32) : Met l yX0_high (ws_ yX0_high cX0_high 4 (some .int)) ({ frames := 2, cells := 0, slots := 0, locals := 45 } : Room) (va_Pc [.ref h, .int p1, .int p2] (xPre D dA A e0 h G T F Rr)) (va_Qi (fun r u => (r, u) = x_high F Rr p1 p2) (xB0 D dA A e0 h G T) A) 0 0 A := by
  refine Met.ofW (cc := cX0_high) (maxL := 4) (ret := (some .int)) (by decide) rfl ?_
  intro p e s m args below meth c s₁ B hml hv
  obtain ⟨rfl, hC, hP, hD, hI⟩ := hv
  have hx := B.exec
  have hb := B.bytes
  have hr := B.returns
  have hts := atoms_spec (ws := (ws_ yX0_high cX0_high 4 (some .int))) B.pre
  have hts : ∀ w ∈ lw_all, w.before _ s = true := fun w h => hts w (List.mem_cons_of_mem _ h)
  have hown : s.vm.findClass RX0 = some m.cls := findClass_of_methodNamed B.named
  have hlocks := B.notSynchronized
  have S : CallFix p m c cX0_high 4 s ([.ref h, .int p1, .int p2] : List Value).toArray lw_all RX0 := ⟨hx, hb, hml, hown, hts⟩
  have X : xX RX0 p s m ([.ref h, .int p1, .int p2] : List Value).toArray c cX0_high 4 D dA A e0 := ⟨S, hC⟩
  have M : xM D dA A e0 h G T s F Rr s.heap [] := ⟨hP, hD, va_S.rf, hI⟩
  have hl := lv_entry ([.ref h, .int p1, .int p2]) (n := 4) (Nat.le_of_ble_eq_true rfl)
  rw [lg_entry_eq]
  generalize (lg_sl ([.ref h, .int p1, .int p2]) ++ List.replicate (4 - (lg_sl ([.ref h, .int p1, .int p2])).length) Slot.unset).toArray = ls at hl ⊢
  have hl : lv_has ls 4 [(0, .ref h), (1, .int p1), (2, .int p2)] := hl
  refine lv_iload_n hx hb dX0_high_0 rfl (lv_at hl 1 rfl) ?_
  refine s_cI (v := b2i (inB 0 11 p1)) (As := [.int p1]) (rest := []) S (metX0_isLength l p1) (va_cwS 1 hts (lw_S q1270 q1271 q57 q1272) rfl rfl rfl (by decide +kernel) ⟨Nat.le_of_ble_eq_true rfl, Nat.le_of_ble_eq_true rfl⟩) rfl hl.1 rfl (Nat.le_of_ble_eq_true rfl) dX0_high_1 ⟨Nat.le_of_ble_eq_true rfl, Nat.le_of_ble_eq_true rfl⟩ ?_
  refine lz_if_eq (tgt := 19) hx hb dX0_high_4 (by decide) (fun c_1 => ?_) (fun c_1 => ?_)
  · -- c_1: inB 0 11 p1 = false
    refine lv_ldc (v := (-1000001)) hx hb hown (hts _ q234) dX0_high_19 ?_
    exact W.iret (v := (-1000001)) hx hb hr (fun t9 ht9 hW9 => ⟨⟨_, (F, Rr), rfl, (by first | (simp [x_high, c_1, up_s, up_n, nI_1, b2i]; done) | (simp_all [x_high]; done) | grind [x_high]), ⟨by rw [ht9]; exact M.1, M.2.1, M.2.2.2⟩⟩, M.2.2.1.F ht9⟩) M.2.2.1.2.2 dX0_high_21
  · -- c_1: inB 0 11 p1 = true
    obtain ⟨g1, hg1, rfl⟩ := inB_ex c_1 (n := 11) rfl
    have eg1 : (nI g1).toNatClampNeg = g1 := nI_clamp (by omega)
    refine lv_iload_n hx hb dX0_high_7 rfl (lv_at hl 2 rfl) ?_
    refine lv_i2l (v := p2.toInt64) hx hb dX0_high_8 rfl ?_
    refine lv_lconst (v := 1) hx hb dX0_high_9 (by decide) ?_
    refine lv_ldc2 (v := 99) hx hb hown (hts _ q850) dX0_high_10 ?_
    refine s_cI (v := b2i (inB 1 99 p2)) (As := [.long p2.toInt64, .long 1, .long 99]) (rest := []) S (metX0_isInI l p2 1 99 p2.toInt64 1 99 rfl rfl rfl) (va_cwS 3 hts (lw_S q230 q231 q57 q232) rfl rfl rfl (by decide +kernel) ⟨Nat.le_of_ble_eq_true rfl, Nat.le_of_ble_eq_true rfl⟩) rfl hl.1 rfl (Nat.le_of_ble_eq_true rfl) dX0_high_13 ⟨Nat.le_of_ble_eq_true rfl, Nat.le_of_ble_eq_true rfl⟩ ?_
    refine lz_if_ne (tgt := 22) hx hb dX0_high_16 (by decide) (fun c_2 => ?_) (fun c_2 => ?_)
    · -- c_2: inB 1 99 p2 = true
      refine lv_aload_n hx hb dX0_high_22 rfl (lv_at hl 0 rfl) ?_
      refine xg_17 X M dX0_high_23 ?_
      refine lv_iload_n hx hb dX0_high_26 rfl (lv_at hl 1 rfl) ?_
      refine xr_17 X M (f := Rr 17) rfl (j := g1) (vp_in_nI (by omega) (by omega)) (nI_clamp (by omega)) dX0_high_27 ?_
      refine lv_istore_n (lv' := [(3, .int (Rr 17 g1)), (0, .ref h), (1, .int (nI g1)), (2, .int p2)]) hx hb dX0_high_28 rfl hl (by decide) rfl (fun ls hl => ?_)
      refine lv_aload_n hx hb dX0_high_29 rfl (lv_at hl 1 rfl) ?_
      refine xg_17 X M dX0_high_30 ?_
      refine lv_iload_n hx hb dX0_high_33 rfl (lv_at hl 2 rfl) ?_
      refine lv_iload_n hx hb dX0_high_34 rfl (lv_at hl 3 rfl) ?_
      refine xs_17 X M (j := g1) (vp_in_nI (by omega) (by omega)) (nI_clamp (by omega)) dX0_high_35 (fun H locs M => ?_)
      refine lv_iload_n hx hb dX0_high_36 rfl (lv_at hl 0 rfl) ?_
      exact W.iret (v := Rr 17 g1) hx hb hr (fun t9 ht9 hW9 => ⟨⟨_, (F, mset Rr 17 g1 p2), rfl, (by first | (simp [x_high, c_1, eg1, c_2, up_s, up_n, nI_1, b2i]; done) | (simp_all [x_high]; done) | grind [x_high]), ⟨by rw [ht9]; exact M.1, M.2.1, M.2.2.2⟩⟩, M.2.2.1.F ht9⟩) M.2.2.1.2.2 dX0_high_37
    · -- c_2: inB 1 99 p2 = false
      refine lv_ldc (v := (-1000001)) hx hb hown (hts _ q234) dX0_high_19 ?_
      exact W.iret (v := (-1000001)) hx hb hr (fun t9 ht9 hW9 => ⟨⟨_, (F, Rr), rfl, (by first | (simp [x_high, c_1, eg1, c_2, up_s, up_n, nI_1, b2i]; done) | (simp_all [x_high]; done) | grind [x_high]), ⟨by rw [ht9]; exact M.1, M.2.1, M.2.2.2⟩⟩, M.2.2.1.F ht9⟩) M.2.2.1.2.2 dX0_high_21

set_option maxHeartbeats 4000000 in
set_option maxRecDepth 100000 in
theorem metX0_fell (l : Launch) (D : va_G) (dA : Nat → ClassId) (A : Nat → Prop) (e0 h : Nat) (G : xG) (T : va_W) (F : Nat → Int32) (Rr : Nat → Nat → Int32) (p1 : Int32) (p2 : Int32) : Met l yX0_fell (ws_ yX0_fell cX0_fell 3 (some .int)) ({ frames := 2, cells := 0, slots := 0, locals := 45 } : Room) (va_Pc [.ref h, .int p1, .int p2] (xPre D dA A e0 h G T F Rr)) (va_Qi (fun r u => (r, u) = x_fell F Rr p1 p2) (xB0 D dA A e0 h G T) A) 0 0 A := by
  refine Met.ofW (cc := cX0_fell) (maxL := 3) (ret := (some .int)) (by decide) rfl ?_
  intro p e s m args below meth c s₁ B hml hv
  obtain ⟨rfl, hC, hP, hD, hI⟩ := hv
  have hx := B.exec
  have hb := B.bytes
  have hr := B.returns
  have hts := atoms_spec (ws := (ws_ yX0_fell cX0_fell 3 (some .int))) B.pre
  have hts : ∀ w ∈ lw_all, w.before _ s = true := fun w h => hts w (List.mem_cons_of_mem _ h)
  have hown : s.vm.findClass RX0 = some m.cls := findClass_of_methodNamed B.named
  have hlocks := B.notSynchronized
  have S : CallFix p m c cX0_fell 3 s ([.ref h, .int p1, .int p2] : List Value).toArray lw_all RX0 := ⟨hx, hb, hml, hown, hts⟩
  have X : xX RX0 p s m ([.ref h, .int p1, .int p2] : List Value).toArray c cX0_fell 3 D dA A e0 := ⟨S, hC⟩
  have M : xM D dA A e0 h G T s F Rr s.heap [] := ⟨hP, hD, va_S.rf, hI⟩
  have hl := lv_entry ([.ref h, .int p1, .int p2]) (n := 3) (Nat.le_of_ble_eq_true rfl)
  rw [lg_entry_eq]
  generalize (lg_sl ([.ref h, .int p1, .int p2]) ++ List.replicate (3 - (lg_sl ([.ref h, .int p1, .int p2])).length) Slot.unset).toArray = ls at hl ⊢
  have hl : lv_has ls 3 [(0, .ref h), (1, .int p1), (2, .int p2)] := hl
  refine lv_iload_n hx hb dX0_fell_0 rfl (lv_at hl 1 rfl) ?_
  refine s_cI (v := b2i (inB 0 7 p1)) (As := [.int p1]) (rest := []) S (metX0_isHouse l p1) (va_cwS 1 hts (lw_S q1241 q1242 q57 q1243) rfl rfl rfl (by decide +kernel) ⟨Nat.le_of_ble_eq_true rfl, Nat.le_of_ble_eq_true rfl⟩) rfl hl.1 rfl (Nat.le_of_ble_eq_true rfl) dX0_fell_1 ⟨Nat.le_of_ble_eq_true rfl, Nat.le_of_ble_eq_true rfl⟩ ?_
  refine lz_if_eq (tgt := 14) hx hb dX0_fell_4 (by decide) (fun c_1 => ?_) (fun c_1 => ?_)
  · -- c_1: inB 0 7 p1 = false
    refine lv_ldc (v := (-1000001)) hx hb hown (hts _ q234) dX0_fell_14 ?_
    exact W.iret (v := (-1000001)) hx hb hr (fun t9 ht9 hW9 => ⟨⟨_, (F, Rr), rfl, (by first | (simp [x_fell, c_1, up_s, up_n, nI_1, b2i]; done) | (simp_all [x_fell]; done) | grind [x_fell]), ⟨by rw [ht9]; exact M.1, M.2.1, M.2.2.2⟩⟩, M.2.2.1.F ht9⟩) M.2.2.1.2.2 dX0_fell_16
  · -- c_1: inB 0 7 p1 = true
    obtain ⟨g1, hg1, rfl⟩ := inB_ex c_1 (n := 7) rfl
    have eg1 : (nI g1).toNatClampNeg = g1 := nI_clamp (by omega)
    refine lv_iload_n hx hb dX0_fell_7 rfl (lv_at hl 2 rfl) ?_
    refine s_cI (v := b2i (inB 0 999 p2)) (As := [.int p2]) (rest := []) S (metX0_isDay l p2) (va_cwS 1 hts (lw_S q824 q825 q57 q826) rfl rfl rfl (by decide +kernel) ⟨Nat.le_of_ble_eq_true rfl, Nat.le_of_ble_eq_true rfl⟩) rfl hl.1 rfl (Nat.le_of_ble_eq_true rfl) dX0_fell_8 ⟨Nat.le_of_ble_eq_true rfl, Nat.le_of_ble_eq_true rfl⟩ ?_
    refine lz_if_ne (tgt := 17) hx hb dX0_fell_11 (by decide) (fun c_2 => ?_) (fun c_2 => ?_)
    · -- c_2: inB 0 999 p2 = true
      refine lv_aload_n hx hb dX0_fell_17 rfl (lv_at hl 0 rfl) ?_
      refine xg_16 X M dX0_fell_18 ?_
      refine lv_iload_n hx hb dX0_fell_21 rfl (lv_at hl 1 rfl) ?_
      refine xr_16 X M (f := Rr 16) rfl (j := g1) (vp_in_nI (by omega) (by omega)) (nI_clamp (by omega)) dX0_fell_22 ?_
      refine lv_ldc (v := (-1000000)) hx hb hown (hts _ q147) dX0_fell_23 ?_
      refine lv_icmp_eq (tgt := 40) hx hb dX0_fell_25 (by decide) (fun c_3 => ?_) (fun c_3 => ?_)
      · -- c_3: Rr 16 g1 = (-1000000)
        refine lv_aload_n hx hb dX0_fell_40 rfl (lv_at hl 0 rfl) ?_
        refine xg_16 X M dX0_fell_41 ?_
        refine lv_iload_n hx hb dX0_fell_44 rfl (lv_at hl 1 rfl) ?_
        refine lv_iload_n hx hb dX0_fell_45 rfl (lv_at hl 2 rfl) ?_
        refine xs_16 X M (j := g1) (vp_in_nI (by omega) (by omega)) (nI_clamp (by omega)) dX0_fell_46 (fun H locs M => ?_)
        refine lv_iconst (v := 1) hx hb dX0_fell_47 (by decide) ?_
        exact W.iret (v := 1) hx hb hr (fun t9 ht9 hW9 => ⟨⟨_, (F, mset Rr 16 g1 p2), rfl, (by first | (simp [x_fell, c_1, eg1, c_2, c_3, up_s, up_n, nI_1, b2i]; done) | (simp_all [x_fell]; done) | grind [x_fell]), ⟨by rw [ht9]; exact M.1, M.2.1, M.2.2.2⟩⟩, M.2.2.1.F ht9⟩) M.2.2.1.2.2 dX0_fell_48
      · -- c_3: Rr 16 g1 ≠ (-1000000)
        refine lv_aload_n hx hb dX0_fell_28 rfl (lv_at hl 0 rfl) ?_
        refine xg_16 X M dX0_fell_29 ?_
        refine lv_iload_n hx hb dX0_fell_32 rfl (lv_at hl 1 rfl) ?_
        refine xr_16 X M (f := Rr 16) rfl (j := g1) (vp_in_nI (by omega) (by omega)) (nI_clamp (by omega)) dX0_fell_33 ?_
        refine lv_iload_n hx hb dX0_fell_34 rfl (lv_at hl 2 rfl) ?_
        refine lb_icmp_gt (tgt := 40) hx hb dX0_fell_35 (by decide) (fun c_4 c_4' => ?_) (fun c_4 c_4' => ?_)
        · -- c_4: Rr 16 g1 > p2
          refine lv_aload_n hx hb dX0_fell_40 rfl (lv_at hl 0 rfl) ?_
          refine xg_16 X M dX0_fell_41 ?_
          refine lv_iload_n hx hb dX0_fell_44 rfl (lv_at hl 1 rfl) ?_
          refine lv_iload_n hx hb dX0_fell_45 rfl (lv_at hl 2 rfl) ?_
          refine xs_16 X M (j := g1) (vp_in_nI (by omega) (by omega)) (nI_clamp (by omega)) dX0_fell_46 (fun H locs M => ?_)
          refine lv_iconst (v := 1) hx hb dX0_fell_47 (by decide) ?_
          exact W.iret (v := 1) hx hb hr (fun t9 ht9 hW9 => ⟨⟨_, (F, mset Rr 16 g1 p2), rfl, (by first | (simp [x_fell, c_1, eg1, c_2, c_3, c_4, c_4', up_s, up_n, nI_1, b2i]; done) | (simp_all [x_fell]; done) | grind [x_fell]), ⟨by rw [ht9]; exact M.1, M.2.1, M.2.2.2⟩⟩, M.2.2.1.F ht9⟩) M.2.2.1.2.2 dX0_fell_48
        · -- c_4: Rr 16 g1 ≤ p2
          refine lv_iconst (v := 0) hx hb dX0_fell_38 (by decide) ?_
          exact W.iret (v := 0) hx hb hr (fun t9 ht9 hW9 => ⟨⟨_, (F, Rr), rfl, (by first | (simp [x_fell, c_1, eg1, c_2, c_3, c_4, c_4', up_s, up_n, nI_1, b2i]; done) | (simp_all [x_fell]; done) | grind [x_fell]), ⟨by rw [ht9]; exact M.1, M.2.1, M.2.2.2⟩⟩, M.2.2.1.F ht9⟩) M.2.2.1.2.2 dX0_fell_39
    · -- c_2: inB 0 999 p2 = false
      refine lv_ldc (v := (-1000001)) hx hb hown (hts _ q234) dX0_fell_14 ?_
      exact W.iret (v := (-1000001)) hx hb hr (fun t9 ht9 hW9 => ⟨⟨_, (F, Rr), rfl, (by first | (simp [x_fell, c_1, eg1, c_2, up_s, up_n, nI_1, b2i]; done) | (simp_all [x_fell]; done) | grind [x_fell]), ⟨by rw [ht9]; exact M.1, M.2.1, M.2.2.2⟩⟩, M.2.2.1.F ht9⟩) M.2.2.1.2.2 dX0_fell_16

set_option maxHeartbeats 4000000 in
set_option maxRecDepth 100000 in
theorem metX0_day (l : Launch) (D : va_G) (dA : Nat → ClassId) (A : Nat → Prop) (e0 h : Nat) (G : xG) (T : va_W) (F : Nat → Int32) (Rr : Nat → Nat → Int32) (p1 : Int32) : Met l yX0_day (ws_ yX0_day cX0_day 3 (some .int)) ({ frames := 2, cells := 0, slots := 0, locals := 45 } : Room) (va_Pc [.ref h, .int p1] (xPre D dA A e0 h G T F Rr)) (va_Qi (fun r u => (r, u) = x_day F Rr p1) (xB0 D dA A e0 h G T) A) 0 0 A := by
  refine Met.ofW (cc := cX0_day) (maxL := 3) (ret := (some .int)) (by decide) rfl ?_
  intro p e s m args below meth c s₁ B hml hv
  obtain ⟨rfl, hC, hP, hD, hI⟩ := hv
  have hx := B.exec
  have hb := B.bytes
  have hr := B.returns
  have hts := atoms_spec (ws := (ws_ yX0_day cX0_day 3 (some .int))) B.pre
  have hts : ∀ w ∈ lw_all, w.before _ s = true := fun w h => hts w (List.mem_cons_of_mem _ h)
  have hown : s.vm.findClass RX0 = some m.cls := findClass_of_methodNamed B.named
  have hlocks := B.notSynchronized
  have S : CallFix p m c cX0_day 3 s ([.ref h, .int p1] : List Value).toArray lw_all RX0 := ⟨hx, hb, hml, hown, hts⟩
  have X : xX RX0 p s m ([.ref h, .int p1] : List Value).toArray c cX0_day 3 D dA A e0 := ⟨S, hC⟩
  have M : xM D dA A e0 h G T s F Rr s.heap [] := ⟨hP, hD, va_S.rf, hI⟩
  have hl := lv_entry ([.ref h, .int p1]) (n := 3) (Nat.le_of_ble_eq_true rfl)
  rw [lg_entry_eq]
  generalize (lg_sl ([.ref h, .int p1]) ++ List.replicate (3 - (lg_sl ([.ref h, .int p1])).length) Slot.unset).toArray = ls at hl ⊢
  have hl : lv_has ls 3 [(0, .ref h), (1, .int p1)] := hl
  refine lv_iload_n hx hb dX0_day_0 rfl (lv_at hl 1 rfl) ?_
  refine s_cI (v := b2i (inB 0 999 p1)) (As := [.int p1]) (rest := []) S (metX0_isDay l p1) (va_cwS 1 hts (lw_S q824 q825 q57 q826) rfl rfl rfl (by decide +kernel) ⟨Nat.le_of_ble_eq_true rfl, Nat.le_of_ble_eq_true rfl⟩) rfl hl.1 rfl (Nat.le_of_ble_eq_true rfl) dX0_day_1 ⟨Nat.le_of_ble_eq_true rfl, Nat.le_of_ble_eq_true rfl⟩ ?_
  refine lz_if_ne (tgt := 10) hx hb dX0_day_4 (by decide) (fun c_1 => ?_) (fun c_1 => ?_)
  · -- c_1: inB 0 999 p1 = true
    refine lv_aload_n hx hb dX0_day_10 rfl (lv_at hl 0 rfl) ?_
    refine xg_21 X M (v := F 21) rfl dX0_day_11 ?_
    refine lv_istore_n (lv' := [(2, .int (F 21)), (0, .ref h), (1, .int p1)]) hx hb dX0_day_14 rfl hl (by decide) rfl (fun ls hl => ?_)
    refine lv_aload_n hx hb dX0_day_15 rfl (lv_at hl 1 rfl) ?_
    refine lv_iload_n hx hb dX0_day_16 rfl (lv_at hl 2 rfl) ?_
    refine xp_21 X M dX0_day_17 (fun H locs M => ?_)
    refine lv_iload_n hx hb dX0_day_20 rfl (lv_at hl 0 rfl) ?_
    exact W.iret (v := F 21) hx hb hr (fun t9 ht9 hW9 => ⟨⟨_, (va_up F 21 p1, Rr), rfl, (by first | (simp [x_day, c_1, up_s, up_n, nI_1, b2i]; done) | (simp_all [x_day]; done) | grind [x_day]), ⟨by rw [ht9]; exact M.1, M.2.1, M.2.2.2⟩⟩, M.2.2.1.F ht9⟩) M.2.2.1.2.2 dX0_day_21
  · -- c_1: inB 0 999 p1 = false
    refine lv_ldc (v := (-1000001)) hx hb hown (hts _ q234) dX0_day_7 ?_
    exact W.iret (v := (-1000001)) hx hb hr (fun t9 ht9 hW9 => ⟨⟨_, (F, Rr), rfl, (by first | (simp [x_day, c_1, up_s, up_n, nI_1, b2i]; done) | (simp_all [x_day]; done) | grind [x_day]), ⟨by rw [ht9]; exact M.1, M.2.1, M.2.2.2⟩⟩, M.2.2.1.F ht9⟩) M.2.2.1.2.2 dX0_day_9

set_option maxHeartbeats 4000000 in
set_option maxRecDepth 100000 in
theorem metX0_lean (l : Launch) (D : va_G) (dA : Nat → ClassId) (A : Nat → Prop) (e0 h : Nat) (G : xG) (T : va_W) (F : Nat → Int32) (Rr : Nat → Nat → Int32) (p1 : Int32) (p2 : Int32) (p3 : Int32) : Met l yX0_lean (ws_ yX0_lean cX0_lean 4 (some .int)) ({ frames := 2, cells := 0, slots := 0, locals := 45 } : Room) (va_Pc [.ref h, .int p1, .int p2, .int p3] (xPre D dA A e0 h G T F Rr)) (va_Qi (fun r u => (r, u) = x_lean F Rr p1 p2 p3) (xB0 D dA A e0 h G T) A) 0 0 A := by
  refine Met.ofW (cc := cX0_lean) (maxL := 4) (ret := (some .int)) (by decide) rfl ?_
  intro p e s m args below meth c s₁ B hml hv
  obtain ⟨rfl, hC, hP, hD, hI⟩ := hv
  have hx := B.exec
  have hb := B.bytes
  have hr := B.returns
  have hts := atoms_spec (ws := (ws_ yX0_lean cX0_lean 4 (some .int))) B.pre
  have hts : ∀ w ∈ lw_all, w.before _ s = true := fun w h => hts w (List.mem_cons_of_mem _ h)
  have hown : s.vm.findClass RX0 = some m.cls := findClass_of_methodNamed B.named
  have hlocks := B.notSynchronized
  have S : CallFix p m c cX0_lean 4 s ([.ref h, .int p1, .int p2, .int p3] : List Value).toArray lw_all RX0 := ⟨hx, hb, hml, hown, hts⟩
  have X : xX RX0 p s m ([.ref h, .int p1, .int p2, .int p3] : List Value).toArray c cX0_lean 4 D dA A e0 := ⟨S, hC⟩
  have M : xM D dA A e0 h G T s F Rr s.heap [] := ⟨hP, hD, va_S.rf, hI⟩
  have hl := lv_entry ([.ref h, .int p1, .int p2, .int p3]) (n := 4) (Nat.le_of_ble_eq_true rfl)
  rw [lg_entry_eq]
  generalize (lg_sl ([.ref h, .int p1, .int p2, .int p3]) ++ List.replicate (4 - (lg_sl ([.ref h, .int p1, .int p2, .int p3])).length) Slot.unset).toArray = ls at hl ⊢
  have hl : lv_has ls 4 [(0, .ref h), (1, .int p1), (2, .int p2), (3, .int p3)] := hl
  refine lv_iload_n hx hb dX0_lean_0 rfl (lv_at hl 1 rfl) ?_
  refine s_cI (v := b2i (inB 0 11 p1)) (As := [.int p1]) (rest := []) S (metX0_isLength l p1) (va_cwS 1 hts (lw_S q1270 q1271 q57 q1272) rfl rfl rfl (by decide +kernel) ⟨Nat.le_of_ble_eq_true rfl, Nat.le_of_ble_eq_true rfl⟩) rfl hl.1 rfl (Nat.le_of_ble_eq_true rfl) dX0_lean_1 ⟨Nat.le_of_ble_eq_true rfl, Nat.le_of_ble_eq_true rfl⟩ ?_
  refine lz_if_eq (tgt := 31) hx hb dX0_lean_4 (by decide) (fun c_1 => ?_) (fun c_1 => ?_)
  · -- c_1: inB 0 11 p1 = false
    refine lv_ldc (v := (-1000001)) hx hb hown (hts _ q234) dX0_lean_31 ?_
    exact W.iret (v := (-1000001)) hx hb hr (fun t9 ht9 hW9 => ⟨⟨_, (F, Rr), rfl, (by first | (simp [x_lean, c_1, up_s, up_n, nI_1, b2i]; done) | (simp_all [x_lean]; done) | grind [x_lean]), ⟨by rw [ht9]; exact M.1, M.2.1, M.2.2.2⟩⟩, M.2.2.1.F ht9⟩) M.2.2.1.2.2 dX0_lean_33
  · -- c_1: inB 0 11 p1 = true
    obtain ⟨g1, hg1, rfl⟩ := inB_ex c_1 (n := 11) rfl
    have eg1 : (nI g1).toNatClampNeg = g1 := nI_clamp (by omega)
    refine lv_iload_n hx hb dX0_lean_7 rfl (lv_at hl 2 rfl) ?_
    refine lv_i2l (v := p2.toInt64) hx hb dX0_lean_8 rfl ?_
    refine lv_lconst (v := 0) hx hb dX0_lean_9 (by decide) ?_
    refine lv_ldc2 (v := 99) hx hb hown (hts _ q850) dX0_lean_10 ?_
    refine s_cI (v := b2i (inB 0 99 p2)) (As := [.long p2.toInt64, .long 0, .long 99]) (rest := []) S (metX0_isInI l p2 0 99 p2.toInt64 0 99 rfl rfl rfl) (va_cwS 3 hts (lw_S q230 q231 q57 q232) rfl rfl rfl (by decide +kernel) ⟨Nat.le_of_ble_eq_true rfl, Nat.le_of_ble_eq_true rfl⟩) rfl hl.1 rfl (Nat.le_of_ble_eq_true rfl) dX0_lean_13 ⟨Nat.le_of_ble_eq_true rfl, Nat.le_of_ble_eq_true rfl⟩ ?_
    refine lz_if_eq (tgt := 31) hx hb dX0_lean_16 (by decide) (fun c_2 => ?_) (fun c_2 => ?_)
    · -- c_2: inB 0 99 p2 = false
      refine lv_ldc (v := (-1000001)) hx hb hown (hts _ q234) dX0_lean_31 ?_
      exact W.iret (v := (-1000001)) hx hb hr (fun t9 ht9 hW9 => ⟨⟨_, (F, Rr), rfl, (by first | (simp [x_lean, c_1, eg1, c_2, up_s, up_n, nI_1, b2i]; done) | (simp_all [x_lean]; done) | grind [x_lean]), ⟨by rw [ht9]; exact M.1, M.2.1, M.2.2.2⟩⟩, M.2.2.1.F ht9⟩) M.2.2.1.2.2 dX0_lean_33
    · -- c_2: inB 0 99 p2 = true
      refine lv_iload_n hx hb dX0_lean_19 rfl (lv_at hl 3 rfl) ?_
      refine lv_i2l (v := p3.toInt64) hx hb dX0_lean_20 rfl ?_
      refine lv_lconst (v := 0) hx hb dX0_lean_21 (by decide) ?_
      refine lv_ldc2 (v := 99) hx hb hown (hts _ q850) dX0_lean_22 ?_
      refine s_cI (v := b2i (inB 0 99 p3)) (As := [.long p3.toInt64, .long 0, .long 99]) (rest := []) S (metX0_isInI l p3 0 99 p3.toInt64 0 99 rfl rfl rfl) (va_cwS 3 hts (lw_S q230 q231 q57 q232) rfl rfl rfl (by decide +kernel) ⟨Nat.le_of_ble_eq_true rfl, Nat.le_of_ble_eq_true rfl⟩) rfl hl.1 rfl (Nat.le_of_ble_eq_true rfl) dX0_lean_25 ⟨Nat.le_of_ble_eq_true rfl, Nat.le_of_ble_eq_true rfl⟩ ?_
      refine lz_if_ne (tgt := 34) hx hb dX0_lean_28 (by decide) (fun c_3 => ?_) (fun c_3 => ?_)
      · -- c_3: inB 0 99 p3 = true
        refine lv_aload_n hx hb dX0_lean_34 rfl (lv_at hl 0 rfl) ?_
        refine xg_20 X M (v := F 20) rfl dX0_lean_35 ?_
        refine lv_bipush (v := 20) hx hb dX0_lean_38 (by decide) ?_
        refine lv_icmp_ne (tgt := 46) hx hb dX0_lean_40 (by decide) (fun c_4 => ?_) (fun c_4 => ?_)
        · -- c_4: F 20 ≠ 20
          refine lv_aload_n hx hb dX0_lean_46 rfl (lv_at hl 0 rfl) ?_
          refine xg_18 X M dX0_lean_47 ?_
          refine lv_iload_n hx hb dX0_lean_50 rfl (lv_at hl 1 rfl) ?_
          refine lv_aload_n hx hb dX0_lean_51 rfl (lv_at hl 0 rfl) ?_
          refine xg_18 X M dX0_lean_52 ?_
          refine lv_iload_n hx hb dX0_lean_55 rfl (lv_at hl 1 rfl) ?_
          refine xr_18 X M (f := Rr 18) rfl (j := g1) (vp_in_nI (by omega) (by omega)) (nI_clamp (by omega)) dX0_lean_56 ?_
          refine lv_iload_n hx hb dX0_lean_57 rfl (lv_at hl 2 rfl) ?_
          refine va_mmax (x := Rr 18 g1) (y := p2) (rest := [.int (nI g1), .ref (g_ad G 18)]) hx hb (by rw [hml]; exact hl.1.symm) hown (hts _ q1220) (hts _ q530) (hts _ q77) (hts _ q531) (Nat.le_of_ble_eq_true rfl) (Nat.le_of_ble_eq_true rfl) (Nat.le_of_ble_eq_true rfl) (Nat.le_of_ble_eq_true rfl) dX0_lean_58 ?_
          refine lv_asi (y := x_max (Rr 18 g1) p2) rfl ?_
          refine xs_18 X M (j := g1) (vp_in_nI (by omega) (by omega)) (nI_clamp (by omega)) dX0_lean_61 (fun H locs M => ?_)
          refine lv_aload_n hx hb dX0_lean_62 rfl (lv_at hl 0 rfl) ?_
          refine xg_19 X M dX0_lean_63 ?_
          refine lv_iload_n hx hb dX0_lean_66 rfl (lv_at hl 1 rfl) ?_
          refine lv_aload_n hx hb dX0_lean_67 rfl (lv_at hl 0 rfl) ?_
          refine xg_19 X M dX0_lean_68 ?_
          refine lv_iload_n hx hb dX0_lean_71 rfl (lv_at hl 1 rfl) ?_
          refine xr_19 X M (f := Rr 19) rfl (j := g1) (vp_in_nI (by omega) (by omega)) (nI_clamp (by omega)) dX0_lean_72 ?_
          refine lv_iload_n hx hb dX0_lean_73 rfl (lv_at hl 3 rfl) ?_
          refine va_mmax (x := Rr 19 g1) (y := p3) (rest := [.int (nI g1), .ref (g_ad G 19)]) hx hb (by rw [hml]; exact hl.1.symm) hown (hts _ q1220) (hts _ q530) (hts _ q77) (hts _ q531) (Nat.le_of_ble_eq_true rfl) (Nat.le_of_ble_eq_true rfl) (Nat.le_of_ble_eq_true rfl) (Nat.le_of_ble_eq_true rfl) dX0_lean_74 ?_
          refine lv_asi (y := x_max (Rr 19 g1) p3) rfl ?_
          refine xs_19 X M (j := g1) (vp_in_nI (by omega) (by omega)) (nI_clamp (by omega)) dX0_lean_77 (fun H locs M => ?_)
          refine lv_aload_n hx hb dX0_lean_78 rfl (lv_at hl 0 rfl) ?_
          refine lv_dup hx hb dX0_lean_79 rfl ?_
          refine xg_20 X M (v := F 20) rfl dX0_lean_80 ?_
          refine lv_iconst (v := 1) hx hb dX0_lean_83 (by decide) ?_
          refine lv_iadd hx hb dX0_lean_84 ?_
          refine lv_dup_x1 hx hb dX0_lean_85 rfl rfl ?_
          refine xp_20 X M dX0_lean_86 (fun H locs M => ?_)
          exact W.iret (v := (F 20) + 1) hx hb hr (fun t9 ht9 hW9 => ⟨⟨_, (va_up F 20 ((F 20) + 1), mset (mset Rr 18 g1 (x_max (Rr 18 g1) p2)) 19 g1 (x_max (Rr 19 g1) p3)), rfl, (by first | (simp [x_lean, c_1, eg1, c_2, c_3, c_4, up_s, up_n, nI_1, b2i]; done) | (simp_all [x_lean]; done) | grind [x_lean]), ⟨by rw [ht9]; exact M.1, M.2.1, M.2.2.2⟩⟩, M.2.2.1.F ht9⟩) M.2.2.1.2.2 dX0_lean_89
        · -- c_4: F 20 = 20
          refine lv_ldc (v := (-1000003)) hx hb hown (hts _ q410) dX0_lean_43 ?_
          exact W.iret (v := (-1000003)) hx hb hr (fun t9 ht9 hW9 => ⟨⟨_, (F, Rr), rfl, (by first | (simp [x_lean, c_1, eg1, c_2, c_3, c_4, up_s, up_n, nI_1, b2i]; done) | (simp_all [x_lean]; done) | grind [x_lean]), ⟨by rw [ht9]; exact M.1, M.2.1, M.2.2.2⟩⟩, M.2.2.1.F ht9⟩) M.2.2.1.2.2 dX0_lean_45
      · -- c_3: inB 0 99 p3 = false
        refine lv_ldc (v := (-1000001)) hx hb hown (hts _ q234) dX0_lean_31 ?_
        exact W.iret (v := (-1000001)) hx hb hr (fun t9 ht9 hW9 => ⟨⟨_, (F, Rr), rfl, (by first | (simp [x_lean, c_1, eg1, c_2, c_3, up_s, up_n, nI_1, b2i]; done) | (simp_all [x_lean]; done) | grind [x_lean]), ⟨by rw [ht9]; exact M.1, M.2.1, M.2.2.2⟩⟩, M.2.2.1.F ht9⟩) M.2.2.1.2.2 dX0_lean_33

set_option maxHeartbeats 4000000 in
set_option maxRecDepth 100000 in
theorem metX0_trace (l : Launch) (D : va_G) (dA : Nat → ClassId) (A : Nat → Prop) (e0 h : Nat) (G : xG) (T : va_W) (F : Nat → Int32) (Rr : Nat → Nat → Int32) (p1 : Int32) : Met l yX0_trace (ws_ yX0_trace cX0_trace 2 (some .int)) ({ frames := 1, cells := 0, slots := 0, locals := 25 } : Room) (va_Pc [.ref h, .int p1] (xPre D dA A e0 h G T F Rr)) (vp_Si (fun r => r = x_trace F Rr p1)) 0 0 (fun _ => False) := by
  refine Met.ofW (cc := cX0_trace) (maxL := 2) (ret := (some .int)) (by decide) rfl ?_
  intro p e s m args below meth c s₁ B hml hv
  obtain ⟨rfl, hC, hP, hD, hI⟩ := hv
  have hx := B.exec
  have hb := B.bytes
  have hr := B.returns
  have hts := atoms_spec (ws := (ws_ yX0_trace cX0_trace 2 (some .int))) B.pre
  have hts : ∀ w ∈ lw_all, w.before _ s = true := fun w h => hts w (List.mem_cons_of_mem _ h)
  have hown : s.vm.findClass RX0 = some m.cls := findClass_of_methodNamed B.named
  have hlocks := B.notSynchronized
  have S : CallFix p m c cX0_trace 2 s ([.ref h, .int p1] : List Value).toArray lw_all RX0 := ⟨hx, hb, hml, hown, hts⟩
  have X : xX RX0 p s m ([.ref h, .int p1] : List Value).toArray c cX0_trace 2 D dA A e0 := ⟨S, hC⟩
  have M : xM D dA A e0 h G T s F Rr s.heap [] := ⟨hP, hD, va_S.rf, hI⟩
  have hl := lv_entry ([.ref h, .int p1]) (n := 2) (Nat.le_of_ble_eq_true rfl)
  rw [lg_entry_eq]
  generalize (lg_sl ([.ref h, .int p1]) ++ List.replicate (2 - (lg_sl ([.ref h, .int p1])).length) Slot.unset).toArray = ls at hl ⊢
  have hl : lv_has ls 2 [(0, .ref h), (1, .int p1)] := hl
  have h22 : cnB (F 22) 16 := hI.2.2.2.2.2.2.2.2
  obtain ⟨n22, hn22, en22⟩ := cnB_ex h22 (n := 16) rfl
  have em22 : (F 22).toNatClampNeg = n22 := by rw [en22]; exact nI_clamp (by omega)
  have ec22 : (nI n22).toNatClampNeg = n22 := nI_clamp (by omega)
  refine lv_iload_n hx hb dX0_trace_0 rfl (lv_at hl 1 rfl) ?_
  refine lv_i2l (v := p1.toInt64) hx hb dX0_trace_1 rfl ?_
  refine lv_lconst (v := 0) hx hb dX0_trace_2 (by decide) ?_
  refine lv_aload_n hx hb dX0_trace_3 rfl (lv_at hl 0 rfl) ?_
  refine xg_22 X M dX0_trace_4 ?_
  refine xg_22m X M (v := F 22) rfl dX0_trace_7 ?_
  refine lv_iconst (v := 1) hx hb dX0_trace_10 (by decide) ?_
  refine lv_isub hx hb dX0_trace_11 ?_
  refine lv_i2l (v := ((F 22) - 1).toInt64) hx hb dX0_trace_12 rfl ?_
  refine s_cI (v := b2i (inB 0 ((F 22) - 1) p1)) (As := [.long p1.toInt64, .long 0, .long (((F 22) - 1).toInt64)]) (rest := []) S (metX0_isInI l p1 0 ((F 22) - 1) p1.toInt64 0 (((F 22) - 1).toInt64) rfl rfl rfl) (va_cwS 3 hts (lw_S q230 q231 q57 q232) rfl rfl rfl (by decide +kernel) ⟨Nat.le_of_ble_eq_true rfl, Nat.le_of_ble_eq_true rfl⟩) rfl hl.1 rfl (Nat.le_of_ble_eq_true rfl) dX0_trace_13 ⟨Nat.le_of_ble_eq_true rfl, Nat.le_of_ble_eq_true rfl⟩ ?_
  refine lz_if_eq (tgt := 31) hx hb dX0_trace_16 (by decide) (fun c_1 => ?_) (fun c_1 => ?_)
  · -- c_1: inB 0 ((F 22) - 1) p1 = false
    refine lv_ldc (v := (-1000000)) hx hb hown (hts _ q147) dX0_trace_31 ?_
    exact W.iret (v := (-1000000)) hx hb hr (fun t9 ht9 hW9 => ⟨_, rfl, (by first | (simp [x_trace, em22, ec22, c_1, up_s, up_n, nI_1, b2i]; done) | (simp_all [x_trace]; done) | grind [x_trace]), ht9⟩) (fun _ h9 => by cases h9) dX0_trace_33
  · -- c_1: inB 0 ((F 22) - 1) p1 = true
    refine lv_aload_n hx hb dX0_trace_19 rfl (lv_at hl 0 rfl) ?_
    refine xg_22 X M dX0_trace_20 ?_
    refine xg_22b X M dX0_trace_23 ?_
    refine lv_iload_n hx hb dX0_trace_26 rfl (lv_at hl 1 rfl) ?_
    refine xr_22 X M (f := Rr 22) rfl (j := p1.toNatClampNeg) (by first | assumption | exact vp_inN (N := 16) rfl (by grind [inB]) (by grind [inB])) rfl dX0_trace_27 ?_
    refine lv_goto (tgt := 33) hx hb dX0_trace_28 (by decide) ?_
    exact W.iret (v := Rr 22 p1.toNatClampNeg) hx hb hr (fun t9 ht9 hW9 => ⟨_, rfl, (by first | (simp [x_trace, em22, ec22, c_1, up_s, up_n, nI_1, b2i]; done) | (simp_all [x_trace]; done) | grind [x_trace]), ht9⟩) (fun _ h9 => by cases h9) dX0_trace_33

def x_byte (w : Int64) (k : Nat) : Int32 := ((w >>> ((nI (8 * k)).toInt64 &&& 63)).toInt32.toInt8.toInt32).toInt8.toInt32
def x_feed (F : Nat → Int32) (Rr : Nat → Nat → Int32) (w : Int64) (n : Int32) : Int32 × mST := if inB 1 8 n = false then ((-1000001), F, Rr) else if 400 < F 8 + n then ((-1000003), F, Rr) else (F 8 + n, va_up F 8 (F 8 + n), itr (fun j R => mset R 7 ((F 8).toNatClampNeg + j) (x_byte w (n.toNatClampNeg - 1 - j))) n.toNatClampNeg Rr)
set_option maxHeartbeats 4000000 in
set_option maxRecDepth 100000 in
theorem metX0_feed (l : Launch) (D : va_G) (dA : Nat → ClassId) (A : Nat → Prop) (e0 h : Nat) (G : xG) (T : va_W) (F : Nat → Int32) (Rr : Nat → Nat → Int32) (p1 : Int64) (p3 : Int32) : Met l yX0_feed (ws_ yX0_feed cX0_feed 5 (some .int)) ({ frames := 1, cells := 0, slots := 0, locals := 25 } : Room) (va_Pc [.ref h, .long p1, .int p3] (xPre D dA A e0 h G T F Rr)) (va_Qi (fun r u => (r, u) = x_feed F Rr p1 p3) (xB0 D dA A e0 h G T) A) 0 0 A := by
  refine Met.ofW (cc := cX0_feed) (maxL := 5) (ret := (some .int)) (by decide) rfl ?_
  intro p e s m args below meth c s₁ B hml hv
  obtain ⟨rfl, hC, hP, hD, hI⟩ := hv
  have hx := B.exec
  have hb := B.bytes
  have hr := B.returns
  have hts := atoms_spec (ws := (ws_ yX0_feed cX0_feed 5 (some .int))) B.pre
  have hts : ∀ w ∈ lw_all, w.before _ s = true := fun w h => hts w (List.mem_cons_of_mem _ h)
  have hown : s.vm.findClass RX0 = some m.cls := findClass_of_methodNamed B.named
  have hlocks := B.notSynchronized
  have S : CallFix p m c cX0_feed 5 s ([.ref h, .long p1, .int p3] : List Value).toArray lw_all RX0 := ⟨hx, hb, hml, hown, hts⟩
  have X : xX RX0 p s m ([.ref h, .long p1, .int p3] : List Value).toArray c cX0_feed 5 D dA A e0 := ⟨S, hC⟩
  have M : xM D dA A e0 h G T s F Rr s.heap [] := ⟨hP, hD, va_S.rf, hI⟩
  have hl := lv_entry ([.ref h, .long p1, .int p3]) (n := 5) (Nat.le_of_ble_eq_true rfl)
  rw [lg_entry_eq]
  generalize (lg_sl ([.ref h, .long p1, .int p3]) ++ List.replicate (5 - (lg_sl ([.ref h, .long p1, .int p3])).length) Slot.unset).toArray = ls at hl ⊢
  have hl : lv_has ls 5 [(0, .ref h), (1, .long p1), (3, .int p3)] := hl
  have h8 : cnB (F 8) 400 := hI.2.2.2.2.2.2.2.1
  obtain ⟨n8, hn8, en8⟩ := cnB_ex h8 (n := 400) rfl
  have em8 : (F 8).toNatClampNeg = n8 := by rw [en8]; exact nI_clamp (by omega)
  have ec8 : (nI n8).toNatClampNeg = n8 := nI_clamp (by omega)
  refine lv_iload_n hx hb dX0_feed_0 rfl (lv_at hl 2 rfl) ?_
  refine lv_i2l (v := p3.toInt64) hx hb dX0_feed_1 rfl ?_
  refine lv_lconst (v := 1) hx hb dX0_feed_2 (by decide) ?_
  refine lv_ldc2 (v := 8) hx hb hown (hts _ q391) dX0_feed_3 ?_
  refine s_cI (v := b2i (inB 1 8 p3)) (As := [.long p3.toInt64, .long 1, .long 8]) (rest := []) S (metX0_isInI l p3 1 8 p3.toInt64 1 8 rfl rfl rfl) (va_cwS 3 hts (lw_S q230 q231 q57 q232) rfl rfl rfl (by decide +kernel) ⟨Nat.le_of_ble_eq_true rfl, Nat.le_of_ble_eq_true rfl⟩) rfl hl.1 rfl (Nat.le_of_ble_eq_true rfl) dX0_feed_6 ⟨Nat.le_of_ble_eq_true rfl, Nat.le_of_ble_eq_true rfl⟩ ?_
  refine lz_if_ne (tgt := 15) hx hb dX0_feed_9 (by decide) (fun c_1 => ?_) (fun c_1 => ?_)
  · -- c_1: inB 1 8 p3 = true
    obtain ⟨n1, hn1, rfl⟩ := inB_ex (show inB 0 8 p3 = true from inB_t.mpr ⟨Int32.le_trans (by decide) (inB_t.mp c_1).1, (inB_t.mp c_1).2⟩) (n := 8) rfl
    have en1 : (nI n1).toNatClampNeg = n1 := nI_clamp (by omega)
    have hn1p : 1 ≤ n1 := Nat.pos_of_ne_zero (fun q => by rw [q] at c_1; exact absurd (inB_t.mp c_1).1 (by decide))
    refine lv_aload_n hx hb dX0_feed_15 rfl (lv_at hl 0 rfl) ?_
    refine xg_8 X M (v := F 8) rfl dX0_feed_16 ?_
    refine lv_asi (y := nI n8) en8 ?_
    refine lv_iload_n hx hb dX0_feed_19 rfl (lv_at hl 2 rfl) ?_
    refine lv_iadd hx hb dX0_feed_20 ?_
    refine lv_asi (y := nI (n8 + n1)) (nI_add n8 n1) ?_
    refine lv_sipush (v := 400) hx hb dX0_feed_21 (by decide) ?_
    refine ln_icmp_le (tgt := 30) hx hb (a := n8 + n1) (b := 400) (by omega) (by omega) dX0_feed_24 (by decide) (fun c_2 => ?_) (fun c_2 => ?_)
    · -- c_2: nI (n8 + n1) ≤ 400
      have ef : ¬ (400 : Int32) < nI (n8 + n1) := fun q => by have q2 := (nI_ltI (a := 400) (by omega) (by omega)).mp q; omega
      refine lv_iload_n hx hb dX0_feed_30 rfl (lv_at hl 2 rfl) ?_
      refine lv_iconst (v := 1) hx hb dX0_feed_31 (by decide) ?_
      refine lv_isub hx hb dX0_feed_32 ?_
      refine lv_istore (lv' := [(4, .int ((nI n1) - 1)), (0, .ref h), (1, .long p1), (3, .int (nI n1))]) hx hb dX0_feed_33 hl (by decide) rfl (fun ls hl => ?_)
      have L_3 : ∀ (fuL_3 : Nat) (i : Nat) (r : Nat) (R1 : Nat → Nat → Int32), (i + r = n1) → (R1 = itr (fun j R => mset R 7 (n8 + j) (x_byte p1 (n1 - 1 - j))) i Rr) → r < fuL_3 → ∀ (H : Heap) (locs : List Loc), xM D dA A e0 h G T s (va_up F 8 (nI (n8 + i))) R1 H locs → ∀ ls, lv_has ls 5 [(0, .ref h), (1, .long p1), (3, .int (nI n1)), (4, .int (nI r - 1))] → W p l e ({ frames := 1, cells := 0, slots := 0, locals := 25 } : Room) s m ([.ref h, .long p1, .int (nI n1)] : List Value).toArray below meth c H locs 0 0 (MQ below (va_Qi (fun r u => (r, u) = x_feed F Rr p1 (nI n1)) (xB0 D dA A e0 h G T) A) ([.ref h, .long p1, .int (nI n1)] : List Value).toArray s 0 0 A) (F0 m 35 ls []) := by
        intro fuL_3
        induction fuL_3 with
        | zero => intro i r R1 hir qR1 hfuL_3; exact absurd hfuL_3 (Nat.not_lt_zero _)
        | succ fuL_3 L_3ih =>
          intro i r R1 hir qR1 hfuL_3 H locs M ls hl
          refine lv_iload hx hb dX0_feed_35 (lv_at hl 3 rfl) ?_
          refine lb_if_lt (tgt := 71) hx hb dX0_feed_37 (by decide) (fun c_4 c_4' => ?_) (fun c_4 c_4' => ?_)
          · -- c_4: nI r - 1 < 0
            have er : r = 0 := dec_lt0 (by omega) c_4
            have ei : i = n1 := by omega
            rw [ei] at qR1
            refine lv_aload_n hx hb dX0_feed_71 rfl (lv_at hl 0 rfl) ?_
            refine xg_8 X M (v := nI (n8 + i)) rfl dX0_feed_72 ?_
            exact W.iret (v := nI (n8 + i)) hx hb hr (fun t9 ht9 hW9 => ⟨⟨_, (va_up F 8 (nI (n8 + i)), R1), rfl, (by simp [x_feed, up_s, up_n, nI_add, em8, ec8, en8, c_1, en1, c_2, ef, c_4, c_4', ei, ← qR1]), ⟨by rw [ht9]; exact M.1, M.2.1, M.2.2.2⟩⟩, M.2.2.1.F ht9⟩) M.2.2.1.2.2 dX0_feed_75
          · -- c_4: nI r - 1 ≥ 0
            obtain ⟨r1, rfl⟩ := dec_ge0 c_4
            rw [nI_pred] at hl
            refine lv_aload_n hx hb dX0_feed_40 rfl (lv_at hl 0 rfl) ?_
            refine xg_7 X M dX0_feed_41 ?_
            refine lv_aload_n hx hb dX0_feed_44 rfl (lv_at hl 0 rfl) ?_
            refine lv_dup hx hb dX0_feed_45 rfl ?_
            refine xg_8 X M (v := nI (n8 + i)) rfl dX0_feed_46 ?_
            refine lv_dup_x1 hx hb dX0_feed_49 rfl rfl ?_
            refine lv_iconst (v := 1) hx hb dX0_feed_50 (by decide) ?_
            refine lv_iadd hx hb dX0_feed_51 ?_
            refine lv_asi (y := nI ((n8 + i) + 1)) (nI_add (n8 + i) 1) ?_
            refine xp_8 X M (show cnB (nI (n8 + i + 1)) 400 from ⟨nI_pos' (by omega), nI_le (b := 400) (by omega) (by decide)⟩) dX0_feed_52 (fun H locs M => ?_)
            refine lv_lload_n hx hb dX0_feed_55 rfl (lv_at hl 1 rfl) ?_
            refine lv_bipush (v := 8) hx hb dX0_feed_56 (by decide) ?_
            refine lv_iload hx hb dX0_feed_58 (lv_at hl 3 rfl) ?_
            refine lv_imul hx hb dX0_feed_60 ?_
            refine lv_asi (y := nI (8 * r1)) (nI_mul 8 r1) ?_
            refine lv_lshr (v := p1 >>> ((nI (8 * r1)).toInt64 &&& 63)) hx hb dX0_feed_61 rfl ?_
            refine lv_l2i (v := (p1 >>> ((nI (8 * r1)).toInt64 &&& 63)).toInt32) hx hb dX0_feed_62 rfl ?_
            refine lv_i2b (v := ((p1 >>> ((nI (8 * r1)).toInt64 &&& 63)).toInt32).toInt8.toInt32) hx hb dX0_feed_63 rfl ?_
            refine xs_7 X M (j := n8 + i) (vp_in_nI (by omega) (by omega)) (nI_clamp (by omega)) dX0_feed_64 (fun H locs M => ?_)
            refine lv_iinc (v := nI r1 - 1) (lv' := [(4, .int (nI r1 - 1)), (0, .ref h), (1, .long p1), (3, .int (nI n1))]) hx hb dX0_feed_65 hl (k := 3) rfl (mk_dec _) (by decide) rfl (fun ls hl => ?_)
            refine lv_goto (tgt := 35) hx hb dX0_feed_68 (by decide) ?_
            exact L_3ih  (i + 1) r1 (mset R1 7 (n8 + i) ((((p1 >>> ((nI (8 * r1)).toInt64 &&& 63)).toInt32).toInt8.toInt32).toInt8.toInt32)) (by omega) (by rw [itr_s, ← qR1, show n1 - 1 - i = r1 by omega]; rfl) (by omega) _ _ (by rw [up_up] at M; exact M) ls (lv_sub hl [1, 2, 3, 0] rfl)
      exact L_3 (n1 + 1) 0 n1 Rr (Nat.zero_add _) rfl (Nat.lt_succ_self _) _ _ (by rw [up_id (show F 8 = nI (n8 + 0) from en8)]; exact M) ls (lv_sub hl [1, 2, 3, 0] rfl)
    · -- c_2: nI (n8 + n1) > 400
      have ef : (400 : Int32) < nI (n8 + n1) := nI_lt (a := 400) c_2 (by omega)
      refine lv_ldc (v := (-1000003)) hx hb hown (hts _ q410) dX0_feed_27 ?_
      exact W.iret (v := (-1000003)) hx hb hr (fun t9 ht9 hW9 => ⟨⟨_, (F, Rr), rfl, (by simp [x_feed, up_s, up_n, nI_add, em8, ec8, en8, c_1, en1, c_2, ef]), ⟨by rw [ht9]; exact M.1, M.2.1, M.2.2.2⟩⟩, M.2.2.1.F ht9⟩) M.2.2.1.2.2 dX0_feed_29
  · -- c_1: inB 1 8 p3 = false
    refine lv_ldc (v := (-1000001)) hx hb hown (hts _ q234) dX0_feed_12 ?_
    exact W.iret (v := (-1000001)) hx hb hr (fun t9 ht9 hW9 => ⟨⟨_, (F, Rr), rfl, (by first | (simp [x_feed, em8, ec8, en8, c_1, up_s, up_n, nI_1, b2i]; done) | (simp_all [x_feed]; done) | grind [x_feed]), ⟨by rw [ht9]; exact M.1, M.2.1, M.2.2.2⟩⟩, M.2.2.1.F ht9⟩) M.2.2.1.2.2 dX0_feed_14

def x_roadOf (Rr : Nat → Nat → Int32) (a : Nat) (b : Int32) : Int32 := if nI a = b then 0 else if b = (-1000000) then Rr 12 (9 * a + 8) else Rr 12 (9 * a + b.toNatClampNeg)
def x_road (F : Nat → Int32) (Rr : Nat → Nat → Int32) (a b days : Int32) : Int32 × mST := if inB 0 7 a = false ∨ (¬ b = (-1000000) ∧ inB 0 7 b = false) ∨ a = b ∨ inB 1 60 days = false then ((-1000001), F, Rr) else if b = (-1000000) then (x_roadOf Rr a.toNatClampNeg b, F, mset Rr 12 (9 * a.toNatClampNeg + 8) days) else (x_roadOf Rr a.toNatClampNeg b, F, mset (mset Rr 12 (9 * a.toNatClampNeg + b.toNatClampNeg) days) 12 (9 * b.toNatClampNeg + a.toNatClampNeg) days)
set_option maxHeartbeats 4000000 in
set_option maxRecDepth 100000 in
theorem metX0_roadOf (l : Launch) (D : va_G) (dA : Nat → ClassId) (A : Nat → Prop) (e0 h : Nat) (G : xG) (T : va_W) (F : Nat → Int32) (Rr : Nat → Nat → Int32) (a1 : Nat) (p2 : Int32) (ha1 : a1 < 8) (hb2 : p2 = (-1000000) ∨ inB 0 7 p2 = true) : Met l yX0_roadOf (ws_ yX0_roadOf cX0_roadOf 3 (some .int)) ({ frames := 0, cells := 0, slots := 0, locals := 0 } : Room) (va_Pc [.ref h, .int (nI a1), .int p2] (xPre D dA A e0 h G T F Rr)) (vp_Si (fun r => r = x_roadOf Rr a1 p2)) 0 0 (fun _ => False) := by
  refine Met.ofW (cc := cX0_roadOf) (maxL := 3) (ret := (some .int)) (by decide) rfl ?_
  intro p e s m args below meth c s₁ B hml hv
  obtain ⟨rfl, hC, hP, hD, hI⟩ := hv
  have hx := B.exec
  have hb := B.bytes
  have hr := B.returns
  have hts := atoms_spec (ws := (ws_ yX0_roadOf cX0_roadOf 3 (some .int))) B.pre
  have hts : ∀ w ∈ lw_all, w.before _ s = true := fun w h => hts w (List.mem_cons_of_mem _ h)
  have hown : s.vm.findClass RX0 = some m.cls := findClass_of_methodNamed B.named
  have hlocks := B.notSynchronized
  have S : CallFix p m c cX0_roadOf 3 s ([.ref h, .int (nI a1), .int p2] : List Value).toArray lw_all RX0 := ⟨hx, hb, hml, hown, hts⟩
  have X : xX RX0 p s m ([.ref h, .int (nI a1), .int p2] : List Value).toArray c cX0_roadOf 3 D dA A e0 := ⟨S, hC⟩
  have M : xM D dA A e0 h G T s F Rr s.heap [] := ⟨hP, hD, va_S.rf, hI⟩
  have hl := lv_entry ([.ref h, .int (nI a1), .int p2]) (n := 3) (Nat.le_of_ble_eq_true rfl)
  rw [lg_entry_eq]
  generalize (lg_sl ([.ref h, .int (nI a1), .int p2]) ++ List.replicate (3 - (lg_sl ([.ref h, .int (nI a1), .int p2])).length) Slot.unset).toArray = ls at hl ⊢
  have hl : lv_has ls 3 [(0, .ref h), (1, .int (nI a1)), (2, .int p2)] := hl
  refine lv_iload_n hx hb dX0_roadOf_0 rfl (lv_at hl 1 rfl) ?_
  refine lv_iload_n hx hb dX0_roadOf_1 rfl (lv_at hl 2 rfl) ?_
  refine lv_icmp_ne (tgt := 9) hx hb dX0_roadOf_2 (by decide) (fun c_1 => ?_) (fun c_1 => ?_)
  · -- c_1: nI a1 ≠ p2
    refine lv_aload_n hx hb dX0_roadOf_9 rfl (lv_at hl 0 rfl) ?_
    refine xg_12 X M dX0_roadOf_10 ?_
    refine lv_bipush (v := 9) hx hb dX0_roadOf_13 (by decide) ?_
    refine lv_iload_n hx hb dX0_roadOf_15 rfl (lv_at hl 1 rfl) ?_
    refine lv_imul hx hb dX0_roadOf_16 ?_
    refine lv_asi (y := nI (9 * a1)) (nI_mul 9 a1) ?_
    refine lv_iload_n hx hb dX0_roadOf_17 rfl (lv_at hl 2 rfl) ?_
    refine lv_ldc (v := (-1000000)) hx hb hown (hts _ q147) dX0_roadOf_18 ?_
    refine lv_icmp_ne (tgt := 28) hx hb dX0_roadOf_20 (by decide) (fun c_2 => ?_) (fun c_2 => ?_)
    · -- c_2: p2 ≠ (-1000000)
      obtain ⟨b1, hb1, rfl⟩ := inB_ex (hb2.resolve_left c_2) (n := 7) rfl
      have eb1 : (nI b1).toNatClampNeg = b1 := nI_clamp (by omega)
      refine lv_iload_n hx hb dX0_roadOf_28 rfl (lv_at hl 2 rfl) ?_
      refine lv_iadd hx hb dX0_roadOf_29 ?_
      refine lv_asi (y := nI ((9 * a1) + b1)) (nI_add (9 * a1) b1) ?_
      refine xr_12 X M (f := Rr 12) rfl (j := (9 * a1) + b1) (vp_in_nI (by omega) (by omega)) (nI_clamp (by omega)) dX0_roadOf_30 ?_
      exact W.iret (v := Rr 12 ((9 * a1) + b1)) hx hb hr (fun t9 ht9 hW9 => ⟨_, rfl, (by first | (simp [x_roadOf, c_1, c_2, eb1, up_s, up_n, nI_1, b2i]; done) | (simp_all [x_roadOf]; done) | grind [x_roadOf]), ht9⟩) (fun _ h9 => by cases h9) dX0_roadOf_31
    · -- c_2: p2 = (-1000000)
      refine lv_bipush (v := 8) hx hb dX0_roadOf_23 (by decide) ?_
      refine lv_goto (tgt := 29) hx hb dX0_roadOf_25 (by decide) ?_
      refine lv_iadd hx hb dX0_roadOf_29 ?_
      refine lv_asi (y := nI ((9 * a1) + 8)) (nI_add (9 * a1) 8) ?_
      refine xr_12 X M (f := Rr 12) rfl (j := (9 * a1) + 8) (vp_in_nI (by omega) (by omega)) (nI_clamp (by omega)) dX0_roadOf_30 ?_
      exact W.iret (v := Rr 12 ((9 * a1) + 8)) hx hb hr (fun t9 ht9 hW9 => ⟨_, rfl, (by first | (simp [x_roadOf, c_1, c_2, up_s, up_n, nI_1, b2i]; done) | (simp_all [x_roadOf]; done) | grind [x_roadOf]), ht9⟩) (fun _ h9 => by cases h9) dX0_roadOf_31
  · -- c_1: nI a1 = p2
    refine lv_iconst (v := 0) hx hb dX0_roadOf_5 (by decide) ?_
    refine lv_goto (tgt := 31) hx hb dX0_roadOf_6 (by decide) ?_
    exact W.iret (v := 0) hx hb hr (fun t9 ht9 hW9 => ⟨_, rfl, (by first | (simp [x_roadOf, c_1, up_s, up_n, nI_1, b2i]; done) | (simp_all [x_roadOf]; done) | grind [x_roadOf]), ht9⟩) (fun _ h9 => by cases h9) dX0_roadOf_31

set_option maxHeartbeats 4000000 in
set_option maxRecDepth 100000 in
theorem metX0_road (l : Launch) (D : va_G) (dA : Nat → ClassId) (A : Nat → Prop) (e0 h : Nat) (G : xG) (T : va_W) (F : Nat → Int32) (Rr : Nat → Nat → Int32) (p1 : Int32) (p2 : Int32) (p3 : Int32) : Met l yX0_road (ws_ yX0_road cX0_road 5 (some .int)) ({ frames := 2, cells := 0, slots := 0, locals := 45 } : Room) (va_Pc [.ref h, .int p1, .int p2, .int p3] (xPre D dA A e0 h G T F Rr)) (va_Qi (fun r u => (r, u) = x_road F Rr p1 p2 p3) (xB0 D dA A e0 h G T) A) 0 0 A := by
  refine Met.ofW (cc := cX0_road) (maxL := 5) (ret := (some .int)) (by decide) rfl ?_
  intro p e s m args below meth c s₁ B hml hv
  obtain ⟨rfl, hC, hP, hD, hI⟩ := hv
  have hx := B.exec
  have hb := B.bytes
  have hr := B.returns
  have hts := atoms_spec (ws := (ws_ yX0_road cX0_road 5 (some .int))) B.pre
  have hts : ∀ w ∈ lw_all, w.before _ s = true := fun w h => hts w (List.mem_cons_of_mem _ h)
  have hown : s.vm.findClass RX0 = some m.cls := findClass_of_methodNamed B.named
  have hlocks := B.notSynchronized
  have S : CallFix p m c cX0_road 5 s ([.ref h, .int p1, .int p2, .int p3] : List Value).toArray lw_all RX0 := ⟨hx, hb, hml, hown, hts⟩
  have X : xX RX0 p s m ([.ref h, .int p1, .int p2, .int p3] : List Value).toArray c cX0_road 5 D dA A e0 := ⟨S, hC⟩
  have M : xM D dA A e0 h G T s F Rr s.heap [] := ⟨hP, hD, va_S.rf, hI⟩
  have hl := lv_entry ([.ref h, .int p1, .int p2, .int p3]) (n := 5) (Nat.le_of_ble_eq_true rfl)
  rw [lg_entry_eq]
  generalize (lg_sl ([.ref h, .int p1, .int p2, .int p3]) ++ List.replicate (5 - (lg_sl ([.ref h, .int p1, .int p2, .int p3])).length) Slot.unset).toArray = ls at hl ⊢
  have hl : lv_has ls 5 [(0, .ref h), (1, .int p1), (2, .int p2), (3, .int p3)] := hl
  refine lv_iload_n hx hb dX0_road_0 rfl (lv_at hl 1 rfl) ?_
  refine s_cI (v := b2i (inB 0 7 p1)) (As := [.int p1]) (rest := []) S (metX0_isTown l p1) (va_cwS 1 hts (lw_S q1034 q1035 q57 q1036) rfl rfl rfl (by decide +kernel) ⟨Nat.le_of_ble_eq_true rfl, Nat.le_of_ble_eq_true rfl⟩) rfl hl.1 rfl (Nat.le_of_ble_eq_true rfl) dX0_road_1 ⟨Nat.le_of_ble_eq_true rfl, Nat.le_of_ble_eq_true rfl⟩ ?_
  refine lz_if_eq (tgt := 37) hx hb dX0_road_4 (by decide) (fun c_1 => ?_) (fun c_1 => ?_)
  · -- c_1: inB 0 7 p1 = false
    refine lv_ldc (v := (-1000001)) hx hb hown (hts _ q234) dX0_road_37 ?_
    exact W.iret (v := (-1000001)) hx hb hr (fun t9 ht9 hW9 => ⟨⟨_, (F, Rr), rfl, (by first | (simp [x_road, c_1, up_s, up_n, nI_1, b2i]; done) | (simp_all [x_road]; done) | grind [x_road]), ⟨by rw [ht9]; exact M.1, M.2.1, M.2.2.2⟩⟩, M.2.2.1.F ht9⟩) M.2.2.1.2.2 dX0_road_39
  · -- c_1: inB 0 7 p1 = true
    obtain ⟨a1, ha1, rfl⟩ := inB_ex c_1 (n := 7) rfl
    have ea1 : (nI a1).toNatClampNeg = a1 := nI_clamp (by omega)
    refine lv_iload_n hx hb dX0_road_7 rfl (lv_at hl 2 rfl) ?_
    refine lv_ldc (v := (-1000000)) hx hb hown (hts _ q147) dX0_road_8 ?_
    refine lv_icmp_eq (tgt := 20) hx hb dX0_road_10 (by decide) (fun c_2 => ?_) (fun c_2 => ?_)
    · -- c_2: p2 = (-1000000)
      refine lv_iload_n hx hb dX0_road_20 rfl (lv_at hl 1 rfl) ?_
      refine lv_iload_n hx hb dX0_road_21 rfl (lv_at hl 2 rfl) ?_
      refine lv_icmp_eq (tgt := 37) hx hb dX0_road_22 (by decide) (fun c_3 => ?_) (fun c_3 => ?_)
      · -- c_3: nI a1 = p2
        refine lv_ldc (v := (-1000001)) hx hb hown (hts _ q234) dX0_road_37 ?_
        exact W.iret (v := (-1000001)) hx hb hr (fun t9 ht9 hW9 => ⟨⟨_, (F, Rr), rfl, (by first | (simp [x_road, c_1, ea1, c_2, c_3, up_s, up_n, nI_1, b2i]; done) | (simp_all [x_road]; done) | grind [x_road]), ⟨by rw [ht9]; exact M.1, M.2.1, M.2.2.2⟩⟩, M.2.2.1.F ht9⟩) M.2.2.1.2.2 dX0_road_39
      · -- c_3: nI a1 ≠ p2
        refine lv_iload_n hx hb dX0_road_25 rfl (lv_at hl 3 rfl) ?_
        refine lv_i2l (v := p3.toInt64) hx hb dX0_road_26 rfl ?_
        refine lv_lconst (v := 1) hx hb dX0_road_27 (by decide) ?_
        refine lv_ldc2 (v := 60) hx hb hown (hts _ q1037) dX0_road_28 ?_
        refine s_cI (v := b2i (inB 1 60 p3)) (As := [.long p3.toInt64, .long 1, .long 60]) (rest := []) S (metX0_isInI l p3 1 60 p3.toInt64 1 60 rfl rfl rfl) (va_cwS 3 hts (lw_S q230 q231 q57 q232) rfl rfl rfl (by decide +kernel) ⟨Nat.le_of_ble_eq_true rfl, Nat.le_of_ble_eq_true rfl⟩) rfl hl.1 rfl (Nat.le_of_ble_eq_true rfl) dX0_road_31 ⟨Nat.le_of_ble_eq_true rfl, Nat.le_of_ble_eq_true rfl⟩ ?_
        refine lz_if_ne (tgt := 40) hx hb dX0_road_34 (by decide) (fun c_4 => ?_) (fun c_4 => ?_)
        · -- c_4: inB 1 60 p3 = true
          refine lv_aload_n hx hb dX0_road_40 rfl (lv_at hl 0 rfl) ?_
          refine lv_iload_n hx hb dX0_road_41 rfl (lv_at hl 1 rfl) ?_
          refine lv_iload_n hx hb dX0_road_42 rfl (lv_at hl 2 rfl) ?_
          refine x_cQ (v := x_roadOf Rr a1 p2) (As := [.int (nI a1), .int p2]) (rest := []) X M (metX0_roadOf l D dA A e0 h G T F Rr a1 p2 (by omega) (Or.inl c_2)) (cwV 2 hts (lw_V q1038 q1040 qs19 q57 q1041) rfl rfl rfl (by decide +kernel) ⟨Nat.le_of_ble_eq_true rfl, Nat.le_of_ble_eq_true rfl⟩) rfl hl.1 rfl (Nat.le_of_ble_eq_true rfl) dX0_road_43 ⟨Nat.le_of_ble_eq_true rfl, Nat.le_of_ble_eq_true rfl⟩ ?_
          refine lv_istore (lv' := [(4, .int (x_roadOf Rr a1 p2)), (0, .ref h), (1, .int (nI a1)), (2, .int p2), (3, .int p3)]) hx hb dX0_road_46 hl (by decide) rfl (fun ls hl => ?_)
          refine lv_aload_n hx hb dX0_road_48 rfl (lv_at hl 1 rfl) ?_
          refine xg_12 X M dX0_road_49 ?_
          refine lv_bipush (v := 9) hx hb dX0_road_52 (by decide) ?_
          refine lv_iload_n hx hb dX0_road_54 rfl (lv_at hl 2 rfl) ?_
          refine lv_imul hx hb dX0_road_55 ?_
          refine lv_asi (y := nI (9 * a1)) (nI_mul 9 a1) ?_
          refine lv_iload_n hx hb dX0_road_56 rfl (lv_at hl 3 rfl) ?_
          refine lv_ldc (v := (-1000000)) hx hb hown (hts _ q147) dX0_road_57 ?_
          refine lv_icmp_ne (tgt := 67) hx hb dX0_road_59 (by decide) (fun c_5 => absurd c_2 c_5) (fun c_5 => ?_)
          refine lv_bipush (v := 8) hx hb dX0_road_62 (by decide) ?_
          refine lv_goto (tgt := 68) hx hb dX0_road_64 (by decide) ?_
          refine lv_iadd hx hb dX0_road_68 ?_
          refine lv_asi (y := nI ((9 * a1) + 8)) (nI_add (9 * a1) 8) ?_
          refine lv_iload_n hx hb dX0_road_69 rfl (lv_at hl 4 rfl) ?_
          refine xs_12 X M (j := (9 * a1) + 8) (vp_in_nI (by omega) (by omega)) (nI_clamp (by omega)) dX0_road_70 (fun H locs M => ?_)
          refine lv_iload_n hx hb dX0_road_71 rfl (lv_at hl 3 rfl) ?_
          refine lv_ldc (v := (-1000000)) hx hb hown (hts _ q147) dX0_road_72 ?_
          refine lv_icmp_eq (tgt := 89) hx hb dX0_road_74 (by decide) (fun c_6 => ?_) (fun c_6 => absurd c_2 c_6)
          refine lv_iload hx hb dX0_road_89 (lv_at hl 0 rfl) ?_
          exact W.iret (v := x_roadOf Rr a1 p2) hx hb hr (fun t9 ht9 hW9 => ⟨⟨_, (F, mset Rr 12 ((9 * a1) + 8) p3), rfl, (by first | (simp [x_road, c_1, ea1, c_2, c_3, c_4, up_s, up_n, nI_1, b2i]; done) | (simp_all [x_road]; done) | grind [x_road]), ⟨by rw [ht9]; exact M.1, M.2.1, M.2.2.2⟩⟩, M.2.2.1.F ht9⟩) M.2.2.1.2.2 dX0_road_91
        · -- c_4: inB 1 60 p3 = false
          refine lv_ldc (v := (-1000001)) hx hb hown (hts _ q234) dX0_road_37 ?_
          exact W.iret (v := (-1000001)) hx hb hr (fun t9 ht9 hW9 => ⟨⟨_, (F, Rr), rfl, (by first | (simp [x_road, c_1, ea1, c_2, c_3, c_4, up_s, up_n, nI_1, b2i]; done) | (simp_all [x_road]; done) | grind [x_road]), ⟨by rw [ht9]; exact M.1, M.2.1, M.2.2.2⟩⟩, M.2.2.1.F ht9⟩) M.2.2.1.2.2 dX0_road_39
    · -- c_2: p2 ≠ (-1000000)
      refine lv_iload_n hx hb dX0_road_13 rfl (lv_at hl 2 rfl) ?_
      refine s_cI (v := b2i (inB 0 7 p2)) (As := [.int p2]) (rest := []) S (metX0_isTown l p2) (va_cwS 1 hts (lw_S q1034 q1035 q57 q1036) rfl rfl rfl (by decide +kernel) ⟨Nat.le_of_ble_eq_true rfl, Nat.le_of_ble_eq_true rfl⟩) rfl hl.1 rfl (Nat.le_of_ble_eq_true rfl) dX0_road_14 ⟨Nat.le_of_ble_eq_true rfl, Nat.le_of_ble_eq_true rfl⟩ ?_
      refine lz_if_eq (tgt := 37) hx hb dX0_road_17 (by decide) (fun c_7 => ?_) (fun c_7 => ?_)
      · -- c_7: inB 0 7 p2 = false
        refine lv_ldc (v := (-1000001)) hx hb hown (hts _ q234) dX0_road_37 ?_
        exact W.iret (v := (-1000001)) hx hb hr (fun t9 ht9 hW9 => ⟨⟨_, (F, Rr), rfl, (by first | (simp [x_road, c_1, ea1, c_2, c_7, up_s, up_n, nI_1, b2i]; done) | (simp_all [x_road]; done) | grind [x_road]), ⟨by rw [ht9]; exact M.1, M.2.1, M.2.2.2⟩⟩, M.2.2.1.F ht9⟩) M.2.2.1.2.2 dX0_road_39
      · -- c_7: inB 0 7 p2 = true
        obtain ⟨b1, hb1, rfl⟩ := inB_ex c_7 (n := 7) rfl
        have eb1 : (nI b1).toNatClampNeg = b1 := nI_clamp (by omega)
        refine lv_iload_n hx hb dX0_road_20 rfl (lv_at hl 1 rfl) ?_
        refine lv_iload_n hx hb dX0_road_21 rfl (lv_at hl 2 rfl) ?_
        refine lv_icmp_eq (tgt := 37) hx hb dX0_road_22 (by decide) (fun c_8 => ?_) (fun c_8 => ?_)
        · -- c_8: nI a1 = nI b1
          refine lv_ldc (v := (-1000001)) hx hb hown (hts _ q234) dX0_road_37 ?_
          exact W.iret (v := (-1000001)) hx hb hr (fun t9 ht9 hW9 => ⟨⟨_, (F, Rr), rfl, (by first | (simp [x_road, c_1, ea1, c_2, c_7, eb1, c_8, up_s, up_n, nI_1, b2i]; done) | (simp_all [x_road]; done) | grind [x_road]), ⟨by rw [ht9]; exact M.1, M.2.1, M.2.2.2⟩⟩, M.2.2.1.F ht9⟩) M.2.2.1.2.2 dX0_road_39
        · -- c_8: nI a1 ≠ nI b1
          refine lv_iload_n hx hb dX0_road_25 rfl (lv_at hl 3 rfl) ?_
          refine lv_i2l (v := p3.toInt64) hx hb dX0_road_26 rfl ?_
          refine lv_lconst (v := 1) hx hb dX0_road_27 (by decide) ?_
          refine lv_ldc2 (v := 60) hx hb hown (hts _ q1037) dX0_road_28 ?_
          refine s_cI (v := b2i (inB 1 60 p3)) (As := [.long p3.toInt64, .long 1, .long 60]) (rest := []) S (metX0_isInI l p3 1 60 p3.toInt64 1 60 rfl rfl rfl) (va_cwS 3 hts (lw_S q230 q231 q57 q232) rfl rfl rfl (by decide +kernel) ⟨Nat.le_of_ble_eq_true rfl, Nat.le_of_ble_eq_true rfl⟩) rfl hl.1 rfl (Nat.le_of_ble_eq_true rfl) dX0_road_31 ⟨Nat.le_of_ble_eq_true rfl, Nat.le_of_ble_eq_true rfl⟩ ?_
          refine lz_if_ne (tgt := 40) hx hb dX0_road_34 (by decide) (fun c_9 => ?_) (fun c_9 => ?_)
          · -- c_9: inB 1 60 p3 = true
            refine lv_aload_n hx hb dX0_road_40 rfl (lv_at hl 0 rfl) ?_
            refine lv_iload_n hx hb dX0_road_41 rfl (lv_at hl 1 rfl) ?_
            refine lv_iload_n hx hb dX0_road_42 rfl (lv_at hl 2 rfl) ?_
            refine x_cQ (v := x_roadOf Rr a1 (nI b1)) (As := [.int (nI a1), .int (nI b1)]) (rest := []) X M (metX0_roadOf l D dA A e0 h G T F Rr a1 (nI b1) (by omega) (Or.inr (by first | assumption | exact inB_t.mpr ⟨nI_pos' (by omega), nI_le (b := 7) (by omega) (by decide)⟩))) (cwV 2 hts (lw_V q1038 q1040 qs19 q57 q1041) rfl rfl rfl (by decide +kernel) ⟨Nat.le_of_ble_eq_true rfl, Nat.le_of_ble_eq_true rfl⟩) rfl hl.1 rfl (Nat.le_of_ble_eq_true rfl) dX0_road_43 ⟨Nat.le_of_ble_eq_true rfl, Nat.le_of_ble_eq_true rfl⟩ ?_
            refine lv_istore (lv' := [(4, .int (x_roadOf Rr a1 (nI b1))), (0, .ref h), (1, .int (nI a1)), (2, .int (nI b1)), (3, .int p3)]) hx hb dX0_road_46 hl (by decide) rfl (fun ls hl => ?_)
            refine lv_aload_n hx hb dX0_road_48 rfl (lv_at hl 1 rfl) ?_
            refine xg_12 X M dX0_road_49 ?_
            refine lv_bipush (v := 9) hx hb dX0_road_52 (by decide) ?_
            refine lv_iload_n hx hb dX0_road_54 rfl (lv_at hl 2 rfl) ?_
            refine lv_imul hx hb dX0_road_55 ?_
            refine lv_asi (y := nI (9 * a1)) (nI_mul 9 a1) ?_
            refine lv_iload_n hx hb dX0_road_56 rfl (lv_at hl 3 rfl) ?_
            refine lv_ldc (v := (-1000000)) hx hb hown (hts _ q147) dX0_road_57 ?_
            refine lv_icmp_ne (tgt := 67) hx hb dX0_road_59 (by decide) (fun c_10 => ?_) (fun c_10 => absurd c_10 c_2)
            refine lv_iload_n hx hb dX0_road_67 rfl (lv_at hl 3 rfl) ?_
            refine lv_iadd hx hb dX0_road_68 ?_
            refine lv_asi (y := nI ((9 * a1) + b1)) (nI_add (9 * a1) b1) ?_
            refine lv_iload_n hx hb dX0_road_69 rfl (lv_at hl 4 rfl) ?_
            refine xs_12 X M (j := (9 * a1) + b1) (vp_in_nI (by omega) (by omega)) (nI_clamp (by omega)) dX0_road_70 (fun H locs M => ?_)
            refine lv_iload_n hx hb dX0_road_71 rfl (lv_at hl 3 rfl) ?_
            refine lv_ldc (v := (-1000000)) hx hb hown (hts _ q147) dX0_road_72 ?_
            refine lv_icmp_eq (tgt := 89) hx hb dX0_road_74 (by decide) (fun c_11 => absurd c_11 c_2) (fun c_11 => ?_)
            refine lv_aload_n hx hb dX0_road_77 rfl (lv_at hl 1 rfl) ?_
            refine xg_12 X M dX0_road_78 ?_
            refine lv_bipush (v := 9) hx hb dX0_road_81 (by decide) ?_
            refine lv_iload_n hx hb dX0_road_83 rfl (lv_at hl 3 rfl) ?_
            refine lv_imul hx hb dX0_road_84 ?_
            refine lv_asi (y := nI (9 * b1)) (nI_mul 9 b1) ?_
            refine lv_iload_n hx hb dX0_road_85 rfl (lv_at hl 2 rfl) ?_
            refine lv_iadd hx hb dX0_road_86 ?_
            refine lv_asi (y := nI ((9 * b1) + a1)) (nI_add (9 * b1) a1) ?_
            refine lv_iload_n hx hb dX0_road_87 rfl (lv_at hl 4 rfl) ?_
            refine xs_12 X M (j := (9 * b1) + a1) (vp_in_nI (by omega) (by omega)) (nI_clamp (by omega)) dX0_road_88 (fun H locs M => ?_)
            refine lv_iload hx hb dX0_road_89 (lv_at hl 0 rfl) ?_
            exact W.iret (v := x_roadOf Rr a1 (nI b1)) hx hb hr (fun t9 ht9 hW9 => ⟨⟨_, (F, mset (mset Rr 12 ((9 * a1) + b1) p3) 12 ((9 * b1) + a1) p3), rfl, (by first | (simp [x_road, c_1, ea1, c_2, c_7, eb1, c_8, c_9, up_s, up_n, nI_1, b2i]; done) | (simp_all [x_road]; done) | grind [x_road]), ⟨by rw [ht9]; exact M.1, M.2.1, M.2.2.2⟩⟩, M.2.2.1.F ht9⟩) M.2.2.1.2.2 dX0_road_91
          · -- c_9: inB 1 60 p3 = false
            refine lv_ldc (v := (-1000001)) hx hb hown (hts _ q234) dX0_road_37 ?_
            exact W.iret (v := (-1000001)) hx hb hr (fun t9 ht9 hW9 => ⟨⟨_, (F, Rr), rfl, (by first | (simp [x_road, c_1, ea1, c_2, c_7, eb1, c_8, c_9, up_s, up_n, nI_1, b2i]; done) | (simp_all [x_road]; done) | grind [x_road]), ⟨by rw [ht9]; exact M.1, M.2.1, M.2.2.2⟩⟩, M.2.2.1.F ht9⟩) M.2.2.1.2.2 dX0_road_39

def x_meets (a b lo hi : Int32) : Bool := decide (a ≤ hi) && decide (lo ≤ b)
set_option maxHeartbeats 4000000 in
set_option maxRecDepth 100000 in
theorem metX9_meets (l : Launch) (D : va_G) (dA : Nat → ClassId) (A : Nat → Prop) (e0 : Nat) (a : Nat) (v0 : Int32) (v1 : Int32) (v2 : Int32) (v3 : Int32) (lo : Int32) (hi : Int32) : Met l yX9_meets (ws_ yX9_meets cX9_meets 3 (some .boolean)) ({ frames := 0, cells := 0, slots := 0, locals := 0 } : Room) (va_Pc [.ref a, .int lo, .int hi] (fun U => xC D dA A e0 U ∧ va_P D xCl [(a, .inr (7, [.int v0, .int v1, .int v2, .int v3]))] U.heap)) (vp_Si (fun r => r = b2i (x_meets v2 v3 lo hi))) 0 0 (fun _ => False) := by
  refine Met.ofW (cc := cX9_meets) (maxL := 3) (ret := (some .boolean)) (by decide) rfl ?_
  intro p e s m args below meth c s₁ B hml hv
  obtain ⟨rfl, hC, hP⟩ := hv
  have hx := B.exec
  have hb := B.bytes
  have hr := B.returns
  have hts := atoms_spec (ws := (ws_ yX9_meets cX9_meets 3 (some .boolean))) B.pre
  have hts : ∀ w ∈ lw_all, w.before _ s = true := fun w h => hts w (List.mem_cons_of_mem _ h)
  have hown : s.vm.findClass RX9 = some m.cls := findClass_of_methodNamed B.named
  have hlocks := B.notSynchronized
  have S : CallFix p m c cX9_meets 3 s ([.ref a, .int lo, .int hi] : List Value).toArray lw_all RX9 := ⟨hx, hb, hml, hown, hts⟩
  have X : xX RX9 p s m ([.ref a, .int lo, .int hi] : List Value).toArray c cX9_meets 3 D dA A e0 := ⟨S, hC⟩
  have M : gQ D s [(a, .inr (7, [.int v0, .int v1, .int v2, .int v3]))] s.heap [] := ⟨hP, trivial⟩
  have hl := lv_entry ([.ref a, .int lo, .int hi]) (n := 3) (Nat.le_of_ble_eq_true rfl)
  rw [lg_entry_eq]
  generalize (lg_sl ([.ref a, .int lo, .int hi]) ++ List.replicate (3 - (lg_sl ([.ref a, .int lo, .int hi])).length) Slot.unset).toArray = ls at hl ⊢
  have hl : lv_has ls 3 [(0, .ref a), (1, .int lo), (2, .int hi)] := hl
  refine lv_aload_n hx hb dX9_meets_0 rfl (lv_at hl 0 rfl) ?_
  refine va_get (cl := xCl) (ci := 7) (fs := [.int v0, .int v1, .int v2, .int v3]) X.hx X.hb X.hts in_X9 X.ow X.K M.1 0 rfl rfl 2 (by decide) (X.hts _ q1056) (fun _ h9 => h9) rfl dX9_meets_1 ?_
  refine lv_iload_n hx hb dX9_meets_4 rfl (lv_at hl 2 rfl) ?_
  refine lb_icmp_gt (tgt := 20) hx hb dX9_meets_5 (by decide) (fun c_1 c_1' => ?_) (fun c_1 c_1' => ?_)
  · -- c_1: v2 > hi
    refine lv_iconst (v := 0) hx hb dX9_meets_20 (by decide) ?_
    exact W.zret (v := 0) hx hb hr rfl (fun t9 ht9 hW9 => ⟨_, rfl, (by simp [x_meets, b2i, c_1, c_1']), ht9⟩) (fun _ h9 => by cases h9) dX9_meets_21
  · -- c_1: v2 ≤ hi
    refine lv_aload_n hx hb dX9_meets_8 rfl (lv_at hl 0 rfl) ?_
    refine va_get (cl := xCl) (ci := 7) (fs := [.int v0, .int v1, .int v2, .int v3]) X.hx X.hb X.hts in_X9 X.ow X.K M.1 0 rfl rfl 3 (by decide) (X.hts _ q1057) (fun _ h9 => h9) rfl dX9_meets_9 ?_
    refine lv_iload_n hx hb dX9_meets_12 rfl (lv_at hl 1 rfl) ?_
    refine lb_icmp_lt (tgt := 20) hx hb dX9_meets_13 (by decide) (fun c_2 c_2' => ?_) (fun c_2 c_2' => ?_)
    · -- c_2: v3 < lo
      refine lv_iconst (v := 0) hx hb dX9_meets_20 (by decide) ?_
      exact W.zret (v := 0) hx hb hr rfl (fun t9 ht9 hW9 => ⟨_, rfl, (by simp [x_meets, b2i, c_1, c_1', c_2, c_2']), ht9⟩) (fun _ h9 => by cases h9) dX9_meets_21
    · -- c_2: v3 ≥ lo
      refine lv_iconst (v := 1) hx hb dX9_meets_16 (by decide) ?_
      refine lv_goto (tgt := 21) hx hb dX9_meets_17 (by decide) ?_
      exact W.zret (v := 1) hx hb hr rfl (fun t9 ht9 hW9 => ⟨_, rfl, (by simp [x_meets, b2i, c_1, c_1', c_2, c_2']), ht9⟩) (fun _ h9 => by cases h9) dX9_meets_21

def x_sickB (Rr : Nat → Nat → Int32) (town day : Int32) (k : Nat) : Bool := decide (Rr 130 k = town) && x_meets (Rr 132 k) (Rr 133 k) day day
def x_isSick (n : Int32) (Rr : Nat → Nat → Int32) (town day : Int32) : Bool := x_any (x_sickB Rr town day) n.toNatClampNeg
set_option maxHeartbeats 4000000 in
set_option maxRecDepth 100000 in
theorem metX0_isSick (l : Launch) (D : va_G) (dA : Nat → ClassId) (A : Nat → Prop) (e0 h : Nat) (G : xG) (T : va_W) (F : Nat → Int32) (Rr : Nat → Nat → Int32) (p1 : Int32) (p2 : Int32) : Met l yX0_isSick (ws_ yX0_isSick cX0_isSick 4 (some .boolean)) ({ frames := 3, cells := 0, slots := 0, locals := 64 } : Room) (va_Pc [.ref h, .int p1, .int p2] (xPre D dA A e0 h G T F Rr)) (vp_Si (fun r => r = b2i (x_isSick (F 13) Rr p1 p2))) 0 0 (fun _ => False) := by
  refine Met.ofW (cc := cX0_isSick) (maxL := 4) (ret := (some .boolean)) (by decide) rfl ?_
  intro p e s m args below meth c s₁ B hml hv
  obtain ⟨rfl, hC, hP, hD, hI⟩ := hv
  have hx := B.exec
  have hb := B.bytes
  have hr := B.returns
  have hts := atoms_spec (ws := (ws_ yX0_isSick cX0_isSick 4 (some .boolean))) B.pre
  have hts : ∀ w ∈ lw_all, w.before _ s = true := fun w h => hts w (List.mem_cons_of_mem _ h)
  have hown : s.vm.findClass RX0 = some m.cls := findClass_of_methodNamed B.named
  have hlocks := B.notSynchronized
  have S : CallFix p m c cX0_isSick 4 s ([.ref h, .int p1, .int p2] : List Value).toArray lw_all RX0 := ⟨hx, hb, hml, hown, hts⟩
  have X : xX RX0 p s m ([.ref h, .int p1, .int p2] : List Value).toArray c cX0_isSick 4 D dA A e0 := ⟨S, hC⟩
  have M : xM D dA A e0 h G T s F Rr s.heap [] := ⟨hP, hD, va_S.rf, hI⟩
  have hl := lv_entry ([.ref h, .int p1, .int p2]) (n := 4) (Nat.le_of_ble_eq_true rfl)
  rw [lg_entry_eq]
  generalize (lg_sl ([.ref h, .int p1, .int p2]) ++ List.replicate (4 - (lg_sl ([.ref h, .int p1, .int p2])).length) Slot.unset).toArray = ls at hl ⊢
  have hl : lv_has ls 4 [(0, .ref h), (1, .int p1), (2, .int p2)] := hl
  have h13 : cnB (F 13) 20 := hI.2.2.2.1.1
  obtain ⟨n13, hn13, en13⟩ := cnB_ex h13 (n := 20) rfl
  have em13 : (F 13).toNatClampNeg = n13 := by rw [en13]; exact nI_clamp (by omega)
  have ec13 : (nI n13).toNatClampNeg = n13 := nI_clamp (by omega)
  refine lv_iconst (v := 0) hx hb dX0_isSick_0 (by decide) ?_
  refine lv_istore_n (lv' := [(3, .int 0), (0, .ref h), (1, .int p1), (2, .int p2)]) hx hb dX0_isSick_1 rfl hl (by decide) rfl (fun ls hl => ?_)
  have L_1 : ∀ (fuL_1 : Nat) (i : Nat), (i ≤ n13) → (∀ j, j < i → x_sickB Rr p1 p2 j = false) → n13 - i < fuL_1 → ∀ ls, lv_has ls 4 [(0, .ref h), (1, .int p1), (2, .int p2), (3, .int (nI i))] → W p l e ({ frames := 3, cells := 0, slots := 0, locals := 64 } : Room) s m ([.ref h, .int p1, .int p2] : List Value).toArray below meth c s.heap [] 0 0 (MQ below (vp_Si (fun r => r = b2i (x_isSick (F 13) Rr p1 p2))) ([.ref h, .int p1, .int p2] : List Value).toArray s 0 0 (fun _ => False)) (F0 m 2 ls []) := by
    intro fuL_1
    induction fuL_1 with
    | zero => intro i hi hno hfuL_1; exact absurd hfuL_1 (Nat.not_lt_zero _)
    | succ fuL_1 L_1ih =>
      intro i hi hno hfuL_1 ls hl
      refine lv_iload_n hx hb dX0_isSick_2 rfl (lv_at hl 3 rfl) ?_
      refine lv_aload_n hx hb dX0_isSick_3 rfl (lv_at hl 0 rfl) ?_
      refine xg_13 X M dX0_isSick_4 ?_
      refine xl_size_13 X M (v := F 13) rfl hl.1 ⟨Nat.le_of_ble_eq_true rfl, Nat.le_of_ble_eq_true rfl⟩ ⟨Nat.le_of_ble_eq_true rfl, Nat.le_of_ble_eq_true rfl⟩ (Nat.le_of_ble_eq_true rfl) dX0_isSick_7 ?_
      refine lv_asi (y := nI n13) en13 ?_
      refine ln_icmp_ge (tgt := 64) hx hb (a := i) (b := n13) (by omega) (by omega) dX0_isSick_12 (by decide) (fun c_2 => ?_) (fun c_2 => ?_)
      · -- c_2: nI i ≥ nI n13
        have ei : i = n13 := by omega
        refine lv_iconst (v := 0) hx hb dX0_isSick_64 (by decide) ?_
        exact W.zret (v := 0) hx hb hr rfl (fun t9 ht9 hW9 => ⟨_, rfl, (by unfold x_isSick; rw [x_any_f _ (fun k hk => hno k (by omega))]; rfl), ht9⟩) (fun _ h9 => by cases h9) dX0_isSick_65
      · -- c_2: nI i < nI n13
        refine lv_aload_n hx hb dX0_isSick_15 rfl (lv_at hl 0 rfl) ?_
        refine xg_13 X M dX0_isSick_16 ?_
        refine lv_iload_n hx hb dX0_isSick_19 rfl (lv_at hl 3 rfl) ?_
        have k_3 : i < (F 13).toNatClampNeg := (by omega)
        refine xl_get_13 X M (k := i) rfl k_3 hl.1 ⟨Nat.le_of_ble_eq_true rfl, Nat.le_of_ble_eq_true rfl⟩ ⟨Nat.le_of_ble_eq_true rfl, Nat.le_of_ble_eq_true rfl⟩ (Nat.le_of_ble_eq_true rfl) dX0_isSick_20 ?_
        refine xk_13 X M (k := i) k_3 dX0_isSick_25 ?_
        refine xo_13_0 X M (k := i) k_3 dX0_isSick_28 ?_
        refine lv_iload_n hx hb dX0_isSick_31 rfl (lv_at hl 1 rfl) ?_
        refine lv_icmp_ne (tgt := 58) hx hb dX0_isSick_32 (by decide) (fun c_4 => ?_) (fun c_4 => ?_)
        · -- c_4: Rr 130 i ≠ p1
          refine lv_iinc (v := nI (i + 1)) (lv' := [(3, .int (nI (i + 1))), (0, .ref h), (1, .int p1), (2, .int p2)]) hx hb dX0_isSick_58 hl (k := 3) rfl (mk_inc _) (by decide) rfl (fun ls hl => ?_)
          refine lv_goto (tgt := 2) hx hb dX0_isSick_61 (by decide) ?_
          exact L_1ih  (i + 1) (by omega) (all_succF hno (by first | (simp [x_sickB, em13, ec13, c_2, c_4, up_s, up_n, nI_1, b2i]; done) | (simp_all [x_sickB]; done) | grind [x_sickB])) (by omega) ls (lv_sub hl [1, 2, 3, 0] rfl)
        · -- c_4: Rr 130 i = p1
          refine lv_aload_n hx hb dX0_isSick_35 rfl (lv_at hl 0 rfl) ?_
          refine xg_13 X M dX0_isSick_36 ?_
          refine lv_iload_n hx hb dX0_isSick_39 rfl (lv_at hl 3 rfl) ?_
          have k_5 : i < (F 13).toNatClampNeg := (by omega)
          refine xl_get_13 X M (k := i) rfl k_5 hl.1 ⟨Nat.le_of_ble_eq_true rfl, Nat.le_of_ble_eq_true rfl⟩ ⟨Nat.le_of_ble_eq_true rfl, Nat.le_of_ble_eq_true rfl⟩ (Nat.le_of_ble_eq_true rfl) dX0_isSick_40 ?_
          refine xk_13 X M (k := i) k_5 dX0_isSick_45 ?_
          refine lv_iload_n hx hb dX0_isSick_48 rfl (lv_at hl 2 rfl) ?_
          refine lv_iload_n hx hb dX0_isSick_49 rfl (lv_at hl 2 rfl) ?_
          refine x_cE (v := b2i (x_meets (Rr 132 i) (Rr 133 i) p2 p2)) (As := [.int p2, .int p2]) (rest := []) X M (xat_13 M k_5) rfl (metX9_meets l D dA A e0 (xea G 13 i) (Rr 130 i) (Rr 131 i) (Rr 132 i) (Rr 133 i) p2 p2) (cwV 2 hts (lw_V q1183 q1184 q1185 q87 q1186) rfl rfl rfl (by decide +kernel) ⟨Nat.le_of_ble_eq_true rfl, Nat.le_of_ble_eq_true rfl⟩) rfl hl.1 rfl (Nat.le_of_ble_eq_true rfl) dX0_isSick_50 ⟨Nat.le_of_ble_eq_true rfl, Nat.le_of_ble_eq_true rfl⟩ ?_
          refine lz_if_eq (tgt := 58) hx hb dX0_isSick_53 (by decide) (fun c_6 => ?_) (fun c_6 => ?_)
          · -- c_6: x_meets (Rr 132 i) (Rr 133 i) p2 p2 = false
            refine lv_iinc (v := nI (i + 1)) (lv' := [(3, .int (nI (i + 1))), (0, .ref h), (1, .int p1), (2, .int p2)]) hx hb dX0_isSick_58 hl (k := 3) rfl (mk_inc _) (by decide) rfl (fun ls hl => ?_)
            refine lv_goto (tgt := 2) hx hb dX0_isSick_61 (by decide) ?_
            exact L_1ih  (i + 1) (by omega) (all_succF hno (by first | (simp [x_sickB, em13, ec13, c_2, c_4, c_6, up_s, up_n, nI_1, b2i]; done) | (simp_all [x_sickB]; done) | grind [x_sickB])) (by omega) ls (lv_sub hl [1, 2, 3, 0] rfl)
          · -- c_6: x_meets (Rr 132 i) (Rr 133 i) p2 p2 = true
            refine lv_iconst (v := 1) hx hb dX0_isSick_56 (by decide) ?_
            exact W.zret (v := 1) hx hb hr rfl (fun t9 ht9 hW9 => ⟨_, rfl, (by unfold x_isSick; rw [x_any_t (k := i) (by simp [x_sickB, em13, ec13, c_2, c_4, c_6]) _ (by omega)]; rfl), ht9⟩) (fun _ h9 => by cases h9) dX0_isSick_57
  exact L_1 ((n13 - 0) + 1) 0 (by omega) (fun j hj => absurd hj (Nat.not_lt_zero j)) (Nat.lt_succ_self _) ls (lv_sub hl [1, 2, 3, 0] rfl)

def x_fgB (Rr : Nat → Nat → Int32) (p k : Nat) : Bool := decide (Rr 141 k = Rr 141 p) && !decide (Rr 142 k = Rr 142 p)
def x_isForged (n6 n13 : Int32) (Rr : Nat → Nat → Int32) (p : Nat) (day : Int32) : Bool := x_isSick n13 Rr (Rr 143 p) (Rr 144 p) || decide (x_law n6 Rr day 3 (Rr 143 p) 1 = 0) || x_any (x_fgB Rr p) p
set_option maxHeartbeats 4000000 in
set_option maxRecDepth 100000 in
theorem metX0_isForged (l : Launch) (D : va_G) (dA : Nat → ClassId) (A : Nat → Prop) (e0 h : Nat) (G : xG) (T : va_W) (F : Nat → Int32) (Rr : Nat → Nat → Int32) (c1 : Nat) (p2 : Int32) (hc1 : c1 < (F 14).toNatClampNeg) : Met l yX0_isForged (ws_ yX0_isForged cX0_isForged 5 (some .boolean)) ({ frames := 4, cells := 0, slots := 0, locals := 91 } : Room) (va_Pc [.ref h, .int (nI c1), .int p2] (xPre D dA A e0 h G T F Rr)) (vp_Si (fun r => r = b2i (x_isForged (F 6) (F 13) Rr c1 p2))) 0 0 (fun _ => False) := by
  refine Met.ofW (cc := cX0_isForged) (maxL := 5) (ret := (some .boolean)) (by decide) rfl ?_
  intro p e s m args below meth c s₁ B hml hv
  obtain ⟨rfl, hC, hP, hD, hI⟩ := hv
  have hx := B.exec
  have hb := B.bytes
  have hr := B.returns
  have hts := atoms_spec (ws := (ws_ yX0_isForged cX0_isForged 5 (some .boolean))) B.pre
  have hts : ∀ w ∈ lw_all, w.before _ s = true := fun w h => hts w (List.mem_cons_of_mem _ h)
  have hown : s.vm.findClass RX0 = some m.cls := findClass_of_methodNamed B.named
  have hlocks := B.notSynchronized
  have S : CallFix p m c cX0_isForged 5 s ([.ref h, .int (nI c1), .int p2] : List Value).toArray lw_all RX0 := ⟨hx, hb, hml, hown, hts⟩
  have X : xX RX0 p s m ([.ref h, .int (nI c1), .int p2] : List Value).toArray c cX0_isForged 5 D dA A e0 := ⟨S, hC⟩
  have M : xM D dA A e0 h G T s F Rr s.heap [] := ⟨hP, hD, va_S.rf, hI⟩
  have hl := lv_entry ([.ref h, .int (nI c1), .int p2]) (n := 5) (Nat.le_of_ble_eq_true rfl)
  rw [lg_entry_eq]
  generalize (lg_sl ([.ref h, .int (nI c1), .int p2]) ++ List.replicate (5 - (lg_sl ([.ref h, .int (nI c1), .int p2])).length) Slot.unset).toArray = ls at hl ⊢
  have hl : lv_has ls 5 [(0, .ref h), (1, .int (nI c1)), (2, .int p2)] := hl
  have h14 : cnB (F 14) 16 := hI.2.2.2.2.1.1
  obtain ⟨n14, hn14, en14⟩ := cnB_ex h14 (n := 16) rfl
  have em14 : (F 14).toNatClampNeg = n14 := by rw [en14]; exact nI_clamp (by omega)
  have ec14 : (nI n14).toNatClampNeg = n14 := nI_clamp (by omega)
  refine lv_aload_n hx hb dX0_isForged_0 rfl (lv_at hl 0 rfl) ?_
  refine xg_14 X M dX0_isForged_1 ?_
  refine lv_iload_n hx hb dX0_isForged_4 rfl (lv_at hl 1 rfl) ?_
  have k_1 : c1 < (F 14).toNatClampNeg := (by omega)
  refine xl_get_14 X M (k := c1) rfl k_1 hl.1 ⟨Nat.le_of_ble_eq_true rfl, Nat.le_of_ble_eq_true rfl⟩ ⟨Nat.le_of_ble_eq_true rfl, Nat.le_of_ble_eq_true rfl⟩ (Nat.le_of_ble_eq_true rfl) dX0_isForged_5 ?_
  refine xk_14 X M (k := c1) k_1 dX0_isForged_10 ?_
  refine lv_astore_n (lv' := [(3, .ref (xea G 14 c1)), (0, .ref h), (1, .int (nI c1)), (2, .int p2)]) hx hb dX0_isForged_13 rfl hl (by decide) rfl (fun ls hl => ?_)
  refine lv_aload_n hx hb dX0_isForged_14 rfl (lv_at hl 1 rfl) ?_
  refine lv_aload_n hx hb dX0_isForged_15 rfl (lv_at hl 0 rfl) ?_
  refine xo_14_3 X M (k := c1) k_1 dX0_isForged_16 ?_
  refine lv_aload_n hx hb dX0_isForged_19 rfl (lv_at hl 0 rfl) ?_
  refine xo_14_4 X M (k := c1) k_1 dX0_isForged_20 ?_
  refine x_cQ (v := b2i (x_isSick (F 13) Rr (Rr 143 c1) (Rr 144 c1))) (As := [.int (Rr 143 c1), .int (Rr 144 c1)]) (rest := []) X M (metX0_isSick l D dA A e0 h G T F Rr (Rr 143 c1) (Rr 144 c1)) (cwV 2 hts (lw_V q1179 q1181 qs23 q57 q1182) rfl rfl rfl (by decide +kernel) ⟨Nat.le_of_ble_eq_true rfl, Nat.le_of_ble_eq_true rfl⟩) rfl hl.1 rfl (Nat.le_of_ble_eq_true rfl) dX0_isForged_23 ⟨Nat.le_of_ble_eq_true rfl, Nat.le_of_ble_eq_true rfl⟩ ?_
  refine lz_if_ne (tgt := 43) hx hb dX0_isForged_26 (by decide) (fun c_2 => ?_) (fun c_2 => ?_)
  · -- c_2: x_isSick (F 13) Rr (Rr 143 c1) (Rr 144 c1) = true
    refine lv_iconst (v := 1) hx hb dX0_isForged_43 (by decide) ?_
    exact W.zret (v := 1) hx hb hr rfl (fun t9 ht9 hW9 => ⟨_, rfl, (by unfold x_isForged; simp [b2i, em14, ec14, c_2]), ht9⟩) (fun _ h9 => by cases h9) dX0_isForged_44
  · -- c_2: x_isSick (F 13) Rr (Rr 143 c1) (Rr 144 c1) = false
    refine lv_aload_n hx hb dX0_isForged_29 rfl (lv_at hl 1 rfl) ?_
    refine lv_iload_n hx hb dX0_isForged_30 rfl (lv_at hl 3 rfl) ?_
    refine lv_iconst (v := 3) hx hb dX0_isForged_31 (by decide) ?_
    refine lv_aload_n hx hb dX0_isForged_32 rfl (lv_at hl 0 rfl) ?_
    refine xo_14_3 X M (k := c1) k_1 dX0_isForged_33 ?_
    refine lv_iconst (v := 1) hx hb dX0_isForged_36 (by decide) ?_
    refine x_cQ (v := x_law (F 6) Rr p2 3 (Rr 143 c1) 1) (As := [.int p2, .int 3, .int (Rr 143 c1), .int 1]) (rest := []) X M (metX0_law l D dA A e0 h G T F Rr p2 3 (Rr 143 c1) 1) (cwV 4 hts (lw_V q827 q829 qs13 q57 q830) rfl rfl rfl (by decide +kernel) ⟨Nat.le_of_ble_eq_true rfl, Nat.le_of_ble_eq_true rfl⟩) rfl hl.1 rfl (Nat.le_of_ble_eq_true rfl) dX0_isForged_37 ⟨Nat.le_of_ble_eq_true rfl, Nat.le_of_ble_eq_true rfl⟩ ?_
    refine lv_if_ne (tgt := 45) hx hb dX0_isForged_40 (by decide) (fun c_3 => ?_) (fun c_3 => ?_)
    · -- c_3: x_law (F 6) Rr p2 3 (Rr 143 c1) 1 ≠ 0
      refine lv_iconst (v := 0) hx hb dX0_isForged_45 (by decide) ?_
      refine lv_istore (lv' := [(4, .int 0), (3, .ref (xea G 14 c1)), (0, .ref h), (1, .int (nI c1)), (2, .int p2)]) hx hb dX0_isForged_46 hl (by decide) rfl (fun ls hl => ?_)
      have L_4 : ∀ (fuL_4 : Nat) (i : Nat), (i ≤ c1) → (∀ j, j < i → x_fgB Rr c1 j = false) → c1 - i < fuL_4 → ∀ ls, lv_has ls 5 [(0, .ref h), (1, .int (nI c1)), (2, .int p2), (3, .ref (xea G 14 c1)), (4, .int (nI i))] → W p l e ({ frames := 4, cells := 0, slots := 0, locals := 91 } : Room) s m ([.ref h, .int (nI c1), .int p2] : List Value).toArray below meth c s.heap [] 0 0 (MQ below (vp_Si (fun r => r = b2i (x_isForged (F 6) (F 13) Rr c1 p2))) ([.ref h, .int (nI c1), .int p2] : List Value).toArray s 0 0 (fun _ => False)) (F0 m 48 ls []) := by
        intro fuL_4
        induction fuL_4 with
        | zero => intro i hi hno hfuL_4; exact absurd hfuL_4 (Nat.not_lt_zero _)
        | succ fuL_4 L_4ih =>
          intro i hi hno hfuL_4 ls hl
          refine lv_iload hx hb dX0_isForged_48 (lv_at hl 4 rfl) ?_
          refine lv_iload_n hx hb dX0_isForged_50 rfl (lv_at hl 1 rfl) ?_
          refine ln_icmp_ge (tgt := 110) hx hb (a := i) (b := c1) (by omega) (by omega) dX0_isForged_51 (by decide) (fun c_5 => ?_) (fun c_5 => ?_)
          · -- c_5: nI i ≥ nI c1
            have ei : i = c1 := by omega
            refine lv_iconst (v := 0) hx hb dX0_isForged_110 (by decide) ?_
            exact W.zret (v := 0) hx hb hr rfl (fun t9 ht9 hW9 => ⟨_, rfl, (by unfold x_isForged; rw [x_any_f _ (fun k hk => hno k (by omega))]; simp [b2i, em14, ec14, c_2, c_3, c_5]), ht9⟩) (fun _ h9 => by cases h9) dX0_isForged_111
          · -- c_5: nI i < nI c1
            refine lv_aload_n hx hb dX0_isForged_54 rfl (lv_at hl 0 rfl) ?_
            refine xg_14 X M dX0_isForged_55 ?_
            refine lv_iload hx hb dX0_isForged_58 (lv_at hl 4 rfl) ?_
            have k_6 : i < (F 14).toNatClampNeg := (by omega)
            refine xl_get_14 X M (k := i) rfl k_6 hl.1 ⟨Nat.le_of_ble_eq_true rfl, Nat.le_of_ble_eq_true rfl⟩ ⟨Nat.le_of_ble_eq_true rfl, Nat.le_of_ble_eq_true rfl⟩ (Nat.le_of_ble_eq_true rfl) dX0_isForged_60 ?_
            refine xk_14 X M (k := i) k_6 dX0_isForged_65 ?_
            refine xo_14_1 X M (k := i) k_6 dX0_isForged_68 ?_
            refine lv_aload_n hx hb dX0_isForged_71 rfl (lv_at hl 3 rfl) ?_
            refine xo_14_1 X M (k := c1) k_1 dX0_isForged_72 ?_
            refine lv_icmp_ne (tgt := 104) hx hb dX0_isForged_75 (by decide) (fun c_7 => ?_) (fun c_7 => ?_)
            · -- c_7: Rr 141 i ≠ Rr 141 c1
              refine lv_iinc (v := nI (i + 1)) (lv' := [(4, .int (nI (i + 1))), (0, .ref h), (1, .int (nI c1)), (2, .int p2), (3, .ref (xea G 14 c1))]) hx hb dX0_isForged_104 hl (k := 4) rfl (mk_inc _) (by decide) rfl (fun ls hl => ?_)
              refine lv_goto (tgt := 48) hx hb dX0_isForged_107 (by decide) ?_
              exact L_4ih  (i + 1) (by omega) (all_succF hno (by first | (simp [x_fgB, em14, ec14, c_2, c_3, c_5, c_7, up_s, up_n, nI_1, b2i]; done) | (simp_all [x_fgB]; done) | grind [x_fgB])) (by omega) ls (lv_sub hl [1, 2, 3, 4, 0] rfl)
            · -- c_7: Rr 141 i = Rr 141 c1
              refine lv_aload_n hx hb dX0_isForged_78 rfl (lv_at hl 0 rfl) ?_
              refine xg_14 X M dX0_isForged_79 ?_
              refine lv_iload hx hb dX0_isForged_82 (lv_at hl 4 rfl) ?_
              have k_8 : i < (F 14).toNatClampNeg := (by omega)
              refine xl_get_14 X M (k := i) rfl k_8 hl.1 ⟨Nat.le_of_ble_eq_true rfl, Nat.le_of_ble_eq_true rfl⟩ ⟨Nat.le_of_ble_eq_true rfl, Nat.le_of_ble_eq_true rfl⟩ (Nat.le_of_ble_eq_true rfl) dX0_isForged_84 ?_
              refine xk_14 X M (k := i) k_8 dX0_isForged_89 ?_
              refine xo_14_2 X M (k := i) k_8 dX0_isForged_92 ?_
              refine lv_aload_n hx hb dX0_isForged_95 rfl (lv_at hl 3 rfl) ?_
              refine xo_14_2 X M (k := c1) k_1 dX0_isForged_96 ?_
              refine lv_icmp_eq (tgt := 104) hx hb dX0_isForged_99 (by decide) (fun c_9 => ?_) (fun c_9 => ?_)
              · -- c_9: Rr 142 i = Rr 142 c1
                refine lv_iinc (v := nI (i + 1)) (lv' := [(4, .int (nI (i + 1))), (0, .ref h), (1, .int (nI c1)), (2, .int p2), (3, .ref (xea G 14 c1))]) hx hb dX0_isForged_104 hl (k := 4) rfl (mk_inc _) (by decide) rfl (fun ls hl => ?_)
                refine lv_goto (tgt := 48) hx hb dX0_isForged_107 (by decide) ?_
                exact L_4ih  (i + 1) (by omega) (all_succF hno (by first | (simp [x_fgB, em14, ec14, c_2, c_3, c_5, c_7, c_9, up_s, up_n, nI_1, b2i]; done) | (simp_all [x_fgB]; done) | grind [x_fgB])) (by omega) ls (lv_sub hl [1, 2, 3, 4, 0] rfl)
              · -- c_9: Rr 142 i ≠ Rr 142 c1
                refine lv_iconst (v := 1) hx hb dX0_isForged_102 (by decide) ?_
                exact W.zret (v := 1) hx hb hr rfl (fun t9 ht9 hW9 => ⟨_, rfl, (by unfold x_isForged; rw [x_any_t (k := i) (by simp [x_fgB, em14, ec14, c_2, c_3, c_5, c_7, c_9]) _ (by omega)]; simp [b2i]), ht9⟩) (fun _ h9 => by cases h9) dX0_isForged_103
      exact L_4 ((c1 - 0) + 1) 0 (by omega) (fun j hj => absurd hj (Nat.not_lt_zero j)) (Nat.lt_succ_self _) ls (lv_sub hl [2, 3, 4, 1, 0] rfl)
    · -- c_3: x_law (F 6) Rr p2 3 (Rr 143 c1) 1 = 0
      refine lv_iconst (v := 1) hx hb dX0_isForged_43 (by decide) ?_
      exact W.zret (v := 1) hx hb hr rfl (fun t9 ht9 hW9 => ⟨_, rfl, (by unfold x_isForged; simp [b2i, em14, ec14, c_2, c_3]), ht9⟩) (fun _ h9 => by cases h9) dX0_isForged_44

def x_mayS (Rr : Nat → Nat → Int32) (g : Nat) (k : Nat) (set : Int32) : Int32 := if Rr 151 k = nI g ∧ x_meets (Rr 152 k) (Rr 153 k) (Rr 16 g - 10) (Rr 16 g - 2) = true then set ||| ((1 : Int32) <<< (Rr 150 k &&& 31)) else set
def x_may (n15 : Int32) (Rr : Nat → Nat → Int32) (g : Nat) : Int32 := itr (x_mayS Rr g) n15.toNatClampNeg 0
set_option maxHeartbeats 4000000 in
set_option maxRecDepth 100000 in
theorem metX0_mayHave (l : Launch) (D : va_G) (dA : Nat → ClassId) (A : Nat → Prop) (e0 h : Nat) (G : xG) (T : va_W) (F : Nat → Int32) (Rr : Nat → Nat → Int32) (g1 : Nat) (hg1 : g1 < 8) : Met l yX0_mayHave (ws_ yX0_mayHave cX0_mayHave 5 (some .int)) ({ frames := 3, cells := 0, slots := 0, locals := 64 } : Room) (va_Pc [.ref h, .int (nI g1)] (xPre D dA A e0 h G T F Rr)) (vp_Si (fun r => r = x_may (F 15) Rr g1)) 0 0 (fun _ => False) := by
  refine Met.ofW (cc := cX0_mayHave) (maxL := 5) (ret := (some .int)) (by decide) rfl ?_
  intro p e s m args below meth c s₁ B hml hv
  obtain ⟨rfl, hC, hP, hD, hI⟩ := hv
  have hx := B.exec
  have hb := B.bytes
  have hr := B.returns
  have hts := atoms_spec (ws := (ws_ yX0_mayHave cX0_mayHave 5 (some .int))) B.pre
  have hts : ∀ w ∈ lw_all, w.before _ s = true := fun w h => hts w (List.mem_cons_of_mem _ h)
  have hown : s.vm.findClass RX0 = some m.cls := findClass_of_methodNamed B.named
  have hlocks := B.notSynchronized
  have S : CallFix p m c cX0_mayHave 5 s ([.ref h, .int (nI g1)] : List Value).toArray lw_all RX0 := ⟨hx, hb, hml, hown, hts⟩
  have X : xX RX0 p s m ([.ref h, .int (nI g1)] : List Value).toArray c cX0_mayHave 5 D dA A e0 := ⟨S, hC⟩
  have M : xM D dA A e0 h G T s F Rr s.heap [] := ⟨hP, hD, va_S.rf, hI⟩
  have hl := lv_entry ([.ref h, .int (nI g1)]) (n := 5) (Nat.le_of_ble_eq_true rfl)
  rw [lg_entry_eq]
  generalize (lg_sl ([.ref h, .int (nI g1)]) ++ List.replicate (5 - (lg_sl ([.ref h, .int (nI g1)])).length) Slot.unset).toArray = ls at hl ⊢
  have hl : lv_has ls 5 [(0, .ref h), (1, .int (nI g1))] := hl
  have h15 : cnB (F 15) 40 := hI.2.2.2.2.2.1.1
  obtain ⟨n15, hn15, en15⟩ := cnB_ex h15 (n := 40) rfl
  have em15 : (F 15).toNatClampNeg = n15 := by rw [en15]; exact nI_clamp (by omega)
  have ec15 : (nI n15).toNatClampNeg = n15 := nI_clamp (by omega)
  refine lv_iconst (v := 0) hx hb dX0_mayHave_0 (by decide) ?_
  refine lv_istore_n (lv' := [(2, .int 0), (0, .ref h), (1, .int (nI g1))]) hx hb dX0_mayHave_1 rfl hl (by decide) rfl (fun ls hl => ?_)
  refine lv_iconst (v := 0) hx hb dX0_mayHave_2 (by decide) ?_
  refine lv_istore_n (lv' := [(3, .int 0), (2, .int 0), (0, .ref h), (1, .int (nI g1))]) hx hb dX0_mayHave_3 rfl hl (by decide) rfl (fun ls hl => ?_)
  have L_1 : ∀ (fuL_1 : Nat) (i : Nat) (x : Int32), (i ≤ n15) → (x = itr (x_mayS Rr g1) i 0) → n15 - i < fuL_1 → ∀ ls, lv_has ls 5 [(0, .ref h), (1, .int (nI g1)), (2, .int x), (3, .int (nI i))] → W p l e ({ frames := 3, cells := 0, slots := 0, locals := 64 } : Room) s m ([.ref h, .int (nI g1)] : List Value).toArray below meth c s.heap [] 0 0 (MQ below (vp_Si (fun r => r = x_may (F 15) Rr g1)) ([.ref h, .int (nI g1)] : List Value).toArray s 0 0 (fun _ => False)) (F0 m 4 ls []) := by
    intro fuL_1
    induction fuL_1 with
    | zero => intro i x hi qx hfuL_1; exact absurd hfuL_1 (Nat.not_lt_zero _)
    | succ fuL_1 L_1ih =>
      intro i x hi qx hfuL_1 ls hl
      refine lv_iload_n hx hb dX0_mayHave_4 rfl (lv_at hl 3 rfl) ?_
      refine lv_aload_n hx hb dX0_mayHave_5 rfl (lv_at hl 0 rfl) ?_
      refine xg_15 X M dX0_mayHave_6 ?_
      refine xl_size_15 X M (v := F 15) rfl hl.1 ⟨Nat.le_of_ble_eq_true rfl, Nat.le_of_ble_eq_true rfl⟩ ⟨Nat.le_of_ble_eq_true rfl, Nat.le_of_ble_eq_true rfl⟩ (Nat.le_of_ble_eq_true rfl) dX0_mayHave_9 ?_
      refine lv_asi (y := nI n15) en15 ?_
      refine ln_icmp_ge (tgt := 82) hx hb (a := i) (b := n15) (by omega) (by omega) dX0_mayHave_14 (by decide) (fun c_2 => ?_) (fun c_2 => ?_)
      · -- c_2: nI i ≥ nI n15
        have ei : i = n15 := by omega
        rw [ei] at qx
        refine lv_iload_n hx hb dX0_mayHave_82 rfl (lv_at hl 2 rfl) ?_
        exact W.iret (v := x) hx hb hr (fun t9 ht9 hW9 => ⟨_, rfl, (by unfold x_may; rw [em15]; exact qx), ht9⟩) (fun _ h9 => by cases h9) dX0_mayHave_83
      · -- c_2: nI i < nI n15
        refine lv_aload_n hx hb dX0_mayHave_17 rfl (lv_at hl 0 rfl) ?_
        refine xg_15 X M dX0_mayHave_18 ?_
        refine lv_iload_n hx hb dX0_mayHave_21 rfl (lv_at hl 3 rfl) ?_
        have k_3 : i < (F 15).toNatClampNeg := (by omega)
        refine xl_get_15 X M (k := i) rfl k_3 hl.1 ⟨Nat.le_of_ble_eq_true rfl, Nat.le_of_ble_eq_true rfl⟩ ⟨Nat.le_of_ble_eq_true rfl, Nat.le_of_ble_eq_true rfl⟩ (Nat.le_of_ble_eq_true rfl) dX0_mayHave_22 ?_
        refine xk_15 X M (k := i) k_3 dX0_mayHave_27 ?_
        refine lv_astore (lv' := [(4, .ref (xea G 15 i)), (0, .ref h), (1, .int (nI g1)), (2, .int x), (3, .int (nI i))]) hx hb dX0_mayHave_30 hl (by decide) rfl (fun ls hl => ?_)
        refine lv_aload hx hb dX0_mayHave_32 (lv_at hl 0 rfl) ?_
        refine xo_15_1 X M (k := i) k_3 dX0_mayHave_34 ?_
        refine lv_iload_n hx hb dX0_mayHave_37 rfl (lv_at hl 2 rfl) ?_
        refine lv_icmp_ne (tgt := 76) hx hb dX0_mayHave_38 (by decide) (fun c_4 => ?_) (fun c_4 => ?_)
        · -- c_4: Rr 151 i ≠ nI g1
          refine lv_iinc (v := nI (i + 1)) (lv' := [(3, .int (nI (i + 1))), (4, .ref (xea G 15 i)), (0, .ref h), (1, .int (nI g1)), (2, .int x)]) hx hb dX0_mayHave_76 hl (k := 4) rfl (mk_inc _) (by decide) rfl (fun ls hl => ?_)
          refine lv_goto (tgt := 4) hx hb dX0_mayHave_79 (by decide) ?_
          exact L_1ih  (i + 1) x (by omega) (by first | (rw [itr_s, ← qx]; done) | (rw [itr_s, ← qx]; first | (simp [x_mayS, em15, ec15, c_2, c_4, up_s, up_n, nI_1, b2i]; done) | (simp_all [x_mayS]; done) | grind [x_mayS])) (by omega) ls (lv_sub hl [2, 3, 4, 0] rfl)
        · -- c_4: Rr 151 i = nI g1
          refine lv_aload hx hb dX0_mayHave_41 (lv_at hl 0 rfl) ?_
          refine lv_aload_n hx hb dX0_mayHave_43 rfl (lv_at hl 1 rfl) ?_
          refine xg_16 X M dX0_mayHave_44 ?_
          refine lv_iload_n hx hb dX0_mayHave_47 rfl (lv_at hl 2 rfl) ?_
          refine xr_16 X M (f := Rr 16) rfl (j := g1) (vp_in_nI (by omega) (by omega)) (nI_clamp (by omega)) dX0_mayHave_48 ?_
          refine lv_bipush (v := 10) hx hb dX0_mayHave_49 (by decide) ?_
          refine lv_isub hx hb dX0_mayHave_51 ?_
          refine lv_aload_n hx hb dX0_mayHave_52 rfl (lv_at hl 1 rfl) ?_
          refine xg_16 X M dX0_mayHave_53 ?_
          refine lv_iload_n hx hb dX0_mayHave_56 rfl (lv_at hl 2 rfl) ?_
          refine xr_16 X M (f := Rr 16) rfl (j := g1) (vp_in_nI (by omega) (by omega)) (nI_clamp (by omega)) dX0_mayHave_57 ?_
          refine lv_iconst (v := 2) hx hb dX0_mayHave_58 (by decide) ?_
          refine lv_isub hx hb dX0_mayHave_59 ?_
          refine x_cE (v := b2i (x_meets (Rr 152 i) (Rr 153 i) ((Rr 16 g1) - 10) ((Rr 16 g1) - 2))) (As := [.int ((Rr 16 g1) - 10), .int ((Rr 16 g1) - 2)]) (rest := []) X M (xat_15 M k_3) rfl (metX9_meets l D dA A e0 (xea G 15 i) (Rr 150 i) (Rr 151 i) (Rr 152 i) (Rr 153 i) ((Rr 16 g1) - 10) ((Rr 16 g1) - 2)) (cwV 2 hts (lw_V q1183 q1184 q1185 q87 q1186) rfl rfl rfl (by decide +kernel) ⟨Nat.le_of_ble_eq_true rfl, Nat.le_of_ble_eq_true rfl⟩) rfl hl.1 rfl (Nat.le_of_ble_eq_true rfl) dX0_mayHave_60 ⟨Nat.le_of_ble_eq_true rfl, Nat.le_of_ble_eq_true rfl⟩ ?_
          refine lz_if_eq (tgt := 76) hx hb dX0_mayHave_63 (by decide) (fun c_5 => ?_) (fun c_5 => ?_)
          · -- c_5: x_meets (Rr 152 i) (Rr 153 i) ((Rr 16 g1) - 10) ((Rr 16 g1) - 2) = false
            refine lv_iinc (v := nI (i + 1)) (lv' := [(3, .int (nI (i + 1))), (4, .ref (xea G 15 i)), (0, .ref h), (1, .int (nI g1)), (2, .int x)]) hx hb dX0_mayHave_76 hl (k := 4) rfl (mk_inc _) (by decide) rfl (fun ls hl => ?_)
            refine lv_goto (tgt := 4) hx hb dX0_mayHave_79 (by decide) ?_
            exact L_1ih  (i + 1) x (by omega) (by first | (rw [itr_s, ← qx]; done) | (rw [itr_s, ← qx]; first | (simp [x_mayS, em15, ec15, c_2, c_4, c_5, up_s, up_n, nI_1, b2i]; done) | (simp_all [x_mayS]; done) | grind [x_mayS])) (by omega) ls (lv_sub hl [2, 3, 4, 0] rfl)
          · -- c_5: x_meets (Rr 152 i) (Rr 153 i) ((Rr 16 g1) - 10) ((Rr 16 g1) - 2) = true
            refine lv_iload_n hx hb dX0_mayHave_66 rfl (lv_at hl 3 rfl) ?_
            refine lv_iconst (v := 1) hx hb dX0_mayHave_67 (by decide) ?_
            refine lv_aload hx hb dX0_mayHave_68 (lv_at hl 0 rfl) ?_
            refine xo_15_0 X M (k := i) k_3 dX0_mayHave_70 ?_
            refine lv_ishl hx hb dX0_mayHave_73 ?_
            refine lv_ior hx hb dX0_mayHave_74 ?_
            refine lv_istore_n (lv' := [(2, .int (x ||| (1 <<< ((Rr 150 i) &&& 31)))), (4, .ref (xea G 15 i)), (0, .ref h), (1, .int (nI g1)), (3, .int (nI i))]) hx hb dX0_mayHave_75 rfl hl (by decide) rfl (fun ls hl => ?_)
            refine lv_iinc (v := nI (i + 1)) (lv' := [(3, .int (nI (i + 1))), (2, .int (x ||| (1 <<< ((Rr 150 i) &&& 31)))), (4, .ref (xea G 15 i)), (0, .ref h), (1, .int (nI g1))]) hx hb dX0_mayHave_76 hl (k := 4) rfl (mk_inc _) (by decide) rfl (fun ls hl => ?_)
            refine lv_goto (tgt := 4) hx hb dX0_mayHave_79 (by decide) ?_
            exact L_1ih  (i + 1) (x ||| (1 <<< ((Rr 150 i) &&& 31))) (by omega) (by first | (rw [itr_s, ← qx]; done) | (rw [itr_s, ← qx]; first | (simp [x_mayS, em15, ec15, c_2, c_4, c_5, up_s, up_n, nI_1, b2i]; done) | (simp_all [x_mayS]; done) | grind [x_mayS])) (by omega) ls (lv_sub hl [3, 4, 1, 0] rfl)
  exact L_1 ((n15 - 0) + 1) 0 0 (Nat.zero_le _) (by first | rfl | (simp only [itr]; assumption) | (simp [itr, em15, ec15, up_s, up_n, nI_1, b2i]; done)) (Nat.lt_succ_self _) ls (lv_sub hl [2, 3, 1, 0] rfl)

def x_badB (n15 : Int32) (Rr : Nat → Nat → Int32) (set : Int32) (k : Nat) : Bool := !decide (Rr 16 k = (-1000000)) && decide (x_may n15 Rr k &&& set = 0)
def x_isAll (n15 : Int32) (Rr : Nat → Nat → Int32) (set : Int32) : Bool := !x_any (x_badB n15 Rr set) 8
set_option maxHeartbeats 4000000 in
set_option maxRecDepth 100000 in
theorem metX0_isAll (l : Launch) (D : va_G) (dA : Nat → ClassId) (A : Nat → Prop) (e0 h : Nat) (G : xG) (T : va_W) (F : Nat → Int32) (Rr : Nat → Nat → Int32) (p1 : Int32) : Met l yX0_isAll (ws_ yX0_isAll cX0_isAll 3 (some .boolean)) ({ frames := 4, cells := 0, slots := 0, locals := 88 } : Room) (va_Pc [.ref h, .int p1] (xPre D dA A e0 h G T F Rr)) (vp_Si (fun r => r = b2i (x_isAll (F 15) Rr p1))) 0 0 (fun _ => False) := by
  refine Met.ofW (cc := cX0_isAll) (maxL := 3) (ret := (some .boolean)) (by decide) rfl ?_
  intro p e s m args below meth c s₁ B hml hv
  obtain ⟨rfl, hC, hP, hD, hI⟩ := hv
  have hx := B.exec
  have hb := B.bytes
  have hr := B.returns
  have hts := atoms_spec (ws := (ws_ yX0_isAll cX0_isAll 3 (some .boolean))) B.pre
  have hts : ∀ w ∈ lw_all, w.before _ s = true := fun w h => hts w (List.mem_cons_of_mem _ h)
  have hown : s.vm.findClass RX0 = some m.cls := findClass_of_methodNamed B.named
  have hlocks := B.notSynchronized
  have S : CallFix p m c cX0_isAll 3 s ([.ref h, .int p1] : List Value).toArray lw_all RX0 := ⟨hx, hb, hml, hown, hts⟩
  have X : xX RX0 p s m ([.ref h, .int p1] : List Value).toArray c cX0_isAll 3 D dA A e0 := ⟨S, hC⟩
  have M : xM D dA A e0 h G T s F Rr s.heap [] := ⟨hP, hD, va_S.rf, hI⟩
  have hl := lv_entry ([.ref h, .int p1]) (n := 3) (Nat.le_of_ble_eq_true rfl)
  rw [lg_entry_eq]
  generalize (lg_sl ([.ref h, .int p1]) ++ List.replicate (3 - (lg_sl ([.ref h, .int p1])).length) Slot.unset).toArray = ls at hl ⊢
  have hl : lv_has ls 3 [(0, .ref h), (1, .int p1)] := hl
  refine lv_iconst (v := 0) hx hb dX0_isAll_0 (by decide) ?_
  refine lv_istore_n (lv' := [(2, .int 0), (0, .ref h), (1, .int p1)]) hx hb dX0_isAll_1 rfl hl (by decide) rfl (fun ls hl => ?_)
  have L_1 : ∀ (fuL_1 : Nat) (i : Nat), (i ≤ 8) → (∀ j, j < i → x_badB (F 15) Rr p1 j = false) → 8 - i < fuL_1 → ∀ ls, lv_has ls 3 [(0, .ref h), (1, .int p1), (2, .int (nI i))] → W p l e ({ frames := 4, cells := 0, slots := 0, locals := 88 } : Room) s m ([.ref h, .int p1] : List Value).toArray below meth c s.heap [] 0 0 (MQ below (vp_Si (fun r => r = b2i (x_isAll (F 15) Rr p1))) ([.ref h, .int p1] : List Value).toArray s 0 0 (fun _ => False)) (F0 m 2 ls []) := by
    intro fuL_1
    induction fuL_1 with
    | zero => intro i hi hno hfuL_1; exact absurd hfuL_1 (Nat.not_lt_zero _)
    | succ fuL_1 L_1ih =>
      intro i hi hno hfuL_1 ls hl
      refine lv_iload_n hx hb dX0_isAll_2 rfl (lv_at hl 2 rfl) ?_
      refine lv_bipush (v := 8) hx hb dX0_isAll_3 (by decide) ?_
      refine ln_icmp_ge (tgt := 37) hx hb (a := i) (b := 8) (by omega) (by omega) dX0_isAll_5 (by decide) (fun c_2 => ?_) (fun c_2 => ?_)
      · -- c_2: nI i ≥ 8
        have ei : i = 8 := by omega
        refine lv_iconst (v := 1) hx hb dX0_isAll_37 (by decide) ?_
        exact W.zret (v := 1) hx hb hr rfl (fun t9 ht9 hW9 => ⟨_, rfl, (by unfold x_isAll; rw [x_any_f _ (fun k hk => hno k (by omega))]; rfl), ht9⟩) (fun _ h9 => by cases h9) dX0_isAll_38
      · -- c_2: nI i < 8
        refine lv_aload_n hx hb dX0_isAll_8 rfl (lv_at hl 0 rfl) ?_
        refine xg_16 X M dX0_isAll_9 ?_
        refine lv_iload_n hx hb dX0_isAll_12 rfl (lv_at hl 2 rfl) ?_
        refine xr_16 X M (f := Rr 16) rfl (j := i) (vp_in_nI (by omega) (by omega)) (nI_clamp (by omega)) dX0_isAll_13 ?_
        refine lv_ldc (v := (-1000000)) hx hb hown (hts _ q147) dX0_isAll_14 ?_
        refine lv_icmp_eq (tgt := 31) hx hb dX0_isAll_16 (by decide) (fun c_3 => ?_) (fun c_3 => ?_)
        · -- c_3: Rr 16 i = (-1000000)
          refine lv_iinc (v := nI (i + 1)) (lv' := [(2, .int (nI (i + 1))), (0, .ref h), (1, .int p1)]) hx hb dX0_isAll_31 hl (k := 2) rfl (mk_inc _) (by decide) rfl (fun ls hl => ?_)
          refine lv_goto (tgt := 2) hx hb dX0_isAll_34 (by decide) ?_
          exact L_1ih  (i + 1) (by omega) (all_succF hno (by first | (simp [x_badB, c_2, c_3, up_s, up_n, nI_1, b2i]; done) | (simp_all [x_badB]; done) | grind [x_badB])) (by omega) ls (lv_sub hl [1, 2, 0] rfl)
        · -- c_3: Rr 16 i ≠ (-1000000)
          refine lv_aload_n hx hb dX0_isAll_19 rfl (lv_at hl 0 rfl) ?_
          refine lv_iload_n hx hb dX0_isAll_20 rfl (lv_at hl 2 rfl) ?_
          refine x_cQ (v := x_may (F 15) Rr i) (As := [.int (nI i)]) (rest := []) X M (metX0_mayHave l D dA A e0 h G T F Rr i (by omega)) (cwV 1 hts (lw_V q1252 q1254 qs24 q57 q1255) rfl rfl rfl (by decide +kernel) ⟨Nat.le_of_ble_eq_true rfl, Nat.le_of_ble_eq_true rfl⟩) rfl hl.1 rfl (Nat.le_of_ble_eq_true rfl) dX0_isAll_21 ⟨Nat.le_of_ble_eq_true rfl, Nat.le_of_ble_eq_true rfl⟩ ?_
          refine lv_iload_n hx hb dX0_isAll_24 rfl (lv_at hl 1 rfl) ?_
          refine lv_iand hx hb dX0_isAll_25 ?_
          refine lv_if_ne (tgt := 31) hx hb dX0_isAll_26 (by decide) (fun c_4 => ?_) (fun c_4 => ?_)
          · -- c_4: (x_may (F 15) Rr i) &&& p1 ≠ 0
            refine lv_iinc (v := nI (i + 1)) (lv' := [(2, .int (nI (i + 1))), (0, .ref h), (1, .int p1)]) hx hb dX0_isAll_31 hl (k := 2) rfl (mk_inc _) (by decide) rfl (fun ls hl => ?_)
            refine lv_goto (tgt := 2) hx hb dX0_isAll_34 (by decide) ?_
            exact L_1ih  (i + 1) (by omega) (all_succF hno (by first | (simp [x_badB, c_2, c_3, c_4, up_s, up_n, nI_1, b2i]; done) | (simp_all [x_badB]; done) | grind [x_badB])) (by omega) ls (lv_sub hl [1, 2, 0] rfl)
          · -- c_4: (x_may (F 15) Rr i) &&& p1 = 0
            refine lv_iconst (v := 0) hx hb dX0_isAll_29 (by decide) ?_
            exact W.zret (v := 0) hx hb hr rfl (fun t9 ht9 hW9 => ⟨_, rfl, (by unfold x_isAll; rw [x_any_t (k := i) (by simp [x_badB, c_2, c_3, c_4]) _ (by omega)]; rfl), ht9⟩) (fun _ h9 => by cases h9) dX0_isAll_30
  exact L_1 ((8 - 0) + 1) 0 (by omega) (fun j hj => absurd hj (Nat.not_lt_zero j)) (Nat.lt_succ_self _) ls (lv_sub hl [1, 2, 0] rfl)

def x_brcS (Rr : Nat → Nat → Int32) (g : Nat) (set : Int32) : Int32 := set ||| (if Rr 17 g - 2 ≤ Rr 18 g ∧ Rr 17 g - 4 ≤ Rr 19 g then (1 : Int32) <<< (nI g &&& 31) else 0)
def x_breaches (Rr : Nat → Nat → Int32) : Int32 := itr (x_brcS Rr) 12 0
set_option maxHeartbeats 4000000 in
set_option maxRecDepth 100000 in
theorem metX0_breaches (l : Launch) (D : va_G) (dA : Nat → ClassId) (A : Nat → Prop) (e0 h : Nat) (G : xG) (T : va_W) (F : Nat → Int32) (Rr : Nat → Nat → Int32) : Met l yX0_breaches (ws_ yX0_breaches cX0_breaches 3 (some .int)) ({ frames := 0, cells := 0, slots := 0, locals := 0 } : Room) (va_Pc [.ref h] (xPre D dA A e0 h G T F Rr)) (vp_Si (fun r => r = x_breaches Rr)) 0 0 (fun _ => False) := by
  refine Met.ofW (cc := cX0_breaches) (maxL := 3) (ret := (some .int)) (by decide) rfl ?_
  intro p e s m args below meth c s₁ B hml hv
  obtain ⟨rfl, hC, hP, hD, hI⟩ := hv
  have hx := B.exec
  have hb := B.bytes
  have hr := B.returns
  have hts := atoms_spec (ws := (ws_ yX0_breaches cX0_breaches 3 (some .int))) B.pre
  have hts : ∀ w ∈ lw_all, w.before _ s = true := fun w h => hts w (List.mem_cons_of_mem _ h)
  have hown : s.vm.findClass RX0 = some m.cls := findClass_of_methodNamed B.named
  have hlocks := B.notSynchronized
  have S : CallFix p m c cX0_breaches 3 s ([.ref h] : List Value).toArray lw_all RX0 := ⟨hx, hb, hml, hown, hts⟩
  have X : xX RX0 p s m ([.ref h] : List Value).toArray c cX0_breaches 3 D dA A e0 := ⟨S, hC⟩
  have M : xM D dA A e0 h G T s F Rr s.heap [] := ⟨hP, hD, va_S.rf, hI⟩
  have hl := lv_entry ([.ref h]) (n := 3) (Nat.le_of_ble_eq_true rfl)
  rw [lg_entry_eq]
  generalize (lg_sl ([.ref h]) ++ List.replicate (3 - (lg_sl ([.ref h])).length) Slot.unset).toArray = ls at hl ⊢
  have hl : lv_has ls 3 [(0, .ref h)] := hl
  refine lv_iconst (v := 0) hx hb dX0_breaches_0 (by decide) ?_
  refine lv_istore_n (lv' := [(1, .int 0), (0, .ref h)]) hx hb dX0_breaches_1 rfl hl (by decide) rfl (fun ls hl => ?_)
  refine lv_iconst (v := 0) hx hb dX0_breaches_2 (by decide) ?_
  refine lv_istore_n (lv' := [(2, .int 0), (1, .int 0), (0, .ref h)]) hx hb dX0_breaches_3 rfl hl (by decide) rfl (fun ls hl => ?_)
  have L_1 : ∀ (fuL_1 : Nat) (i : Nat) (a : Int32), (i ≤ 12) → (a = itr (x_brcS Rr) i 0) → 12 - i < fuL_1 → ∀ ls, lv_has ls 3 [(0, .ref h), (1, .int a), (2, .int (nI i))] → W p l e ({ frames := 0, cells := 0, slots := 0, locals := 0 } : Room) s m ([.ref h] : List Value).toArray below meth c s.heap [] 0 0 (MQ below (vp_Si (fun r => r = x_breaches Rr)) ([.ref h] : List Value).toArray s 0 0 (fun _ => False)) (F0 m 4 ls []) := by
    intro fuL_1
    induction fuL_1 with
    | zero => intro i a hi qa hfuL_1; exact absurd hfuL_1 (Nat.not_lt_zero _)
    | succ fuL_1 L_1ih =>
      intro i a hi qa hfuL_1 ls hl
      refine lv_iload_n hx hb dX0_breaches_4 rfl (lv_at hl 2 rfl) ?_
      refine lv_bipush (v := 12) hx hb dX0_breaches_5 (by decide) ?_
      refine ln_icmp_ge (tgt := 60) hx hb (a := i) (b := 12) (by omega) (by omega) dX0_breaches_7 (by decide) (fun c_2 => ?_) (fun c_2 => ?_)
      · -- c_2: nI i ≥ 12
        have ei : i = 12 := by omega
        rw [ei] at qa
        refine lv_iload_n hx hb dX0_breaches_60 rfl (lv_at hl 1 rfl) ?_
        exact W.iret (v := a) hx hb hr (fun t9 ht9 hW9 => ⟨_, rfl, (by unfold x_breaches; exact qa), ht9⟩) (fun _ h9 => by cases h9) dX0_breaches_61
      · -- c_2: nI i < 12
        refine lv_iload_n hx hb dX0_breaches_10 rfl (lv_at hl 1 rfl) ?_
        refine lv_aload_n hx hb dX0_breaches_11 rfl (lv_at hl 0 rfl) ?_
        refine xg_18 X M dX0_breaches_12 ?_
        refine lv_iload_n hx hb dX0_breaches_15 rfl (lv_at hl 2 rfl) ?_
        refine xr_18 X M (f := Rr 18) rfl (j := i) (vp_in_nI (by omega) (by omega)) (nI_clamp (by omega)) dX0_breaches_16 ?_
        refine lv_aload_n hx hb dX0_breaches_17 rfl (lv_at hl 0 rfl) ?_
        refine xg_17 X M dX0_breaches_18 ?_
        refine lv_iload_n hx hb dX0_breaches_21 rfl (lv_at hl 2 rfl) ?_
        refine xr_17 X M (f := Rr 17) rfl (j := i) (vp_in_nI (by omega) (by omega)) (nI_clamp (by omega)) dX0_breaches_22 ?_
        refine lv_iconst (v := 2) hx hb dX0_breaches_23 (by decide) ?_
        refine lv_isub hx hb dX0_breaches_24 ?_
        refine lb_icmp_lt (tgt := 51) hx hb dX0_breaches_25 (by decide) (fun c_3 c_3' => ?_) (fun c_3 c_3' => ?_)
        · -- c_3: Rr 18 i < (Rr 17 i) - 2
          refine lv_iconst (v := 0) hx hb dX0_breaches_51 (by decide) ?_
          refine lv_ior hx hb dX0_breaches_52 ?_
          refine lv_istore_n (lv' := [(1, .int (a ||| 0)), (0, .ref h), (2, .int (nI i))]) hx hb dX0_breaches_53 rfl hl (by decide) rfl (fun ls hl => ?_)
          refine lv_iinc (v := nI (i + 1)) (lv' := [(2, .int (nI (i + 1))), (1, .int (a ||| 0)), (0, .ref h)]) hx hb dX0_breaches_54 hl (k := 2) rfl (mk_inc _) (by decide) rfl (fun ls hl => ?_)
          refine lv_goto (tgt := 4) hx hb dX0_breaches_57 (by decide) ?_
          exact L_1ih  (i + 1) (a ||| 0) (by omega) (by first | (rw [itr_s, ← qa]; done) | (rw [itr_s, ← qa]; first | (simp [x_brcS, c_2, c_3, c_3', up_s, up_n, nI_1, b2i]; done) | (simp_all [x_brcS]; done) | grind [x_brcS])) (by omega) ls (lv_sub hl [2, 1, 0] rfl)
        · -- c_3: Rr 18 i ≥ (Rr 17 i) - 2
          refine lv_aload_n hx hb dX0_breaches_28 rfl (lv_at hl 0 rfl) ?_
          refine xg_19 X M dX0_breaches_29 ?_
          refine lv_iload_n hx hb dX0_breaches_32 rfl (lv_at hl 2 rfl) ?_
          refine xr_19 X M (f := Rr 19) rfl (j := i) (vp_in_nI (by omega) (by omega)) (nI_clamp (by omega)) dX0_breaches_33 ?_
          refine lv_aload_n hx hb dX0_breaches_34 rfl (lv_at hl 0 rfl) ?_
          refine xg_17 X M dX0_breaches_35 ?_
          refine lv_iload_n hx hb dX0_breaches_38 rfl (lv_at hl 2 rfl) ?_
          refine xr_17 X M (f := Rr 17) rfl (j := i) (vp_in_nI (by omega) (by omega)) (nI_clamp (by omega)) dX0_breaches_39 ?_
          refine lv_iconst (v := 4) hx hb dX0_breaches_40 (by decide) ?_
          refine lv_isub hx hb dX0_breaches_41 ?_
          refine lb_icmp_lt (tgt := 51) hx hb dX0_breaches_42 (by decide) (fun c_4 c_4' => ?_) (fun c_4 c_4' => ?_)
          · -- c_4: Rr 19 i < (Rr 17 i) - 4
            refine lv_iconst (v := 0) hx hb dX0_breaches_51 (by decide) ?_
            refine lv_ior hx hb dX0_breaches_52 ?_
            refine lv_istore_n (lv' := [(1, .int (a ||| 0)), (0, .ref h), (2, .int (nI i))]) hx hb dX0_breaches_53 rfl hl (by decide) rfl (fun ls hl => ?_)
            refine lv_iinc (v := nI (i + 1)) (lv' := [(2, .int (nI (i + 1))), (1, .int (a ||| 0)), (0, .ref h)]) hx hb dX0_breaches_54 hl (k := 2) rfl (mk_inc _) (by decide) rfl (fun ls hl => ?_)
            refine lv_goto (tgt := 4) hx hb dX0_breaches_57 (by decide) ?_
            exact L_1ih  (i + 1) (a ||| 0) (by omega) (by first | (rw [itr_s, ← qa]; done) | (rw [itr_s, ← qa]; first | (simp [x_brcS, c_2, c_3, c_3', c_4, c_4', up_s, up_n, nI_1, b2i]; done) | (simp_all [x_brcS]; done) | grind [x_brcS])) (by omega) ls (lv_sub hl [2, 1, 0] rfl)
          · -- c_4: Rr 19 i ≥ (Rr 17 i) - 4
            refine lv_iconst (v := 1) hx hb dX0_breaches_45 (by decide) ?_
            refine lv_iload_n hx hb dX0_breaches_46 rfl (lv_at hl 2 rfl) ?_
            refine lv_ishl hx hb dX0_breaches_47 ?_
            refine lv_goto (tgt := 52) hx hb dX0_breaches_48 (by decide) ?_
            refine lv_ior hx hb dX0_breaches_52 ?_
            refine lv_istore_n (lv' := [(1, .int (a ||| (1 <<< ((nI i) &&& 31)))), (0, .ref h), (2, .int (nI i))]) hx hb dX0_breaches_53 rfl hl (by decide) rfl (fun ls hl => ?_)
            refine lv_iinc (v := nI (i + 1)) (lv' := [(2, .int (nI (i + 1))), (1, .int (a ||| (1 <<< ((nI i) &&& 31)))), (0, .ref h)]) hx hb dX0_breaches_54 hl (k := 2) rfl (mk_inc _) (by decide) rfl (fun ls hl => ?_)
            refine lv_goto (tgt := 4) hx hb dX0_breaches_57 (by decide) ?_
            exact L_1ih  (i + 1) (a ||| (1 <<< ((nI i) &&& 31))) (by omega) (by first | (rw [itr_s, ← qa]; done) | (rw [itr_s, ← qa]; first | (simp [x_brcS, c_2, c_3, c_3', c_4, c_4', up_s, up_n, nI_1, b2i]; done) | (simp_all [x_brcS]; done) | grind [x_brcS])) (by omega) ls (lv_sub hl [2, 1, 0] rfl)
  exact L_1 ((12 - 0) + 1) 0 0 (Nat.zero_le _) (by first | rfl | (simp only [itr]; assumption) | (simp [itr, up_s, up_n, nI_1, b2i]; done)) (Nat.lt_succ_self _) ls (lv_sub hl [2, 1, 0] rfl)

def x_duskAt (Rr : Nat → Nat → Int32) (x y minute pace : Int32) (k : Nat) : Int32 := minute + (x_abs (x - Rr 4 k) + x_abs (y - Rr 5 k)) * pace / 100
def x_duskS (Rr : Nat → Nat → Int32) (x y minute pace : Int32) (k : Nat) (b : Int32 × Int32) : Int32 × Int32 := if Rr 2 k ≤ x_duskAt Rr x y minute pace k then b else if ¬ b.1 = (-1000000) ∧ b.2 ≤ x_max (x_duskAt Rr x y minute pace k) (Rr 1 k) then b else (nI k, x_max (x_duskAt Rr x y minute pace k) (Rr 1 k))
def x_dusk (Rr : Nat → Nat → Int32) (x y minute pace : Int32) : Int32 := if (inB 0 999 x && inB 0 999 y) = false ∨ inB 0 1439 minute = false ∨ inB 1 60 pace = false then (-1000001) else (itr (x_duskS Rr x y minute pace) 9 ((-1000000), 0)).1
set_option maxHeartbeats 4000000 in
set_option maxRecDepth 100000 in
theorem metX0_dusk (l : Launch) (D : va_G) (dA : Nat → ClassId) (A : Nat → Prop) (e0 h : Nat) (G : xG) (T : va_W) (F : Nat → Int32) (Rr : Nat → Nat → Int32) (p1 : Int32) (p2 : Int32) (p3 : Int32) (p4 : Int32) : Met l yX0_dusk (ws_ yX0_dusk cX0_dusk 9 (some .int)) ({ frames := 2, cells := 0, slots := 0, locals := 46 } : Room) (va_Pc [.ref h, .int p1, .int p2, .int p3, .int p4] (xPre D dA A e0 h G T F Rr)) (vp_Si (fun r => r = x_dusk Rr p1 p2 p3 p4)) 0 0 (fun _ => False) := by
  refine Met.ofW (cc := cX0_dusk) (maxL := 9) (ret := (some .int)) (by decide) rfl ?_
  intro p e s m args below meth c s₁ B hml hv
  obtain ⟨rfl, hC, hP, hD, hI⟩ := hv
  have hx := B.exec
  have hb := B.bytes
  have hr := B.returns
  have hts := atoms_spec (ws := (ws_ yX0_dusk cX0_dusk 9 (some .int))) B.pre
  have hts : ∀ w ∈ lw_all, w.before _ s = true := fun w h => hts w (List.mem_cons_of_mem _ h)
  have hown : s.vm.findClass RX0 = some m.cls := findClass_of_methodNamed B.named
  have hlocks := B.notSynchronized
  have S : CallFix p m c cX0_dusk 9 s ([.ref h, .int p1, .int p2, .int p3, .int p4] : List Value).toArray lw_all RX0 := ⟨hx, hb, hml, hown, hts⟩
  have X : xX RX0 p s m ([.ref h, .int p1, .int p2, .int p3, .int p4] : List Value).toArray c cX0_dusk 9 D dA A e0 := ⟨S, hC⟩
  have M : xM D dA A e0 h G T s F Rr s.heap [] := ⟨hP, hD, va_S.rf, hI⟩
  have hl := lv_entry ([.ref h, .int p1, .int p2, .int p3, .int p4]) (n := 9) (Nat.le_of_ble_eq_true rfl)
  rw [lg_entry_eq]
  generalize (lg_sl ([.ref h, .int p1, .int p2, .int p3, .int p4]) ++ List.replicate (9 - (lg_sl ([.ref h, .int p1, .int p2, .int p3, .int p4])).length) Slot.unset).toArray = ls at hl ⊢
  have hl : lv_has ls 9 [(0, .ref h), (1, .int p1), (2, .int p2), (3, .int p3), (4, .int p4)] := hl
  refine lv_iload_n hx hb dX0_dusk_0 rfl (lv_at hl 1 rfl) ?_
  refine lv_iload_n hx hb dX0_dusk_1 rfl (lv_at hl 2 rfl) ?_
  refine s_cI (v := b2i (inB 0 999 p1 && inB 0 999 p2)) (As := [.int p1, .int p2]) (rest := []) S (metX0_isPlace l p1 p2) (va_cwS 2 hts (lw_S q402 q403 q57 q404) rfl rfl rfl (by decide +kernel) ⟨Nat.le_of_ble_eq_true rfl, Nat.le_of_ble_eq_true rfl⟩) rfl hl.1 rfl (Nat.le_of_ble_eq_true rfl) dX0_dusk_2 ⟨Nat.le_of_ble_eq_true rfl, Nat.le_of_ble_eq_true rfl⟩ ?_
  refine lz_if_eq (tgt := 28) hx hb dX0_dusk_5 (by decide) (fun c_1 => ?_) (fun c_1 => ?_)
  · -- c_1: inB 0 999 p1 && inB 0 999 p2 = false
    refine lv_ldc (v := (-1000001)) hx hb hown (hts _ q234) dX0_dusk_28 ?_
    exact W.iret (v := (-1000001)) hx hb hr (fun t9 ht9 hW9 => ⟨_, rfl, (by first | (simp [x_dusk, c_1, up_s, up_n, nI_1, b2i]; done) | (simp_all [x_dusk]; done) | grind [x_dusk]), ht9⟩) (fun _ h9 => by cases h9) dX0_dusk_30
  · -- c_1: inB 0 999 p1 && inB 0 999 p2 = true
    refine lv_iload_n hx hb dX0_dusk_8 rfl (lv_at hl 3 rfl) ?_
    refine s_cI (v := b2i (inB 0 1439 p3)) (As := [.int p3]) (rest := []) S (metX0_isMinute l p3) (va_cwS 1 hts (lw_S q868 q869 q57 q870) rfl rfl rfl (by decide +kernel) ⟨Nat.le_of_ble_eq_true rfl, Nat.le_of_ble_eq_true rfl⟩) rfl hl.1 rfl (Nat.le_of_ble_eq_true rfl) dX0_dusk_9 ⟨Nat.le_of_ble_eq_true rfl, Nat.le_of_ble_eq_true rfl⟩ ?_
    refine lz_if_eq (tgt := 28) hx hb dX0_dusk_12 (by decide) (fun c_2 => ?_) (fun c_2 => ?_)
    · -- c_2: inB 0 1439 p3 = false
      refine lv_ldc (v := (-1000001)) hx hb hown (hts _ q234) dX0_dusk_28 ?_
      exact W.iret (v := (-1000001)) hx hb hr (fun t9 ht9 hW9 => ⟨_, rfl, (by first | (simp [x_dusk, c_1, c_2, up_s, up_n, nI_1, b2i]; done) | (simp_all [x_dusk]; done) | grind [x_dusk]), ht9⟩) (fun _ h9 => by cases h9) dX0_dusk_30
    · -- c_2: inB 0 1439 p3 = true
      refine lv_iload hx hb dX0_dusk_15 (lv_at hl 4 rfl) ?_
      refine lv_i2l (v := p4.toInt64) hx hb dX0_dusk_17 rfl ?_
      refine lv_lconst (v := 1) hx hb dX0_dusk_18 (by decide) ?_
      refine lv_ldc2 (v := 60) hx hb hown (hts _ q1037) dX0_dusk_19 ?_
      refine s_cI (v := b2i (inB 1 60 p4)) (As := [.long p4.toInt64, .long 1, .long 60]) (rest := []) S (metX0_isInI l p4 1 60 p4.toInt64 1 60 rfl rfl rfl) (va_cwS 3 hts (lw_S q230 q231 q57 q232) rfl rfl rfl (by decide +kernel) ⟨Nat.le_of_ble_eq_true rfl, Nat.le_of_ble_eq_true rfl⟩) rfl hl.1 rfl (Nat.le_of_ble_eq_true rfl) dX0_dusk_22 ⟨Nat.le_of_ble_eq_true rfl, Nat.le_of_ble_eq_true rfl⟩ ?_
      refine lz_if_ne (tgt := 31) hx hb dX0_dusk_25 (by decide) (fun c_3 => ?_) (fun c_3 => ?_)
      · -- c_3: inB 1 60 p4 = true
        refine lv_ldc (v := (-1000000)) hx hb hown (hts _ q147) dX0_dusk_31 ?_
        refine lv_istore (lv' := [(5, .int (-1000000)), (0, .ref h), (1, .int p1), (2, .int p2), (3, .int p3), (4, .int p4)]) hx hb dX0_dusk_33 hl (by decide) rfl (fun ls hl => ?_)
        refine lv_iconst (v := 0) hx hb dX0_dusk_35 (by decide) ?_
        refine lv_istore (lv' := [(6, .int 0), (5, .int (-1000000)), (0, .ref h), (1, .int p1), (2, .int p2), (3, .int p3), (4, .int p4)]) hx hb dX0_dusk_36 hl (by decide) rfl (fun ls hl => ?_)
        refine lv_iconst (v := 0) hx hb dX0_dusk_38 (by decide) ?_
        refine lv_istore (lv' := [(7, .int 0), (6, .int 0), (5, .int (-1000000)), (0, .ref h), (1, .int p1), (2, .int p2), (3, .int p3), (4, .int p4)]) hx hb dX0_dusk_39 hl (by decide) rfl (fun ls hl => ?_)
        have L_4 : ∀ (fuL_4 : Nat) (i : Nat) (x : Int32) (y : Int32), (i ≤ 9) → ((x, y) = itr (x_duskS Rr p1 p2 p3 p4) i (-1000000, 0)) → 9 - i < fuL_4 → ∀ ls, lv_has ls 9 [(0, .ref h), (1, .int p1), (2, .int p2), (3, .int p3), (4, .int p4), (5, .int x), (6, .int y), (7, .int (nI i))] → W p l e ({ frames := 2, cells := 0, slots := 0, locals := 46 } : Room) s m ([.ref h, .int p1, .int p2, .int p3, .int p4] : List Value).toArray below meth c s.heap [] 0 0 (MQ below (vp_Si (fun r => r = x_dusk Rr p1 p2 p3 p4)) ([.ref h, .int p1, .int p2, .int p3, .int p4] : List Value).toArray s 0 0 (fun _ => False)) (F0 m 41 ls []) := by
          intro fuL_4
          induction fuL_4 with
          | zero => intro i x y hi qxy hfuL_4; exact absurd hfuL_4 (Nat.not_lt_zero _)
          | succ fuL_4 L_4ih =>
            intro i x y hi qxy hfuL_4 ls hl
            refine lv_iload hx hb dX0_dusk_41 (lv_at hl 7 rfl) ?_
            refine lv_bipush (v := 9) hx hb dX0_dusk_43 (by decide) ?_
            refine ln_icmp_ge (tgt := 143) hx hb (a := i) (b := 9) (by omega) (by omega) dX0_dusk_45 (by decide) (fun c_5 => ?_) (fun c_5 => ?_)
            · -- c_5: nI i ≥ 9
              have ei : i = 9 := by omega
              rw [ei] at qxy
              refine lv_iload hx hb dX0_dusk_143 (lv_at hl 5 rfl) ?_
              exact W.iret (v := x) hx hb hr (fun t9 ht9 hW9 => ⟨_, rfl, (by simp [x_dusk, c_1, c_2, c_3, c_5, ← qxy]), ht9⟩) (fun _ h9 => by cases h9) dX0_dusk_145
            · -- c_5: nI i < 9
              refine lv_iload_n hx hb dX0_dusk_48 rfl (lv_at hl 3 rfl) ?_
              refine lv_iload_n hx hb dX0_dusk_49 rfl (lv_at hl 1 rfl) ?_
              refine lv_aload_n hx hb dX0_dusk_50 rfl (lv_at hl 0 rfl) ?_
              refine xg_4 X M dX0_dusk_51 ?_
              refine lv_iload hx hb dX0_dusk_54 (lv_at hl 7 rfl) ?_
              refine xr_4 X M (f := Rr 4) rfl (j := i) (vp_in_nI (by omega) (by omega)) (nI_clamp (by omega)) dX0_dusk_56 ?_
              refine lv_isub hx hb dX0_dusk_57 ?_
              refine va_mabs (x := p1 - (Rr 4 i)) (rest := [.int p3]) hx hb (by rw [hml]; exact hl.1.symm) hown (hts _ q1160) (hts _ q1161) (hts _ q77) (hts _ q1162) (Nat.le_of_ble_eq_true rfl) (Nat.le_of_ble_eq_true rfl) (Nat.le_of_ble_eq_true rfl) (Nat.le_of_ble_eq_true rfl) dX0_dusk_58 ?_
              refine lv_asi (y := x_abs (p1 - (Rr 4 i))) rfl ?_
              refine lv_iload_n hx hb dX0_dusk_61 rfl (lv_at hl 2 rfl) ?_
              refine lv_aload_n hx hb dX0_dusk_62 rfl (lv_at hl 0 rfl) ?_
              refine xg_5 X M dX0_dusk_63 ?_
              refine lv_iload hx hb dX0_dusk_66 (lv_at hl 7 rfl) ?_
              refine xr_5 X M (f := Rr 5) rfl (j := i) (vp_in_nI (by omega) (by omega)) (nI_clamp (by omega)) dX0_dusk_68 ?_
              refine lv_isub hx hb dX0_dusk_69 ?_
              refine va_mabs (x := p2 - (Rr 5 i)) (rest := [.int (x_abs (p1 - (Rr 4 i))), .int p3]) hx hb (by rw [hml]; exact hl.1.symm) hown (hts _ q1160) (hts _ q1161) (hts _ q77) (hts _ q1162) (Nat.le_of_ble_eq_true rfl) (Nat.le_of_ble_eq_true rfl) (Nat.le_of_ble_eq_true rfl) (Nat.le_of_ble_eq_true rfl) dX0_dusk_70 ?_
              refine lv_asi (y := x_abs (p2 - (Rr 5 i))) rfl ?_
              refine lv_iadd hx hb dX0_dusk_73 ?_
              refine lv_iload hx hb dX0_dusk_74 (lv_at hl 4 rfl) ?_
              refine lv_imul hx hb dX0_dusk_76 ?_
              refine lv_bipush (v := 100) hx hb dX0_dusk_77 (by decide) ?_
              refine lv_idiv hx hb dX0_dusk_79 (by decide) ?_
              refine lv_iadd hx hb dX0_dusk_80 ?_
              refine lv_istore (lv' := [(8, .int (p3 + ((((x_abs (p1 - (Rr 4 i))) + (x_abs (p2 - (Rr 5 i)))) * p4) / 100))), (0, .ref h), (1, .int p1), (2, .int p2), (3, .int p3), (4, .int p4), (5, .int x), (6, .int y), (7, .int (nI i))]) hx hb dX0_dusk_81 hl (by decide) rfl (fun ls hl => ?_)
              refine lv_iload hx hb dX0_dusk_83 (lv_at hl 0 rfl) ?_
              refine lv_aload_n hx hb dX0_dusk_85 rfl (lv_at hl 1 rfl) ?_
              refine xg_2 X M dX0_dusk_86 ?_
              refine lv_iload hx hb dX0_dusk_89 (lv_at hl 8 rfl) ?_
              refine xr_2 X M (f := Rr 2) rfl (j := i) (vp_in_nI (by omega) (by omega)) (nI_clamp (by omega)) dX0_dusk_91 ?_
              refine lb_icmp_lt (tgt := 98) hx hb dX0_dusk_92 (by decide) (fun c_6 c_6' => ?_) (fun c_6 c_6' => ?_)
              · -- c_6: p3 + ((((x_abs (p1 - (Rr 4 i))) + (x_abs (p2 - (Rr 5 i)))) * p4) / 100) < Rr 2 i
                refine lv_iload hx hb dX0_dusk_98 (lv_at hl 0 rfl) ?_
                refine lv_aload_n hx hb dX0_dusk_100 rfl (lv_at hl 1 rfl) ?_
                refine xg_1 X M dX0_dusk_101 ?_
                refine lv_iload hx hb dX0_dusk_104 (lv_at hl 8 rfl) ?_
                refine xr_1 X M (f := Rr 1) rfl (j := i) (vp_in_nI (by omega) (by omega)) (nI_clamp (by omega)) dX0_dusk_106 ?_
                refine va_mmax (x := p3 + ((((x_abs (p1 - (Rr 4 i))) + (x_abs (p2 - (Rr 5 i)))) * p4) / 100)) (y := Rr 1 i) (rest := []) hx hb (by rw [hml]; exact hl.1.symm) hown (hts _ q1220) (hts _ q530) (hts _ q77) (hts _ q531) (Nat.le_of_ble_eq_true rfl) (Nat.le_of_ble_eq_true rfl) (Nat.le_of_ble_eq_true rfl) (Nat.le_of_ble_eq_true rfl) dX0_dusk_107 ?_
                refine lv_asi (y := x_max (p3 + ((((x_abs (p1 - (Rr 4 i))) + (x_abs (p2 - (Rr 5 i)))) * p4) / 100)) (Rr 1 i)) rfl ?_
                refine lv_istore (lv' := [(8, .int (x_max (p3 + ((((x_abs (p1 - (Rr 4 i))) + (x_abs (p2 - (Rr 5 i)))) * p4) / 100)) (Rr 1 i))), (0, .ref h), (1, .int p1), (2, .int p2), (3, .int p3), (4, .int p4), (5, .int x), (6, .int y), (7, .int (nI i))]) hx hb dX0_dusk_110 hl (by decide) rfl (fun ls hl => ?_)
                refine lv_iload hx hb dX0_dusk_112 (lv_at hl 6 rfl) ?_
                refine lv_ldc (v := (-1000000)) hx hb hown (hts _ q147) dX0_dusk_114 ?_
                refine lv_icmp_eq (tgt := 129) hx hb dX0_dusk_116 (by decide) (fun c_7 => ?_) (fun c_7 => ?_)
                · -- c_7: x = (-1000000)
                  refine lv_iload hx hb dX0_dusk_129 (lv_at hl 8 rfl) ?_
                  refine lv_istore (lv' := [(5, .int (nI i)), (8, .int (x_max (p3 + ((((x_abs (p1 - (Rr 4 i))) + (x_abs (p2 - (Rr 5 i)))) * p4) / 100)) (Rr 1 i))), (0, .ref h), (1, .int p1), (2, .int p2), (3, .int p3), (4, .int p4), (6, .int y), (7, .int (nI i))]) hx hb dX0_dusk_131 hl (by decide) rfl (fun ls hl => ?_)
                  refine lv_iload hx hb dX0_dusk_133 (lv_at hl 1 rfl) ?_
                  refine lv_istore (lv' := [(6, .int (x_max (p3 + ((((x_abs (p1 - (Rr 4 i))) + (x_abs (p2 - (Rr 5 i)))) * p4) / 100)) (Rr 1 i))), (5, .int (nI i)), (8, .int (x_max (p3 + ((((x_abs (p1 - (Rr 4 i))) + (x_abs (p2 - (Rr 5 i)))) * p4) / 100)) (Rr 1 i))), (0, .ref h), (1, .int p1), (2, .int p2), (3, .int p3), (4, .int p4), (7, .int (nI i))]) hx hb dX0_dusk_135 hl (by decide) rfl (fun ls hl => ?_)
                  refine lv_iinc (v := nI (i + 1)) (lv' := [(7, .int (nI (i + 1))), (6, .int (x_max (p3 + ((((x_abs (p1 - (Rr 4 i))) + (x_abs (p2 - (Rr 5 i)))) * p4) / 100)) (Rr 1 i))), (5, .int (nI i)), (8, .int (x_max (p3 + ((((x_abs (p1 - (Rr 4 i))) + (x_abs (p2 - (Rr 5 i)))) * p4) / 100)) (Rr 1 i))), (0, .ref h), (1, .int p1), (2, .int p2), (3, .int p3), (4, .int p4)]) hx hb dX0_dusk_137 hl (k := 8) rfl (mk_inc _) (by decide) rfl (fun ls hl => ?_)
                  refine lv_goto (tgt := 41) hx hb dX0_dusk_140 (by decide) ?_
                  exact L_4ih  (i + 1) (nI i) (x_max (p3 + ((((x_abs (p1 - (Rr 4 i))) + (x_abs (p2 - (Rr 5 i)))) * p4) / 100)) (Rr 1 i)) (by omega) (by first | (rw [itr_s, ← qxy]; done) | (rw [itr_s, ← qxy]; first | (simp [x_duskS, x_duskAt, c_1, c_2, c_3, c_5, c_6, c_6', c_7, up_s, up_n, nI_1, b2i]; done) | (simp_all [x_duskS, x_duskAt]; done) | grind [x_duskS, x_duskAt])) (by omega) ls (lv_sub hl [4, 5, 6, 7, 8, 2, 1, 0] rfl)
                · -- c_7: x ≠ (-1000000)
                  refine lv_iload hx hb dX0_dusk_119 (lv_at hl 0 rfl) ?_
                  refine lv_iload hx hb dX0_dusk_121 (lv_at hl 7 rfl) ?_
                  refine lb_icmp_lt (tgt := 129) hx hb dX0_dusk_123 (by decide) (fun c_8 c_8' => ?_) (fun c_8 c_8' => ?_)
                  · -- c_8: x_max (p3 + ((((x_abs (p1 - (Rr 4 i))) + (x_abs (p2 - (Rr 5 i)))) * p4) / 100)) (Rr 1 i) < y
                    refine lv_iload hx hb dX0_dusk_129 (lv_at hl 8 rfl) ?_
                    refine lv_istore (lv' := [(5, .int (nI i)), (8, .int (x_max (p3 + ((((x_abs (p1 - (Rr 4 i))) + (x_abs (p2 - (Rr 5 i)))) * p4) / 100)) (Rr 1 i))), (0, .ref h), (1, .int p1), (2, .int p2), (3, .int p3), (4, .int p4), (6, .int y), (7, .int (nI i))]) hx hb dX0_dusk_131 hl (by decide) rfl (fun ls hl => ?_)
                    refine lv_iload hx hb dX0_dusk_133 (lv_at hl 1 rfl) ?_
                    refine lv_istore (lv' := [(6, .int (x_max (p3 + ((((x_abs (p1 - (Rr 4 i))) + (x_abs (p2 - (Rr 5 i)))) * p4) / 100)) (Rr 1 i))), (5, .int (nI i)), (8, .int (x_max (p3 + ((((x_abs (p1 - (Rr 4 i))) + (x_abs (p2 - (Rr 5 i)))) * p4) / 100)) (Rr 1 i))), (0, .ref h), (1, .int p1), (2, .int p2), (3, .int p3), (4, .int p4), (7, .int (nI i))]) hx hb dX0_dusk_135 hl (by decide) rfl (fun ls hl => ?_)
                    refine lv_iinc (v := nI (i + 1)) (lv' := [(7, .int (nI (i + 1))), (6, .int (x_max (p3 + ((((x_abs (p1 - (Rr 4 i))) + (x_abs (p2 - (Rr 5 i)))) * p4) / 100)) (Rr 1 i))), (5, .int (nI i)), (8, .int (x_max (p3 + ((((x_abs (p1 - (Rr 4 i))) + (x_abs (p2 - (Rr 5 i)))) * p4) / 100)) (Rr 1 i))), (0, .ref h), (1, .int p1), (2, .int p2), (3, .int p3), (4, .int p4)]) hx hb dX0_dusk_137 hl (k := 8) rfl (mk_inc _) (by decide) rfl (fun ls hl => ?_)
                    refine lv_goto (tgt := 41) hx hb dX0_dusk_140 (by decide) ?_
                    exact L_4ih  (i + 1) (nI i) (x_max (p3 + ((((x_abs (p1 - (Rr 4 i))) + (x_abs (p2 - (Rr 5 i)))) * p4) / 100)) (Rr 1 i)) (by omega) (by first | (rw [itr_s, ← qxy]; done) | (rw [itr_s, ← qxy]; first | (simp [x_duskS, x_duskAt, c_1, c_2, c_3, c_5, c_6, c_6', c_7, c_8, c_8', up_s, up_n, nI_1, b2i]; done) | (simp_all [x_duskS, x_duskAt]; done) | grind [x_duskS, x_duskAt])) (by omega) ls (lv_sub hl [4, 5, 6, 7, 8, 2, 1, 0] rfl)
                  · -- c_8: x_max (p3 + ((((x_abs (p1 - (Rr 4 i))) + (x_abs (p2 - (Rr 5 i)))) * p4) / 100)) (Rr 1 i) ≥ y
                    refine lv_goto (tgt := 137) hx hb dX0_dusk_126 (by decide) ?_
                    refine lv_iinc (v := nI (i + 1)) (lv' := [(7, .int (nI (i + 1))), (8, .int (x_max (p3 + ((((x_abs (p1 - (Rr 4 i))) + (x_abs (p2 - (Rr 5 i)))) * p4) / 100)) (Rr 1 i))), (0, .ref h), (1, .int p1), (2, .int p2), (3, .int p3), (4, .int p4), (5, .int x), (6, .int y)]) hx hb dX0_dusk_137 hl (k := 8) rfl (mk_inc _) (by decide) rfl (fun ls hl => ?_)
                    refine lv_goto (tgt := 41) hx hb dX0_dusk_140 (by decide) ?_
                    exact L_4ih  (i + 1) x y (by omega) (by first | (rw [itr_s, ← qxy]; done) | (rw [itr_s, ← qxy]; first | (simp [x_duskS, x_duskAt, c_1, c_2, c_3, c_5, c_6, c_6', c_7, c_8, c_8', up_s, up_n, nI_1, b2i]; done) | (simp_all [x_duskS, x_duskAt]; done) | grind [x_duskS, x_duskAt])) (by omega) ls (lv_sub hl [2, 3, 4, 5, 6, 7, 8, 0] rfl)
              · -- c_6: p3 + ((((x_abs (p1 - (Rr 4 i))) + (x_abs (p2 - (Rr 5 i)))) * p4) / 100) ≥ Rr 2 i
                refine lv_goto (tgt := 137) hx hb dX0_dusk_95 (by decide) ?_
                refine lv_iinc (v := nI (i + 1)) (lv' := [(7, .int (nI (i + 1))), (8, .int (p3 + ((((x_abs (p1 - (Rr 4 i))) + (x_abs (p2 - (Rr 5 i)))) * p4) / 100))), (0, .ref h), (1, .int p1), (2, .int p2), (3, .int p3), (4, .int p4), (5, .int x), (6, .int y)]) hx hb dX0_dusk_137 hl (k := 8) rfl (mk_inc _) (by decide) rfl (fun ls hl => ?_)
                refine lv_goto (tgt := 41) hx hb dX0_dusk_140 (by decide) ?_
                exact L_4ih  (i + 1) x y (by omega) (by first | (rw [itr_s, ← qxy]; done) | (rw [itr_s, ← qxy]; first | (simp [x_duskS, x_duskAt, c_1, c_2, c_3, c_5, c_6, c_6', up_s, up_n, nI_1, b2i]; done) | (simp_all [x_duskS, x_duskAt]; done) | grind [x_duskS, x_duskAt])) (by omega) ls (lv_sub hl [2, 3, 4, 5, 6, 7, 8, 0] rfl)
        exact L_4 ((9 - 0) + 1) 0 (-1000000) 0 (Nat.zero_le _) (by first | rfl | (simp only [itr]; assumption) | (simp [itr, c_1, c_2, c_3, up_s, up_n, nI_1, b2i]; done)) (Nat.lt_succ_self _) ls (lv_sub hl [3, 4, 5, 6, 7, 2, 1, 0] rfl)
      · -- c_3: inB 1 60 p4 = false
        refine lv_ldc (v := (-1000001)) hx hb hown (hts _ q234) dX0_dusk_28 ?_
        exact W.iret (v := (-1000001)) hx hb hr (fun t9 ht9 hW9 => ⟨_, rfl, (by first | (simp [x_dusk, c_1, c_2, c_3, up_s, up_n, nI_1, b2i]; done) | (simp_all [x_dusk]; done) | grind [x_dusk]), ht9⟩) (fun _ h9 => by cases h9) dX0_dusk_30

