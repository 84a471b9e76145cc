/-! THE REFERENCE, 4: sheets, gates, roads, guests .. -/
def m_sheetR (Rr : Nat → Nat → Int32) (s : Nat) (n : Nat) : Nat → Nat → Int32 := itr (fun k R => mset R 4 (64 * s + k) 0) n Rr
def m_sheet (F : Nat → Int32) (Rr : Nat → Nat → Int32) (s l n : Int32) : Int32 × mST := if inB 0 7 s = false ∨ inB 0 2 l = false ∨ 64 < n then ((-1000001), F, Rr) else if n < 0 then m_finding (va_up F 1 0) Rr 4 else (n, va_up F 1 0, itr (fun k R => mset R 4 (64 * s.toNatClampNeg + k) 0) 64 (mset (mset Rr 2 s.toNatClampNeg l) 3 s.toNatClampNeg n))
set_option maxHeartbeats 4000000 in
set_option maxRecDepth 100000 in
theorem metX2_sheet (l : Launch) (D : va_G) (cl : List vw_C) (hcl : cl[0]? = some (RX2, TX2, 61)) (h : Nat) (ad : Nat → Nat) (dA : ClassId) (F : Nat → Int32) (Rr : Nat → Nat → Int32) (p1 : Int32) (p2 : Int32) (p3 : Int32) : Met l yX2_sheet (ws_ yX2_sheet cX2_sheet 5 (some .int)) ({ frames := 2, cells := 0, slots := 0, locals := 45 } : Room) (va_Pc [.ref h, .int p1, .int p2, .int p3] (mPre D cl h ad dA F Rr)) (va_Qi (fun r u => (r, u) = m_sheet (va_up F 0 0) Rr p1 p2 p3) (mB D cl h ad dA) (mN h ad)) 0 0 (mN h ad) := by
  refine Met.ofW (cc := cX2_sheet) (maxL := 5) (ret := (some .int)) (by decide) rfl ?_
  intro p e s m args below meth c s₁ B hml hv
  obtain ⟨rfl, hK, hP, hD⟩ := hv
  have hx := B.exec
  have hb := B.bytes
  have hr := B.returns
  have hts := atoms_spec (ws := (ws_ yX2_sheet cX2_sheet 5 (some .int))) B.pre
  have hts : ∀ w ∈ lw_all, w.before _ s = true := fun w h => hts w (List.mem_cons_of_mem _ h)
  have hown : s.vm.findClass RX2 = some m.cls := findClass_of_methodNamed B.named
  have hlocks := B.notSynchronized
  have S : CallFix p m c cX2_sheet 5 s ([.ref h, .int p1, .int p2, .int p3] : List Value).toArray lw_all RX2 := ⟨hx, hb, hml, hown, hts⟩
  have X : mX p s m ([.ref h, .int p1, .int p2, .int p3] : List Value).toArray c cX2_sheet 5 D cl dA := ⟨hx, hb, hml, hown, hts, hK, hcl⟩
  have M : mM D cl h ad dA (mN h ad) s F Rr s.heap [] := ⟨hP, mW_self hD, va_S.rf⟩
  have hl := lv_entry ([.ref h, .int p1, .int p2, .int p3]) (n := 5) (Nat.le_of_ble_eq_true rfl)
  rw [lg_entry_eq]
  generalize (lg_sl ([.ref h, .int p1, .int p2, .int p3]) ++ List.replicate (5 - (lg_sl ([.ref h, .int p1, .int p2, .int p3])).length) Slot.unset).toArray = ls at hl ⊢
  have hl : lv_has ls 5 [(0, .ref h), (1, .int p1), (2, .int p2), (3, .int p3)] := hl
  refine lv_aload_n hx hb dX2_sheet_0 rfl (lv_at hl 0 rfl) ?_
  refine lv_iconst (v := 0) hx hb dX2_sheet_1 (by decide) ?_
  refine mp_0 X M dX2_sheet_2 (fun H locs M => ?_)
  refine lv_iload_n hx hb dX2_sheet_5 rfl (lv_at hl 1 rfl) ?_
  refine s_cI (v := b2i (inB 0 7 p1)) (As := [.int p1]) (rest := []) S (metX2_isSheet l p1) (va_cwS 1 hts (lw_S q1619 q1620 q62 q1621) rfl rfl rfl (by decide +kernel) ⟨Nat.le_of_ble_eq_true rfl, Nat.le_of_ble_eq_true rfl⟩) rfl hl.1 rfl (Nat.le_of_ble_eq_true rfl) dX2_sheet_6 ⟨Nat.zero_le _, Nat.zero_le _⟩ ?_
  refine lz_if_eq (tgt := 30) hx hb dX2_sheet_9 (by decide) (fun c_1 => ?_) (fun c_1 => ?_)
  · -- c_1: inB 0 7 p1 = false
    refine lv_ldc (v := (-1000001)) hx hb hown (hts _ q1627) dX2_sheet_30 ?_
    exact W.iret (v := (-1000001)) hx hb hr (fun t9 ht9 hW9 => ⟨⟨_, (va_up F 0 0, Rr), rfl, (by first | (simp [m_sheet, c_1, up_s, up_n, nI_1, b2i]; done) | (simp_all [m_sheet]; done) | grind [m_sheet]), by show va_P _ _ _ t9.heap; rw [ht9]; exact M.1⟩, M.2.2.F ht9⟩) M.2.2.2.2 dX2_sheet_32
  · -- c_1: inB 0 7 p1 = true
    obtain ⟨s1, hs1, rfl⟩ := inB_ex c_1 (n := 7) rfl
    have es1 : (nI s1).toNatClampNeg = s1 := nI_clamp (by omega)
    refine lv_iload_n hx hb dX2_sheet_12 rfl (lv_at hl 2 rfl) ?_
    refine lv_i2l (v := p2.toInt64) hx hb dX2_sheet_13 rfl ?_
    refine lv_lconst (v := 0) hx hb dX2_sheet_14 (by decide) ?_
    refine lv_ldc2 (v := 2) hx hb hown (hts _ q1626) dX2_sheet_15 ?_
    refine s_cI (v := b2i (inB 0 2 p2)) (As := [.long p2.toInt64, .long 0, .long 2]) (rest := []) S (metX2_inI l p2 0 2 p2.toInt64 0 2 rfl rfl rfl) (va_cwS 3 hts (lw_S q1623 q1624 q62 q1625) rfl rfl rfl (by decide +kernel) ⟨Nat.le_of_ble_eq_true rfl, Nat.le_of_ble_eq_true rfl⟩) rfl hl.1 rfl (Nat.le_of_ble_eq_true rfl) dX2_sheet_18 ⟨Nat.zero_le _, Nat.zero_le _⟩ ?_
    refine lz_if_eq (tgt := 30) hx hb dX2_sheet_21 (by decide) (fun c_2 => ?_) (fun c_2 => ?_)
    · -- c_2: inB 0 2 p2 = false
      refine lv_ldc (v := (-1000001)) hx hb hown (hts _ q1627) dX2_sheet_30 ?_
      exact W.iret (v := (-1000001)) hx hb hr (fun t9 ht9 hW9 => ⟨⟨_, (va_up F 0 0, Rr), rfl, (by first | (simp [m_sheet, c_1, es1, c_2, up_s, up_n, nI_1, b2i]; done) | (simp_all [m_sheet]; done) | grind [m_sheet]), by show va_P _ _ _ t9.heap; rw [ht9]; exact M.1⟩, M.2.2.F ht9⟩) M.2.2.2.2 dX2_sheet_32
    · -- c_2: inB 0 2 p2 = true
      refine lv_iload_n hx hb dX2_sheet_24 rfl (lv_at hl 3 rfl) ?_
      refine lv_bipush (v := 64) hx hb dX2_sheet_25 (by decide) ?_
      refine lb_icmp_le (tgt := 33) hx hb dX2_sheet_27 (by decide) (fun c_3 c_3' => ?_) (fun c_3 c_3' => ?_)
      · -- c_3: p3 ≤ 64
        refine lv_aload_n hx hb dX2_sheet_33 rfl (lv_at hl 0 rfl) ?_
        refine lv_iconst (v := 0) hx hb dX2_sheet_34 (by decide) ?_
        refine mp_1 X M dX2_sheet_35 (fun H locs M => ?_)
        refine lv_iload_n hx hb dX2_sheet_38 rfl (lv_at hl 3 rfl) ?_
        refine lb_if_ge (tgt := 48) hx hb dX2_sheet_39 (by decide) (fun c_4 c_4' => ?_) (fun c_4 c_4' => ?_)
        · -- c_4: p3 ≥ 0
          refine lv_aload_n hx hb dX2_sheet_48 rfl (lv_at hl 0 rfl) ?_
          refine mg_2 X M dX2_sheet_49 ?_
          refine lv_iload_n hx hb dX2_sheet_52 rfl (lv_at hl 1 rfl) ?_
          refine lv_iload_n hx hb dX2_sheet_53 rfl (lv_at hl 2 rfl) ?_
          refine ms_2 X M (j := s1) (vp_in_nI (by omega) (by omega)) (nI_clamp (by omega)) dX2_sheet_54 (fun H locs M => ?_)
          refine lv_aload_n hx hb dX2_sheet_55 rfl (lv_at hl 0 rfl) ?_
          refine mg_3 X M dX2_sheet_56 ?_
          refine lv_iload_n hx hb dX2_sheet_59 rfl (lv_at hl 1 rfl) ?_
          refine lv_iload_n hx hb dX2_sheet_60 rfl (lv_at hl 3 rfl) ?_
          refine ms_3 X M (j := s1) (vp_in_nI (by omega) (by omega)) (nI_clamp (by omega)) dX2_sheet_61 (fun H locs M => ?_)
          refine lv_iconst (v := 0) hx hb dX2_sheet_62 (by decide) ?_
          refine lv_istore (lv' := [(4, .int 0), (0, .ref h), (1, .int (nI s1)), (2, .int p2), (3, .int p3)]) hx hb dX2_sheet_63 hl (by decide) rfl (fun ls hl => ?_)
          have L_5 : ∀ (fuL_5 : Nat) (i : Nat) (R1 : Nat → Nat → Int32), (i ≤ 64) → (R1 = itr (fun k R => mset R 4 (64 * s1 + k) 0) i (mset (mset Rr 2 s1 p2) 3 s1 p3)) → 64 - i < fuL_5 → ∀ (H : Heap) (locs : List Loc), mM D cl h ad dA (mN h ad) s (va_up (va_up F 0 0) 1 0) R1 H locs → ∀ ls, lv_has ls 5 [(0, .ref h), (1, .int (nI s1)), (2, .int p2), (3, .int p3), (4, .int (nI i))] → W p l e ({ frames := 2, cells := 0, slots := 0, locals := 45 } : Room) s m ([.ref h, .int (nI s1), .int p2, .int p3] : List Value).toArray below meth c H locs 0 0 (MQ below (va_Qi (fun r u => (r, u) = m_sheet (va_up F 0 0) Rr (nI s1) p2 p3) (mB D cl h ad dA) (mN h ad)) ([.ref h, .int (nI s1), .int p2, .int p3] : List Value).toArray s 0 0 (mN h ad)) (F0 m 65 ls []) := by
            intro fuL_5
            induction fuL_5 with
            | zero => intro i R1 hi qR1 hfuL_5; exact absurd hfuL_5 (Nat.not_lt_zero _)
            | succ fuL_5 L_5ih =>
              intro i R1 hi qR1 hfuL_5 H locs M ls hl
              refine lv_iload hx hb dX2_sheet_65 (lv_at hl 4 rfl) ?_
              refine lv_bipush (v := 64) hx hb dX2_sheet_67 (by decide) ?_
              refine ln_icmp_ge (tgt := 91) hx hb (a := i) (b := 64) (by omega) (by omega) dX2_sheet_69 (by decide) (fun c_6 => ?_) (fun c_6 => ?_)
              · -- c_6: nI i ≥ 64
                have ei : i = 64 := by omega
                rw [ei] at qR1
                refine lv_iload_n hx hb dX2_sheet_91 rfl (lv_at hl 3 rfl) ?_
                exact W.iret (v := p3) hx hb hr (fun t9 ht9 hW9 => ⟨⟨_, (va_up (va_up F 0 0) 1 0, R1), rfl, (by simp [m_sheet, up_s, up_n, c_1, es1, c_2, c_3, c_3', c_4, c_4', c_6, ← qR1]), by show va_P _ _ _ t9.heap; rw [ht9]; exact M.1⟩, M.2.2.F ht9⟩) M.2.2.2.2 dX2_sheet_92
              · -- c_6: nI i < 64
                refine lv_aload_n hx hb dX2_sheet_72 rfl (lv_at hl 0 rfl) ?_
                refine mg_4 X M dX2_sheet_73 ?_
                refine lv_bipush (v := 64) hx hb dX2_sheet_76 (by decide) ?_
                refine lv_iload_n hx hb dX2_sheet_78 rfl (lv_at hl 1 rfl) ?_
                refine lv_imul hx hb dX2_sheet_79 ?_
                refine lv_asi (y := nI (64 * s1)) (nI_mul 64 s1) ?_
                refine lv_iload hx hb dX2_sheet_80 (lv_at hl 4 rfl) ?_
                refine lv_iadd hx hb dX2_sheet_82 ?_
                refine lv_asi (y := nI ((64 * s1) + i)) (nI_add (64 * s1) i) ?_
                refine lv_iconst (v := 0) hx hb dX2_sheet_83 (by decide) ?_
                refine ms_4 X M (j := (64 * s1) + i) (vp_in_nI (by omega) (by omega)) (nI_clamp (by omega)) dX2_sheet_84 (fun H locs M => ?_)
                refine lv_iinc (v := nI (i + 1)) (lv' := [(4, .int (nI (i + 1))), (0, .ref h), (1, .int (nI s1)), (2, .int p2), (3, .int p3)]) hx hb dX2_sheet_85 hl (k := 4) rfl (mk_inc _) (by decide) rfl (fun ls hl => ?_)
                refine lv_goto (tgt := 65) hx hb dX2_sheet_88 (by decide) ?_
                exact L_5ih  (i + 1) (mset R1 4 ((64 * s1) + i) 0) (by omega) (by first | (rw [itr_s, ← qR1]; done) | (rw [itr_s, ← qR1]; first | (simp [c_1, es1, c_2, c_3, c_3', c_4, c_4', c_6, up_s, up_n, nI_1, b2i]; done) | (simp_all []; done) | grind [])) (by omega) _ _ M ls (lv_sub hl [1, 2, 3, 4, 0] rfl)
          exact L_5 ((64 - 0) + 1) 0 (mset (mset Rr 2 s1 p2) 3 s1 p3) (by omega) rfl (Nat.lt_succ_self _) _ _ M ls (lv_sub hl [1, 2, 3, 4, 0] rfl)
        · -- c_4: p3 < 0
          refine lv_aload_n hx hb dX2_sheet_42 rfl (lv_at hl 0 rfl) ?_
          refine lv_iconst (v := 4) hx hb dX2_sheet_43 (by decide) ?_
          refine m_cU (As := [.int 4]) (rest := []) X M (metX2_finding l D cl hcl h ad dA (va_up (va_up F 0 0) 1 0) Rr 4) (cwV 1 hts (lw_V q1628 q1630 qs27 q62 q1631) rfl rfl rfl (by decide +kernel) ⟨Nat.le_of_ble_eq_true rfl, Nat.le_of_ble_eq_true rfl⟩) rfl hl.1 rfl (Nat.le_of_ble_eq_true rfl) dX2_sheet_44 ⟨Nat.zero_le _, Nat.zero_le _⟩ (fun r9 F9 R9 hr9 H locs M => ?_)
          obtain ⟨Z_7, eZ_7⟩ : ∃ z, z = m_finding (va_up (va_up F 0 0) 1 0) Rr 4 := ⟨_, rfl⟩
          rw [← eZ_7] at hr9
          obtain ⟨rfl, rfl, rfl⟩ : r9 = Z_7.1 ∧ F9 = Z_7.2.1 ∧ R9 = Z_7.2.2 := ⟨congrArg Prod.fst hr9, congrArg (fun z => z.2.1) hr9, congrArg (fun z => z.2.2) hr9⟩
          exact W.iret (v := Z_7.1) hx hb hr (fun t9 ht9 hW9 => ⟨⟨_, (Z_7.2.1, Z_7.2.2), rfl, (by first | (simp [m_sheet, c_1, es1, c_2, c_3, c_3', c_4, c_4', ← eZ_7, up_s, up_n, nI_1, b2i]; done) | (simp [m_sheet, c_1, es1, c_2, c_3, c_3', c_4, c_4', eZ_7, up_s, up_n, nI_1, b2i]; done) | (simp_all [m_sheet]; done) | grind [m_sheet]), by show va_P _ _ _ t9.heap; rw [ht9]; exact M.1⟩, M.2.2.F ht9⟩) M.2.2.2.2 dX2_sheet_47
      · -- c_3: p3 > 64
        refine lv_ldc (v := (-1000001)) hx hb hown (hts _ q1627) dX2_sheet_30 ?_
        exact W.iret (v := (-1000001)) hx hb hr (fun t9 ht9 hW9 => ⟨⟨_, (va_up F 0 0, Rr), rfl, (by first | (simp [m_sheet, c_1, es1, c_2, c_3, c_3', up_s, up_n, nI_1, b2i]; done) | (simp_all [m_sheet]; done) | grind [m_sheet]), by show va_P _ _ _ t9.heap; rw [ht9]; exact M.1⟩, M.2.2.F ht9⟩) M.2.2.2.2 dX2_sheet_32

def m_cut (lane v : Int32) : Int32 := if lane = 0 then v.toInt8.toInt32 else if lane = 1 then v.toInt16.toInt32 else v
def m_set (F : Nat → Int32) (Rr : Nat → Nat → Int32) (s i v : Int32) : Int32 × mST := if inB 0 7 s = false then ((-1000001), F, Rr) else if Rr 2 s.toNatClampNeg < 0 then m_finding (va_up F 1 0) Rr 1 else if inB 0 (Rr 3 s.toNatClampNeg - 1) i = false then m_finding (va_up F 1 0) Rr 2 else (m_cut (Rr 2 s.toNatClampNeg) v, va_up F 1 0, mset Rr 4 (64 * s.toNatClampNeg + i.toNatClampNeg) (m_cut (Rr 2 s.toNatClampNeg) v))
set_option maxHeartbeats 4000000 in
set_option maxRecDepth 100000 in
theorem metX2_set (l : Launch) (D : va_G) (cl : List vw_C) (hcl : cl[0]? = some (RX2, TX2, 61)) (h : Nat) (ad : Nat → Nat) (dA : ClassId) (F : Nat → Int32) (Rr : Nat → Nat → Int32) (p1 : Int32) (p2 : Int32) (p3 : Int32) (h3 : ∀ k, k < 8 → cnB (Rr 3 k) 64) : Met l yX2_set (ws_ yX2_set cX2_set 4 (some .int)) ({ frames := 2, cells := 0, slots := 0, locals := 45 } : Room) (va_Pc [.ref h, .int p1, .int p2, .int p3] (mPre D cl h ad dA F Rr)) (va_Qi (fun r u => (r, u) = m_set (va_up F 0 0) Rr p1 p2 p3) (mB D cl h ad dA) (mN h ad)) 0 0 (mN h ad) := by
  refine Met.ofW (cc := cX2_set) (maxL := 4) (ret := (some .int)) (by decide) rfl ?_
  intro p e s m args below meth c s₁ B hml hv
  obtain ⟨rfl, hK, hP, hD⟩ := hv
  have hx := B.exec
  have hb := B.bytes
  have hr := B.returns
  have hts := atoms_spec (ws := (ws_ yX2_set cX2_set 4 (some .int))) B.pre
  have hts : ∀ w ∈ lw_all, w.before _ s = true := fun w h => hts w (List.mem_cons_of_mem _ h)
  have hown : s.vm.findClass RX2 = some m.cls := findClass_of_methodNamed B.named
  have hlocks := B.notSynchronized
  have S : CallFix p m c cX2_set 4 s ([.ref h, .int p1, .int p2, .int p3] : List Value).toArray lw_all RX2 := ⟨hx, hb, hml, hown, hts⟩
  have X : mX p s m ([.ref h, .int p1, .int p2, .int p3] : List Value).toArray c cX2_set 4 D cl dA := ⟨hx, hb, hml, hown, hts, hK, hcl⟩
  have M : mM D cl h ad dA (mN h ad) s F Rr s.heap [] := ⟨hP, mW_self hD, va_S.rf⟩
  have hl := lv_entry ([.ref h, .int p1, .int p2, .int p3]) (n := 4) (Nat.le_of_ble_eq_true rfl)
  rw [lg_entry_eq]
  generalize (lg_sl ([.ref h, .int p1, .int p2, .int p3]) ++ List.replicate (4 - (lg_sl ([.ref h, .int p1, .int p2, .int p3])).length) Slot.unset).toArray = ls at hl ⊢
  have hl : lv_has ls 4 [(0, .ref h), (1, .int p1), (2, .int p2), (3, .int p3)] := hl
  refine lv_aload_n hx hb dX2_set_0 rfl (lv_at hl 0 rfl) ?_
  refine lv_iconst (v := 0) hx hb dX2_set_1 (by decide) ?_
  refine mp_0 X M dX2_set_2 (fun H locs M => ?_)
  refine lv_iload_n hx hb dX2_set_5 rfl (lv_at hl 1 rfl) ?_
  refine s_cI (v := b2i (inB 0 7 p1)) (As := [.int p1]) (rest := []) S (metX2_isSheet l p1) (va_cwS 1 hts (lw_S q1619 q1620 q62 q1621) rfl rfl rfl (by decide +kernel) ⟨Nat.le_of_ble_eq_true rfl, Nat.le_of_ble_eq_true rfl⟩) rfl hl.1 rfl (Nat.le_of_ble_eq_true rfl) dX2_set_6 ⟨Nat.zero_le _, Nat.zero_le _⟩ ?_
  refine lz_if_ne (tgt := 15) hx hb dX2_set_9 (by decide) (fun c_1 => ?_) (fun c_1 => ?_)
  · -- c_1: inB 0 7 p1 = true
    obtain ⟨s1, hs1, rfl⟩ := inB_ex c_1 (n := 7) rfl
    have es1 : (nI s1).toNatClampNeg = s1 := nI_clamp (by omega)
    refine lv_aload_n hx hb dX2_set_15 rfl (lv_at hl 0 rfl) ?_
    refine lv_iconst (v := 0) hx hb dX2_set_16 (by decide) ?_
    refine mp_1 X M dX2_set_17 (fun H locs M => ?_)
    refine lv_aload_n hx hb dX2_set_20 rfl (lv_at hl 0 rfl) ?_
    refine mg_2 X M dX2_set_21 ?_
    refine lv_iload_n hx hb dX2_set_24 rfl (lv_at hl 1 rfl) ?_
    refine mr_2 X M (f := Rr 2) rfl (j := s1) (vp_in_nI (by omega) (by omega)) (nI_clamp (by omega)) dX2_set_25 ?_
    refine lb_if_ge (tgt := 35) hx hb dX2_set_26 (by decide) (fun c_2 c_2' => ?_) (fun c_2 c_2' => ?_)
    · -- c_2: Rr 2 s1 ≥ 0
      refine lv_iload_n hx hb dX2_set_35 rfl (lv_at hl 2 rfl) ?_
      refine lv_i2l (v := p2.toInt64) hx hb dX2_set_36 rfl ?_
      refine lv_lconst (v := 0) hx hb dX2_set_37 (by decide) ?_
      refine lv_aload_n hx hb dX2_set_38 rfl (lv_at hl 0 rfl) ?_
      refine mg_3 X M dX2_set_39 ?_
      refine lv_iload_n hx hb dX2_set_42 rfl (lv_at hl 1 rfl) ?_
      refine mr_3 X M (f := Rr 3) rfl (j := s1) (vp_in_nI (by omega) (by omega)) (nI_clamp (by omega)) dX2_set_43 ?_
      refine lv_iconst (v := 1) hx hb dX2_set_44 (by decide) ?_
      refine lv_isub hx hb dX2_set_45 ?_
      refine lv_i2l (v := ((Rr 3 s1) - 1).toInt64) hx hb dX2_set_46 rfl ?_
      refine s_cI (v := b2i (inB 0 ((Rr 3 s1) - 1) p2)) (As := [.long p2.toInt64, .long 0, .long (((Rr 3 s1) - 1).toInt64)]) (rest := []) S (metX2_inI l p2 0 ((Rr 3 s1) - 1) p2.toInt64 0 (((Rr 3 s1) - 1).toInt64) rfl rfl rfl) (va_cwS 3 hts (lw_S q1623 q1624 q62 q1625) rfl rfl rfl (by decide +kernel) ⟨Nat.le_of_ble_eq_true rfl, Nat.le_of_ble_eq_true rfl⟩) rfl hl.1 rfl (Nat.le_of_ble_eq_true rfl) dX2_set_47 ⟨Nat.zero_le _, Nat.zero_le _⟩ ?_
      refine lz_if_ne (tgt := 59) hx hb dX2_set_50 (by decide) (fun c_3 => ?_) (fun c_3 => ?_)
      · -- c_3: inB 0 ((Rr 3 s1) - 1) p2 = true
        obtain ⟨i1, hi1, rfl⟩ := at_ex c_3 (h3 s1 (by omega)) (m := 64) rfl
        have ei1 : (nI i1).toNatClampNeg = i1 := nI_clamp (by omega)
        refine lv_aload_n hx hb dX2_set_59 rfl (lv_at hl 0 rfl) ?_
        refine mg_4 X M dX2_set_60 ?_
        refine lv_bipush (v := 64) hx hb dX2_set_63 (by decide) ?_
        refine lv_iload_n hx hb dX2_set_65 rfl (lv_at hl 1 rfl) ?_
        refine lv_imul hx hb dX2_set_66 ?_
        refine lv_asi (y := nI (64 * s1)) (nI_mul 64 s1) ?_
        refine lv_iload_n hx hb dX2_set_67 rfl (lv_at hl 2 rfl) ?_
        refine lv_iadd hx hb dX2_set_68 ?_
        refine lv_asi (y := nI ((64 * s1) + i1)) (nI_add (64 * s1) i1) ?_
        refine lv_aload_n hx hb dX2_set_69 rfl (lv_at hl 0 rfl) ?_
        refine mg_2 X M dX2_set_70 ?_
        refine lv_iload_n hx hb dX2_set_73 rfl (lv_at hl 1 rfl) ?_
        refine mr_2 X M (f := Rr 2) rfl (j := s1) (vp_in_nI (by omega) (by omega)) (nI_clamp (by omega)) dX2_set_74 ?_
        refine lv_if_ne (tgt := 83) hx hb dX2_set_75 (by decide) (fun c_4 => ?_) (fun c_4 => ?_)
        · -- c_4: Rr 2 s1 ≠ 0
          refine lv_aload_n hx hb dX2_set_83 rfl (lv_at hl 0 rfl) ?_
          refine mg_2 X M dX2_set_84 ?_
          refine lv_iload_n hx hb dX2_set_87 rfl (lv_at hl 1 rfl) ?_
          refine mr_2 X M (f := Rr 2) rfl (j := s1) (vp_in_nI (by omega) (by omega)) (nI_clamp (by omega)) dX2_set_88 ?_
          refine lv_iconst (v := 1) hx hb dX2_set_89 (by decide) ?_
          refine lv_icmp_ne (tgt := 98) hx hb dX2_set_90 (by decide) (fun c_5 => ?_) (fun c_5 => ?_)
          · -- c_5: Rr 2 s1 ≠ 1
            refine lv_iload_n hx hb dX2_set_98 rfl (lv_at hl 3 rfl) ?_
            refine ms_4 X M (j := (64 * s1) + i1) (vp_in_nI (by omega) (by omega)) (nI_clamp (by omega)) dX2_set_99 (fun H locs M => ?_)
            refine lv_aload_n hx hb dX2_set_100 rfl (lv_at hl 0 rfl) ?_
            refine mg_4 X M dX2_set_101 ?_
            refine lv_bipush (v := 64) hx hb dX2_set_104 (by decide) ?_
            refine lv_iload_n hx hb dX2_set_106 rfl (lv_at hl 1 rfl) ?_
            refine lv_imul hx hb dX2_set_107 ?_
            refine lv_asi (y := nI (64 * s1)) (nI_mul 64 s1) ?_
            refine lv_iload_n hx hb dX2_set_108 rfl (lv_at hl 2 rfl) ?_
            refine lv_iadd hx hb dX2_set_109 ?_
            refine lv_asi (y := nI ((64 * s1) + i1)) (nI_add (64 * s1) i1) ?_
            refine mr_4 X M (f := va_up (Rr 4) ((64 * s1) + i1) p3) rfl (j := (64 * s1) + i1) (vp_in_nI (by omega) (by omega)) (nI_clamp (by omega)) dX2_set_110 ?_
            exact W.iret (v := (va_up (Rr 4) ((64 * s1) + i1) p3) ((64 * s1) + i1)) hx hb hr (fun t9 ht9 hW9 => ⟨⟨_, (va_up (va_up F 0 0) 1 0, mset Rr 4 ((64 * s1) + i1) p3), rfl, (by first | (simp [m_set, m_cut, c_1, es1, c_2, c_2', c_3, ei1, c_4, c_5, up_s, up_n, nI_1, b2i]; done) | (simp_all [m_set, m_cut]; done) | grind [m_set, m_cut]), by show va_P _ _ _ t9.heap; rw [ht9]; exact M.1⟩, M.2.2.F ht9⟩) M.2.2.2.2 dX2_set_111
          · -- c_5: Rr 2 s1 = 1
            refine lv_iload_n hx hb dX2_set_93 rfl (lv_at hl 3 rfl) ?_
            refine lv_i2s (v := p3.toInt16.toInt32) hx hb dX2_set_94 rfl ?_
            refine lv_goto (tgt := 99) hx hb dX2_set_95 (by decide) ?_
            refine ms_4 X M (j := (64 * s1) + i1) (vp_in_nI (by omega) (by omega)) (nI_clamp (by omega)) dX2_set_99 (fun H locs M => ?_)
            refine lv_aload_n hx hb dX2_set_100 rfl (lv_at hl 0 rfl) ?_
            refine mg_4 X M dX2_set_101 ?_
            refine lv_bipush (v := 64) hx hb dX2_set_104 (by decide) ?_
            refine lv_iload_n hx hb dX2_set_106 rfl (lv_at hl 1 rfl) ?_
            refine lv_imul hx hb dX2_set_107 ?_
            refine lv_asi (y := nI (64 * s1)) (nI_mul 64 s1) ?_
            refine lv_iload_n hx hb dX2_set_108 rfl (lv_at hl 2 rfl) ?_
            refine lv_iadd hx hb dX2_set_109 ?_
            refine lv_asi (y := nI ((64 * s1) + i1)) (nI_add (64 * s1) i1) ?_
            refine mr_4 X M (f := va_up (Rr 4) ((64 * s1) + i1) p3.toInt16.toInt32) rfl (j := (64 * s1) + i1) (vp_in_nI (by omega) (by omega)) (nI_clamp (by omega)) dX2_set_110 ?_
            exact W.iret (v := (va_up (Rr 4) ((64 * s1) + i1) p3.toInt16.toInt32) ((64 * s1) + i1)) hx hb hr (fun t9 ht9 hW9 => ⟨⟨_, (va_up (va_up F 0 0) 1 0, mset Rr 4 ((64 * s1) + i1) p3.toInt16.toInt32), rfl, (by first | (simp [m_set, m_cut, c_1, es1, c_2, c_2', c_3, ei1, c_4, c_5, up_s, up_n, nI_1, b2i]; done) | (simp_all [m_set, m_cut]; done) | grind [m_set, m_cut]), by show va_P _ _ _ t9.heap; rw [ht9]; exact M.1⟩, M.2.2.F ht9⟩) M.2.2.2.2 dX2_set_111
        · -- c_4: Rr 2 s1 = 0
          refine lv_iload_n hx hb dX2_set_78 rfl (lv_at hl 3 rfl) ?_
          refine lv_i2b (v := p3.toInt8.toInt32) hx hb dX2_set_79 rfl ?_
          refine lv_goto (tgt := 99) hx hb dX2_set_80 (by decide) ?_
          refine ms_4 X M (j := (64 * s1) + i1) (vp_in_nI (by omega) (by omega)) (nI_clamp (by omega)) dX2_set_99 (fun H locs M => ?_)
          refine lv_aload_n hx hb dX2_set_100 rfl (lv_at hl 0 rfl) ?_
          refine mg_4 X M dX2_set_101 ?_
          refine lv_bipush (v := 64) hx hb dX2_set_104 (by decide) ?_
          refine lv_iload_n hx hb dX2_set_106 rfl (lv_at hl 1 rfl) ?_
          refine lv_imul hx hb dX2_set_107 ?_
          refine lv_asi (y := nI (64 * s1)) (nI_mul 64 s1) ?_
          refine lv_iload_n hx hb dX2_set_108 rfl (lv_at hl 2 rfl) ?_
          refine lv_iadd hx hb dX2_set_109 ?_
          refine lv_asi (y := nI ((64 * s1) + i1)) (nI_add (64 * s1) i1) ?_
          refine mr_4 X M (f := va_up (Rr 4) ((64 * s1) + i1) p3.toInt8.toInt32) rfl (j := (64 * s1) + i1) (vp_in_nI (by omega) (by omega)) (nI_clamp (by omega)) dX2_set_110 ?_
          exact W.iret (v := (va_up (Rr 4) ((64 * s1) + i1) p3.toInt8.toInt32) ((64 * s1) + i1)) hx hb hr (fun t9 ht9 hW9 => ⟨⟨_, (va_up (va_up F 0 0) 1 0, mset Rr 4 ((64 * s1) + i1) p3.toInt8.toInt32), rfl, (by first | (simp [m_set, m_cut, c_1, es1, c_2, c_2', c_3, ei1, c_4, up_s, up_n, nI_1, b2i]; done) | (simp_all [m_set, m_cut]; done) | grind [m_set, m_cut]), by show va_P _ _ _ t9.heap; rw [ht9]; exact M.1⟩, M.2.2.F ht9⟩) M.2.2.2.2 dX2_set_111
      · -- c_3: inB 0 ((Rr 3 s1) - 1) p2 = false
        refine lv_aload_n hx hb dX2_set_53 rfl (lv_at hl 0 rfl) ?_
        refine lv_iconst (v := 2) hx hb dX2_set_54 (by decide) ?_
        refine m_cU (As := [.int 2]) (rest := []) X M (metX2_finding l D cl hcl h ad dA (va_up (va_up F 0 0) 1 0) Rr 2) (cwV 1 hts (lw_V q1628 q1630 qs27 q62 q1631) rfl rfl rfl (by decide +kernel) ⟨Nat.le_of_ble_eq_true rfl, Nat.le_of_ble_eq_true rfl⟩) rfl hl.1 rfl (Nat.le_of_ble_eq_true rfl) dX2_set_55 ⟨Nat.zero_le _, Nat.zero_le _⟩ (fun r9 F9 R9 hr9 H locs M => ?_)
        obtain ⟨Z_6, eZ_6⟩ : ∃ z, z = m_finding (va_up (va_up F 0 0) 1 0) Rr 2 := ⟨_, rfl⟩
        rw [← eZ_6] at hr9
        obtain ⟨rfl, rfl, rfl⟩ : r9 = Z_6.1 ∧ F9 = Z_6.2.1 ∧ R9 = Z_6.2.2 := ⟨congrArg Prod.fst hr9, congrArg (fun z => z.2.1) hr9, congrArg (fun z => z.2.2) hr9⟩
        exact W.iret (v := Z_6.1) hx hb hr (fun t9 ht9 hW9 => ⟨⟨_, (Z_6.2.1, Z_6.2.2), rfl, (by first | (simp [m_set, m_cut, c_1, es1, c_2, c_2', c_3, ← eZ_6, up_s, up_n, nI_1, b2i]; done) | (simp [m_set, m_cut, c_1, es1, c_2, c_2', c_3, eZ_6, up_s, up_n, nI_1, b2i]; done) | (simp_all [m_set, m_cut]; done) | grind [m_set, m_cut]), by show va_P _ _ _ t9.heap; rw [ht9]; exact M.1⟩, M.2.2.F ht9⟩) M.2.2.2.2 dX2_set_58
    · -- c_2: Rr 2 s1 < 0
      refine lv_aload_n hx hb dX2_set_29 rfl (lv_at hl 0 rfl) ?_
      refine lv_iconst (v := 1) hx hb dX2_set_30 (by decide) ?_
      refine m_cU (As := [.int 1]) (rest := []) X M (metX2_finding l D cl hcl h ad dA (va_up (va_up F 0 0) 1 0) Rr 1) (cwV 1 hts (lw_V q1628 q1630 qs27 q62 q1631) rfl rfl rfl (by decide +kernel) ⟨Nat.le_of_ble_eq_true rfl, Nat.le_of_ble_eq_true rfl⟩) rfl hl.1 rfl (Nat.le_of_ble_eq_true rfl) dX2_set_31 ⟨Nat.zero_le _, Nat.zero_le _⟩ (fun r9 F9 R9 hr9 H locs M => ?_)
      obtain ⟨Z_7, eZ_7⟩ : ∃ z, z = m_finding (va_up (va_up F 0 0) 1 0) Rr 1 := ⟨_, rfl⟩
      rw [← eZ_7] at hr9
      obtain ⟨rfl, rfl, rfl⟩ : r9 = Z_7.1 ∧ F9 = Z_7.2.1 ∧ R9 = Z_7.2.2 := ⟨congrArg Prod.fst hr9, congrArg (fun z => z.2.1) hr9, congrArg (fun z => z.2.2) hr9⟩
      exact W.iret (v := Z_7.1) hx hb hr (fun t9 ht9 hW9 => ⟨⟨_, (Z_7.2.1, Z_7.2.2), rfl, (by first | (simp [m_set, m_cut, c_1, es1, c_2, c_2', ← eZ_7, up_s, up_n, nI_1, b2i]; done) | (simp [m_set, m_cut, c_1, es1, c_2, c_2', eZ_7, up_s, up_n, nI_1, b2i]; done) | (simp_all [m_set, m_cut]; done) | grind [m_set, m_cut]), by show va_P _ _ _ t9.heap; rw [ht9]; exact M.1⟩, M.2.2.F ht9⟩) M.2.2.2.2 dX2_set_34
  · -- c_1: inB 0 7 p1 = false
    refine lv_ldc (v := (-1000001)) hx hb hown (hts _ q1627) dX2_set_12 ?_
    exact W.iret (v := (-1000001)) hx hb hr (fun t9 ht9 hW9 => ⟨⟨_, (va_up F 0 0, Rr), rfl, (by first | (simp [m_set, m_cut, c_1, up_s, up_n, nI_1, b2i]; done) | (simp_all [m_set, m_cut]; done) | grind [m_set, m_cut]), by show va_P _ _ _ t9.heap; rw [ht9]; exact M.1⟩, M.2.2.F ht9⟩) M.2.2.2.2 dX2_set_14

def m_drop (F : Nat → Int32) (Rr : Nat → Nat → Int32) (s : Int32) : Int32 × mST := if inB 0 7 s = false then ((-1000001), F, Rr) else if Rr 2 s.toNatClampNeg < 0 then m_finding (va_up F 1 0) Rr 1 else (Rr 3 s.toNatClampNeg, va_up F 1 0, mset Rr 2 s.toNatClampNeg (-1))
set_option maxHeartbeats 4000000 in
set_option maxRecDepth 100000 in
theorem metX2_drop (l : Launch) (D : va_G) (cl : List vw_C) (hcl : cl[0]? = some (RX2, TX2, 61)) (h : Nat) (ad : Nat → Nat) (dA : ClassId) (F : Nat → Int32) (Rr : Nat → Nat → Int32) (p1 : Int32) : Met l yX2_drop (ws_ yX2_drop cX2_drop 2 (some .int)) ({ frames := 2, cells := 0, slots := 0, locals := 45 } : Room) (va_Pc [.ref h, .int p1] (mPre D cl h ad dA F Rr)) (va_Qi (fun r u => (r, u) = m_drop (va_up F 0 0) Rr p1) (mB D cl h ad dA) (mN h ad)) 0 0 (mN h ad) := by
  refine Met.ofW (cc := cX2_drop) (maxL := 2) (ret := (some .int)) (by decide) rfl ?_
  intro p e s m args below meth c s₁ B hml hv
  obtain ⟨rfl, hK, hP, hD⟩ := hv
  have hx := B.exec
  have hb := B.bytes
  have hr := B.returns
  have hts := atoms_spec (ws := (ws_ yX2_drop cX2_drop 2 (some .int))) B.pre
  have hts : ∀ w ∈ lw_all, w.before _ s = true := fun w h => hts w (List.mem_cons_of_mem _ h)
  have hown : s.vm.findClass RX2 = some m.cls := findClass_of_methodNamed B.named
  have hlocks := B.notSynchronized
  have S : CallFix p m c cX2_drop 2 s ([.ref h, .int p1] : List Value).toArray lw_all RX2 := ⟨hx, hb, hml, hown, hts⟩
  have X : mX p s m ([.ref h, .int p1] : List Value).toArray c cX2_drop 2 D cl dA := ⟨hx, hb, hml, hown, hts, hK, hcl⟩
  have M : mM D cl h ad dA (mN h ad) s F Rr s.heap [] := ⟨hP, mW_self hD, va_S.rf⟩
  have hl := lv_entry ([.ref h, .int p1]) (n := 2) (Nat.le_of_ble_eq_true rfl)
  rw [lg_entry_eq]
  generalize (lg_sl ([.ref h, .int p1]) ++ List.replicate (2 - (lg_sl ([.ref h, .int p1])).length) Slot.unset).toArray = ls at hl ⊢
  have hl : lv_has ls 2 [(0, .ref h), (1, .int p1)] := hl
  refine lv_aload_n hx hb dX2_drop_0 rfl (lv_at hl 0 rfl) ?_
  refine lv_iconst (v := 0) hx hb dX2_drop_1 (by decide) ?_
  refine mp_0 X M dX2_drop_2 (fun H locs M => ?_)
  refine lv_iload_n hx hb dX2_drop_5 rfl (lv_at hl 1 rfl) ?_
  refine s_cI (v := b2i (inB 0 7 p1)) (As := [.int p1]) (rest := []) S (metX2_isSheet l p1) (va_cwS 1 hts (lw_S q1619 q1620 q62 q1621) rfl rfl rfl (by decide +kernel) ⟨Nat.le_of_ble_eq_true rfl, Nat.le_of_ble_eq_true rfl⟩) rfl hl.1 rfl (Nat.le_of_ble_eq_true rfl) dX2_drop_6 ⟨Nat.zero_le _, Nat.zero_le _⟩ ?_
  refine lz_if_ne (tgt := 15) hx hb dX2_drop_9 (by decide) (fun c_1 => ?_) (fun c_1 => ?_)
  · -- c_1: inB 0 7 p1 = true
    obtain ⟨s1, hs1, rfl⟩ := inB_ex c_1 (n := 7) rfl
    have es1 : (nI s1).toNatClampNeg = s1 := nI_clamp (by omega)
    refine lv_aload_n hx hb dX2_drop_15 rfl (lv_at hl 0 rfl) ?_
    refine lv_iconst (v := 0) hx hb dX2_drop_16 (by decide) ?_
    refine mp_1 X M dX2_drop_17 (fun H locs M => ?_)
    refine lv_aload_n hx hb dX2_drop_20 rfl (lv_at hl 0 rfl) ?_
    refine mg_2 X M dX2_drop_21 ?_
    refine lv_iload_n hx hb dX2_drop_24 rfl (lv_at hl 1 rfl) ?_
    refine mr_2 X M (f := Rr 2) rfl (j := s1) (vp_in_nI (by omega) (by omega)) (nI_clamp (by omega)) dX2_drop_25 ?_
    refine lb_if_ge (tgt := 35) hx hb dX2_drop_26 (by decide) (fun c_2 c_2' => ?_) (fun c_2 c_2' => ?_)
    · -- c_2: Rr 2 s1 ≥ 0
      refine lv_aload_n hx hb dX2_drop_35 rfl (lv_at hl 0 rfl) ?_
      refine mg_2 X M dX2_drop_36 ?_
      refine lv_iload_n hx hb dX2_drop_39 rfl (lv_at hl 1 rfl) ?_
      refine lv_iconst (v := (-1)) hx hb dX2_drop_40 (by decide) ?_
      refine ms_2 X M (j := s1) (vp_in_nI (by omega) (by omega)) (nI_clamp (by omega)) dX2_drop_41 (fun H locs M => ?_)
      refine lv_aload_n hx hb dX2_drop_42 rfl (lv_at hl 0 rfl) ?_
      refine mg_3 X M dX2_drop_43 ?_
      refine lv_iload_n hx hb dX2_drop_46 rfl (lv_at hl 1 rfl) ?_
      refine mr_3 X M (f := Rr 3) rfl (j := s1) (vp_in_nI (by omega) (by omega)) (nI_clamp (by omega)) dX2_drop_47 ?_
      exact W.iret (v := Rr 3 s1) hx hb hr (fun t9 ht9 hW9 => ⟨⟨_, (va_up (va_up F 0 0) 1 0, mset Rr 2 s1 (-1)), rfl, (by first | (simp [m_drop, c_1, es1, c_2, c_2', up_s, up_n, nI_1, b2i]; done) | (simp_all [m_drop]; done) | grind [m_drop]), by show va_P _ _ _ t9.heap; rw [ht9]; exact M.1⟩, M.2.2.F ht9⟩) M.2.2.2.2 dX2_drop_48
    · -- c_2: Rr 2 s1 < 0
      refine lv_aload_n hx hb dX2_drop_29 rfl (lv_at hl 0 rfl) ?_
      refine lv_iconst (v := 1) hx hb dX2_drop_30 (by decide) ?_
      refine m_cU (As := [.int 1]) (rest := []) X M (metX2_finding l D cl hcl h ad dA (va_up (va_up F 0 0) 1 0) Rr 1) (cwV 1 hts (lw_V q1628 q1630 qs27 q62 q1631) rfl rfl rfl (by decide +kernel) ⟨Nat.le_of_ble_eq_true rfl, Nat.le_of_ble_eq_true rfl⟩) rfl hl.1 rfl (Nat.le_of_ble_eq_true rfl) dX2_drop_31 ⟨Nat.zero_le _, Nat.zero_le _⟩ (fun r9 F9 R9 hr9 H locs M => ?_)
      obtain ⟨Z_3, eZ_3⟩ : ∃ z, z = m_finding (va_up (va_up F 0 0) 1 0) Rr 1 := ⟨_, rfl⟩
      rw [← eZ_3] at hr9
      obtain ⟨rfl, rfl, rfl⟩ : r9 = Z_3.1 ∧ F9 = Z_3.2.1 ∧ R9 = Z_3.2.2 := ⟨congrArg Prod.fst hr9, congrArg (fun z => z.2.1) hr9, congrArg (fun z => z.2.2) hr9⟩
      exact W.iret (v := Z_3.1) hx hb hr (fun t9 ht9 hW9 => ⟨⟨_, (Z_3.2.1, Z_3.2.2), rfl, (by first | (simp [m_drop, c_1, es1, c_2, c_2', ← eZ_3, up_s, up_n, nI_1, b2i]; done) | (simp [m_drop, c_1, es1, c_2, c_2', eZ_3, up_s, up_n, nI_1, b2i]; done) | (simp_all [m_drop]; done) | grind [m_drop]), by show va_P _ _ _ t9.heap; rw [ht9]; exact M.1⟩, M.2.2.F ht9⟩) M.2.2.2.2 dX2_drop_34
  · -- c_1: inB 0 7 p1 = false
    refine lv_ldc (v := (-1000001)) hx hb hown (hts _ q1627) dX2_drop_12 ?_
    exact W.iret (v := (-1000001)) hx hb hr (fun t9 ht9 hW9 => ⟨⟨_, (va_up F 0 0, Rr), rfl, (by first | (simp [m_drop, c_1, up_s, up_n, nI_1, b2i]; done) | (simp_all [m_drop]; done) | grind [m_drop]), by show va_P _ _ _ t9.heap; rw [ht9]; exact M.1⟩, M.2.2.F ht9⟩) M.2.2.2.2 dX2_drop_14

def m_copyStep (a i b j n : Nat) (up : Bool) (k : Nat) (R : Nat → Nat → Int32) : Nat → Nat → Int32 := mset R 4 (64 * b + j + (if up = true then k else n - 1 - k)) (R 4 (64 * a + i + (if up = true then k else n - 1 - k)))
def m_copy (F : Nat → Int32) (Rr : Nat → Nat → Int32) (a i b j n : Int32) : Int32 × mST := if inB 0 7 a = false ∨ inB 0 7 b = false then ((-1000001), F, Rr) else if Rr 2 a.toNatClampNeg < 0 ∨ Rr 2 b.toNatClampNeg < 0 then m_finding (va_up F 1 0) Rr 1 else if ¬ Rr 2 a.toNatClampNeg = Rr 2 b.toNatClampNeg then m_finding (va_up F 1 0) Rr 5 else if i < 0 ∨ j < 0 ∨ n < 0 ∨ (Rr 3 a.toNatClampNeg).toInt64 < i.toInt64 + n.toInt64 ∨ (Rr 3 b.toNatClampNeg).toInt64 < j.toInt64 + n.toInt64 then m_finding (va_up F 1 0) Rr 2 else (n, va_up F 1 0, itr (m_copyStep a.toNatClampNeg i.toNatClampNeg b.toNatClampNeg j.toNatClampNeg n.toNatClampNeg (decide (j ≤ i))) n.toNatClampNeg Rr)
def m_bell (F : Nat → Int32) (Rr : Nat → Nat → Int32) (g one fin : Int32) : Int32 × mST := if inB 0 8 g = false ∨ inB 0 1439 one = false ∨ inB (one + 1) 1440 fin = false then ((-1000001), F, Rr) else (1, F, mset (mset Rr 5 g.toNatClampNeg one) 6 g.toNatClampNeg fin)
def m_part (F : Nat → Int32) (Rr : Nat → Nat → Int32) (g v : Int32) : Int32 × mST := if inB 0 8 g = false ∨ inB 1 300 v = false then ((-1000001), F, Rr) else (Rr 7 g.toNatClampNeg, F, mset Rr 7 g.toNatClampNeg v)
def m_stands (F : Nat → Int32) (Rr : Nat → Nat → Int32) (g x y : Int32) : Int32 × mST := if inB 0 8 g = false ∨ (inB 0 999 x && inB 0 999 y) = false then ((-1000001), F, Rr) else (1, F, mset (mset Rr 8 g.toNatClampNeg x) 9 g.toNatClampNeg y)
set_option maxHeartbeats 4000000 in
set_option maxRecDepth 100000 in
theorem metX2_bell (l : Launch) (D : va_G) (cl : List vw_C) (hcl : cl[0]? = some (RX2, TX2, 61)) (h : Nat) (ad : Nat → Nat) (dA : ClassId) (F : Nat → Int32) (Rr : Nat → Nat → Int32) (p1 : Int32) (p2 : Int32) (p3 : Int32) : Met l yX2_bell (ws_ yX2_bell cX2_bell 4 (some .int)) ({ frames := 2, cells := 0, slots := 0, locals := 45 } : Room) (va_Pc [.ref h, .int p1, .int p2, .int p3] (mPre D cl h ad dA F Rr)) (va_Qi (fun r u => (r, u) = m_bell (va_up F 0 0) Rr p1 p2 p3) (mB D cl h ad dA) (mN h ad)) 0 0 (mN h ad) := by
  refine Met.ofW (cc := cX2_bell) (maxL := 4) (ret := (some .int)) (by decide) rfl ?_
  intro p e s m args below meth c s₁ B hml hv
  obtain ⟨rfl, hK, hP, hD⟩ := hv
  have hx := B.exec
  have hb := B.bytes
  have hr := B.returns
  have hts := atoms_spec (ws := (ws_ yX2_bell cX2_bell 4 (some .int))) B.pre
  have hts : ∀ w ∈ lw_all, w.before _ s = true := fun w h => hts w (List.mem_cons_of_mem _ h)
  have hown : s.vm.findClass RX2 = some m.cls := findClass_of_methodNamed B.named
  have hlocks := B.notSynchronized
  have S : CallFix p m c cX2_bell 4 s ([.ref h, .int p1, .int p2, .int p3] : List Value).toArray lw_all RX2 := ⟨hx, hb, hml, hown, hts⟩
  have X : mX p s m ([.ref h, .int p1, .int p2, .int p3] : List Value).toArray c cX2_bell 4 D cl dA := ⟨hx, hb, hml, hown, hts, hK, hcl⟩
  have M : mM D cl h ad dA (mN h ad) s F Rr s.heap [] := ⟨hP, mW_self hD, va_S.rf⟩
  have hl := lv_entry ([.ref h, .int p1, .int p2, .int p3]) (n := 4) (Nat.le_of_ble_eq_true rfl)
  rw [lg_entry_eq]
  generalize (lg_sl ([.ref h, .int p1, .int p2, .int p3]) ++ List.replicate (4 - (lg_sl ([.ref h, .int p1, .int p2, .int p3])).length) Slot.unset).toArray = ls at hl ⊢
  have hl : lv_has ls 4 [(0, .ref h), (1, .int p1), (2, .int p2), (3, .int p3)] := hl
  refine lv_aload_n hx hb dX2_bell_0 rfl (lv_at hl 0 rfl) ?_
  refine lv_iconst (v := 0) hx hb dX2_bell_1 (by decide) ?_
  refine mp_0 X M dX2_bell_2 (fun H locs M => ?_)
  refine lv_iload_n hx hb dX2_bell_5 rfl (lv_at hl 1 rfl) ?_
  refine s_cI (v := b2i (inB 0 8 p1)) (As := [.int p1]) (rest := []) S (metX2_isGate l p1) (va_cwS 1 hts (lw_S q1649 q1650 q62 q1651) rfl rfl rfl (by decide +kernel) ⟨Nat.le_of_ble_eq_true rfl, Nat.le_of_ble_eq_true rfl⟩) rfl hl.1 rfl (Nat.le_of_ble_eq_true rfl) dX2_bell_6 ⟨Nat.zero_le _, Nat.zero_le _⟩ ?_
  refine lz_if_eq (tgt := 34) hx hb dX2_bell_9 (by decide) (fun c_1 => ?_) (fun c_1 => ?_)
  · -- c_1: inB 0 8 p1 = false
    refine lv_ldc (v := (-1000001)) hx hb hown (hts _ q1627) dX2_bell_34 ?_
    exact W.iret (v := (-1000001)) hx hb hr (fun t9 ht9 hW9 => ⟨⟨_, (va_up F 0 0, Rr), rfl, (by first | (simp [m_bell, c_1, up_s, up_n, nI_1, b2i]; done) | (simp_all [m_bell]; done) | grind [m_bell]), by show va_P _ _ _ t9.heap; rw [ht9]; exact M.1⟩, M.2.2.F ht9⟩) M.2.2.2.2 dX2_bell_36
  · -- c_1: inB 0 8 p1 = true
    obtain ⟨g1, hg1, rfl⟩ := inB_ex c_1 (n := 8) rfl
    have eg1 : (nI g1).toNatClampNeg = g1 := nI_clamp (by omega)
    refine lv_iload_n hx hb dX2_bell_12 rfl (lv_at hl 2 rfl) ?_
    refine s_cI (v := b2i (inB 0 1439 p2)) (As := [.int p2]) (rest := []) S (metX2_isMinute l p2) (va_cwS 1 hts (lw_S q1653 q1654 q62 q1655) rfl rfl rfl (by decide +kernel) ⟨Nat.le_of_ble_eq_true rfl, Nat.le_of_ble_eq_true rfl⟩) rfl hl.1 rfl (Nat.le_of_ble_eq_true rfl) dX2_bell_13 ⟨Nat.zero_le _, Nat.zero_le _⟩ ?_
    refine lz_if_eq (tgt := 34) hx hb dX2_bell_16 (by decide) (fun c_2 => ?_) (fun c_2 => ?_)
    · -- c_2: inB 0 1439 p2 = false
      refine lv_ldc (v := (-1000001)) hx hb hown (hts _ q1627) dX2_bell_34 ?_
      exact W.iret (v := (-1000001)) hx hb hr (fun t9 ht9 hW9 => ⟨⟨_, (va_up F 0 0, Rr), rfl, (by first | (simp [m_bell, c_1, eg1, c_2, up_s, up_n, nI_1, b2i]; done) | (simp_all [m_bell]; done) | grind [m_bell]), by show va_P _ _ _ t9.heap; rw [ht9]; exact M.1⟩, M.2.2.F ht9⟩) M.2.2.2.2 dX2_bell_36
    · -- c_2: inB 0 1439 p2 = true
      refine lv_iload_n hx hb dX2_bell_19 rfl (lv_at hl 3 rfl) ?_
      refine lv_i2l (v := p3.toInt64) hx hb dX2_bell_20 rfl ?_
      refine lv_iload_n hx hb dX2_bell_21 rfl (lv_at hl 2 rfl) ?_
      refine lv_iconst (v := 1) hx hb dX2_bell_22 (by decide) ?_
      refine lv_iadd hx hb dX2_bell_23 ?_
      refine lv_i2l (v := (p2 + 1).toInt64) hx hb dX2_bell_24 rfl ?_
      refine lv_ldc2 (v := 1440) hx hb hown (hts _ q1657) dX2_bell_25 ?_
      refine s_cI (v := b2i (inB (p2 + 1) 1440 p3)) (As := [.long p3.toInt64, .long ((p2 + 1).toInt64), .long 1440]) (rest := []) S (metX2_inI l p3 (p2 + 1) 1440 p3.toInt64 ((p2 + 1).toInt64) 1440 rfl rfl rfl) (va_cwS 3 hts (lw_S q1623 q1624 q62 q1625) rfl rfl rfl (by decide +kernel) ⟨Nat.le_of_ble_eq_true rfl, Nat.le_of_ble_eq_true rfl⟩) rfl hl.1 rfl (Nat.le_of_ble_eq_true rfl) dX2_bell_28 ⟨Nat.zero_le _, Nat.zero_le _⟩ ?_
      refine lz_if_ne (tgt := 37) hx hb dX2_bell_31 (by decide) (fun c_3 => ?_) (fun c_3 => ?_)
      · -- c_3: inB (p2 + 1) 1440 p3 = true
        refine lv_aload_n hx hb dX2_bell_37 rfl (lv_at hl 0 rfl) ?_
        refine mg_5 X M dX2_bell_38 ?_
        refine lv_iload_n hx hb dX2_bell_41 rfl (lv_at hl 1 rfl) ?_
        refine lv_iload_n hx hb dX2_bell_42 rfl (lv_at hl 2 rfl) ?_
        refine ms_5 X M (j := g1) (vp_in_nI (by omega) (by omega)) (nI_clamp (by omega)) dX2_bell_43 (fun H locs M => ?_)
        refine lv_aload_n hx hb dX2_bell_44 rfl (lv_at hl 0 rfl) ?_
        refine mg_6 X M dX2_bell_45 ?_
        refine lv_iload_n hx hb dX2_bell_48 rfl (lv_at hl 1 rfl) ?_
        refine lv_iload_n hx hb dX2_bell_49 rfl (lv_at hl 3 rfl) ?_
        refine ms_6 X M (j := g1) (vp_in_nI (by omega) (by omega)) (nI_clamp (by omega)) dX2_bell_50 (fun H locs M => ?_)
        refine lv_iconst (v := 1) hx hb dX2_bell_51 (by decide) ?_
        exact W.iret (v := 1) hx hb hr (fun t9 ht9 hW9 => ⟨⟨_, (va_up F 0 0, mset (mset Rr 5 g1 p2) 6 g1 p3), rfl, (by first | (simp [m_bell, c_1, eg1, c_2, c_3, up_s, up_n, nI_1, b2i]; done) | (simp_all [m_bell]; done) | grind [m_bell]), by show va_P _ _ _ t9.heap; rw [ht9]; exact M.1⟩, M.2.2.F ht9⟩) M.2.2.2.2 dX2_bell_52
      · -- c_3: inB (p2 + 1) 1440 p3 = false
        refine lv_ldc (v := (-1000001)) hx hb hown (hts _ q1627) dX2_bell_34 ?_
        exact W.iret (v := (-1000001)) hx hb hr (fun t9 ht9 hW9 => ⟨⟨_, (va_up F 0 0, Rr), rfl, (by first | (simp [m_bell, c_1, eg1, c_2, c_3, up_s, up_n, nI_1, b2i]; done) | (simp_all [m_bell]; done) | grind [m_bell]), by show va_P _ _ _ t9.heap; rw [ht9]; exact M.1⟩, M.2.2.F ht9⟩) M.2.2.2.2 dX2_bell_36

set_option maxHeartbeats 4000000 in
set_option maxRecDepth 100000 in
theorem metX2_part (l : Launch) (D : va_G) (cl : List vw_C) (hcl : cl[0]? = some (RX2, TX2, 61)) (h : Nat) (ad : Nat → Nat) (dA : ClassId) (F : Nat → Int32) (Rr : Nat → Nat → Int32) (p1 : Int32) (p2 : Int32) : Met l yX2_part (ws_ yX2_part cX2_part 4 (some .int)) ({ frames := 2, cells := 0, slots := 0, locals := 45 } : Room) (va_Pc [.ref h, .int p1, .int p2] (mPre D cl h ad dA F Rr)) (va_Qi (fun r u => (r, u) = m_part (va_up F 0 0) Rr p1 p2) (mB D cl h ad dA) (mN h ad)) 0 0 (mN h ad) := by
  refine Met.ofW (cc := cX2_part) (maxL := 4) (ret := (some .int)) (by decide) rfl ?_
  intro p e s m args below meth c s₁ B hml hv
  obtain ⟨rfl, hK, hP, hD⟩ := hv
  have hx := B.exec
  have hb := B.bytes
  have hr := B.returns
  have hts := atoms_spec (ws := (ws_ yX2_part cX2_part 4 (some .int))) B.pre
  have hts : ∀ w ∈ lw_all, w.before _ s = true := fun w h => hts w (List.mem_cons_of_mem _ h)
  have hown : s.vm.findClass RX2 = some m.cls := findClass_of_methodNamed B.named
  have hlocks := B.notSynchronized
  have S : CallFix p m c cX2_part 4 s ([.ref h, .int p1, .int p2] : List Value).toArray lw_all RX2 := ⟨hx, hb, hml, hown, hts⟩
  have X : mX p s m ([.ref h, .int p1, .int p2] : List Value).toArray c cX2_part 4 D cl dA := ⟨hx, hb, hml, hown, hts, hK, hcl⟩
  have M : mM D cl h ad dA (mN h ad) s F Rr s.heap [] := ⟨hP, mW_self hD, va_S.rf⟩
  have hl := lv_entry ([.ref h, .int p1, .int p2]) (n := 4) (Nat.le_of_ble_eq_true rfl)
  rw [lg_entry_eq]
  generalize (lg_sl ([.ref h, .int p1, .int p2]) ++ List.replicate (4 - (lg_sl ([.ref h, .int p1, .int p2])).length) Slot.unset).toArray = ls at hl ⊢
  have hl : lv_has ls 4 [(0, .ref h), (1, .int p1), (2, .int p2)] := hl
  refine lv_aload_n hx hb dX2_part_0 rfl (lv_at hl 0 rfl) ?_
  refine lv_iconst (v := 0) hx hb dX2_part_1 (by decide) ?_
  refine mp_0 X M dX2_part_2 (fun H locs M => ?_)
  refine lv_iload_n hx hb dX2_part_5 rfl (lv_at hl 1 rfl) ?_
  refine s_cI (v := b2i (inB 0 8 p1)) (As := [.int p1]) (rest := []) S (metX2_isGate l p1) (va_cwS 1 hts (lw_S q1649 q1650 q62 q1651) rfl rfl rfl (by decide +kernel) ⟨Nat.le_of_ble_eq_true rfl, Nat.le_of_ble_eq_true rfl⟩) rfl hl.1 rfl (Nat.le_of_ble_eq_true rfl) dX2_part_6 ⟨Nat.zero_le _, Nat.zero_le _⟩ ?_
  refine lz_if_eq (tgt := 24) hx hb dX2_part_9 (by decide) (fun c_1 => ?_) (fun c_1 => ?_)
  · -- c_1: inB 0 8 p1 = false
    refine lv_ldc (v := (-1000001)) hx hb hown (hts _ q1627) dX2_part_24 ?_
    exact W.iret (v := (-1000001)) hx hb hr (fun t9 ht9 hW9 => ⟨⟨_, (va_up F 0 0, Rr), rfl, (by first | (simp [m_part, c_1, up_s, up_n, nI_1, b2i]; done) | (simp_all [m_part]; done) | grind [m_part]), by show va_P _ _ _ t9.heap; rw [ht9]; exact M.1⟩, M.2.2.F ht9⟩) M.2.2.2.2 dX2_part_26
  · -- c_1: inB 0 8 p1 = true
    obtain ⟨g1, hg1, rfl⟩ := inB_ex c_1 (n := 8) rfl
    have eg1 : (nI g1).toNatClampNeg = g1 := nI_clamp (by omega)
    refine lv_iload_n hx hb dX2_part_12 rfl (lv_at hl 2 rfl) ?_
    refine lv_i2l (v := p2.toInt64) hx hb dX2_part_13 rfl ?_
    refine lv_lconst (v := 1) hx hb dX2_part_14 (by decide) ?_
    refine lv_ldc2 (v := 300) hx hb hown (hts _ q1662) dX2_part_15 ?_
    refine s_cI (v := b2i (inB 1 300 p2)) (As := [.long p2.toInt64, .long 1, .long 300]) (rest := []) S (metX2_inI l p2 1 300 p2.toInt64 1 300 rfl rfl rfl) (va_cwS 3 hts (lw_S q1623 q1624 q62 q1625) rfl rfl rfl (by decide +kernel) ⟨Nat.le_of_ble_eq_true rfl, Nat.le_of_ble_eq_true rfl⟩) rfl hl.1 rfl (Nat.le_of_ble_eq_true rfl) dX2_part_18 ⟨Nat.zero_le _, Nat.zero_le _⟩ ?_
    refine lz_if_ne (tgt := 27) hx hb dX2_part_21 (by decide) (fun c_2 => ?_) (fun c_2 => ?_)
    · -- c_2: inB 1 300 p2 = true
      refine lv_aload_n hx hb dX2_part_27 rfl (lv_at hl 0 rfl) ?_
      refine mg_7 X M dX2_part_28 ?_
      refine lv_iload_n hx hb dX2_part_31 rfl (lv_at hl 1 rfl) ?_
      refine mr_7 X M (f := Rr 7) rfl (j := g1) (vp_in_nI (by omega) (by omega)) (nI_clamp (by omega)) dX2_part_32 ?_
      refine lv_istore_n (lv' := [(3, .int (Rr 7 g1)), (0, .ref h), (1, .int (nI g1)), (2, .int p2)]) hx hb dX2_part_33 rfl hl (by decide) rfl (fun ls hl => ?_)
      refine lv_aload_n hx hb dX2_part_34 rfl (lv_at hl 1 rfl) ?_
      refine mg_7 X M dX2_part_35 ?_
      refine lv_iload_n hx hb dX2_part_38 rfl (lv_at hl 2 rfl) ?_
      refine lv_iload_n hx hb dX2_part_39 rfl (lv_at hl 3 rfl) ?_
      refine ms_7 X M (j := g1) (vp_in_nI (by omega) (by omega)) (nI_clamp (by omega)) dX2_part_40 (fun H locs M => ?_)
      refine lv_iload_n hx hb dX2_part_41 rfl (lv_at hl 0 rfl) ?_
      exact W.iret (v := Rr 7 g1) hx hb hr (fun t9 ht9 hW9 => ⟨⟨_, (va_up F 0 0, mset Rr 7 g1 p2), rfl, (by first | (simp [m_part, c_1, eg1, c_2, up_s, up_n, nI_1, b2i]; done) | (simp_all [m_part]; done) | grind [m_part]), by show va_P _ _ _ t9.heap; rw [ht9]; exact M.1⟩, M.2.2.F ht9⟩) M.2.2.2.2 dX2_part_42
    · -- c_2: inB 1 300 p2 = false
      refine lv_ldc (v := (-1000001)) hx hb hown (hts _ q1627) dX2_part_24 ?_
      exact W.iret (v := (-1000001)) hx hb hr (fun t9 ht9 hW9 => ⟨⟨_, (va_up F 0 0, Rr), rfl, (by first | (simp [m_part, c_1, eg1, c_2, up_s, up_n, nI_1, b2i]; done) | (simp_all [m_part]; done) | grind [m_part]), by show va_P _ _ _ t9.heap; rw [ht9]; exact M.1⟩, M.2.2.F ht9⟩) M.2.2.2.2 dX2_part_26

set_option maxHeartbeats 4000000 in
set_option maxRecDepth 100000 in
theorem metX2_stands (l : Launch) (D : va_G) (cl : List vw_C) (hcl : cl[0]? = some (RX2, TX2, 61)) (h : Nat) (ad : Nat → Nat) (dA : ClassId) (F : Nat → Int32) (Rr : Nat → Nat → Int32) (p1 : Int32) (p2 : Int32) (p3 : Int32) : Met l yX2_stands (ws_ yX2_stands cX2_stands 4 (some .int)) ({ frames := 2, cells := 0, slots := 0, locals := 46 } : Room) (va_Pc [.ref h, .int p1, .int p2, .int p3] (mPre D cl h ad dA F Rr)) (va_Qi (fun r u => (r, u) = m_stands (va_up F 0 0) Rr p1 p2 p3) (mB D cl h ad dA) (mN h ad)) 0 0 (mN h ad) := by
  refine Met.ofW (cc := cX2_stands) (maxL := 4) (ret := (some .int)) (by decide) rfl ?_
  intro p e s m args below meth c s₁ B hml hv
  obtain ⟨rfl, hK, hP, hD⟩ := hv
  have hx := B.exec
  have hb := B.bytes
  have hr := B.returns
  have hts := atoms_spec (ws := (ws_ yX2_stands cX2_stands 4 (some .int))) B.pre
  have hts : ∀ w ∈ lw_all, w.before _ s = true := fun w h => hts w (List.mem_cons_of_mem _ h)
  have hown : s.vm.findClass RX2 = some m.cls := findClass_of_methodNamed B.named
  have hlocks := B.notSynchronized
  have S : CallFix p m c cX2_stands 4 s ([.ref h, .int p1, .int p2, .int p3] : List Value).toArray lw_all RX2 := ⟨hx, hb, hml, hown, hts⟩
  have X : mX p s m ([.ref h, .int p1, .int p2, .int p3] : List Value).toArray c cX2_stands 4 D cl dA := ⟨hx, hb, hml, hown, hts, hK, hcl⟩
  have M : mM D cl h ad dA (mN h ad) s F Rr s.heap [] := ⟨hP, mW_self hD, va_S.rf⟩
  have hl := lv_entry ([.ref h, .int p1, .int p2, .int p3]) (n := 4) (Nat.le_of_ble_eq_true rfl)
  rw [lg_entry_eq]
  generalize (lg_sl ([.ref h, .int p1, .int p2, .int p3]) ++ List.replicate (4 - (lg_sl ([.ref h, .int p1, .int p2, .int p3])).length) Slot.unset).toArray = ls at hl ⊢
  have hl : lv_has ls 4 [(0, .ref h), (1, .int p1), (2, .int p2), (3, .int p3)] := hl
  refine lv_aload_n hx hb dX2_stands_0 rfl (lv_at hl 0 rfl) ?_
  refine lv_iconst (v := 0) hx hb dX2_stands_1 (by decide) ?_
  refine mp_0 X M dX2_stands_2 (fun H locs M => ?_)
  refine lv_iload_n hx hb dX2_stands_5 rfl (lv_at hl 1 rfl) ?_
  refine s_cI (v := b2i (inB 0 8 p1)) (As := [.int p1]) (rest := []) S (metX2_isGate l p1) (va_cwS 1 hts (lw_S q1649 q1650 q62 q1651) rfl rfl rfl (by decide +kernel) ⟨Nat.le_of_ble_eq_true rfl, Nat.le_of_ble_eq_true rfl⟩) rfl hl.1 rfl (Nat.le_of_ble_eq_true rfl) dX2_stands_6 ⟨Nat.zero_le _, Nat.zero_le _⟩ ?_
  refine lz_if_eq (tgt := 20) hx hb dX2_stands_9 (by decide) (fun c_1 => ?_) (fun c_1 => ?_)
  · -- c_1: inB 0 8 p1 = false
    refine lv_ldc (v := (-1000001)) hx hb hown (hts _ q1627) dX2_stands_20 ?_
    exact W.iret (v := (-1000001)) hx hb hr (fun t9 ht9 hW9 => ⟨⟨_, (va_up F 0 0, Rr), rfl, (by first | (simp [m_stands, c_1, up_s, up_n, nI_1, b2i]; done) | (simp_all [m_stands]; done) | grind [m_stands]), by show va_P _ _ _ t9.heap; rw [ht9]; exact M.1⟩, M.2.2.F ht9⟩) M.2.2.2.2 dX2_stands_22
  · -- c_1: inB 0 8 p1 = true
    obtain ⟨g1, hg1, rfl⟩ := inB_ex c_1 (n := 8) rfl
    have eg1 : (nI g1).toNatClampNeg = g1 := nI_clamp (by omega)
    refine lv_iload_n hx hb dX2_stands_12 rfl (lv_at hl 2 rfl) ?_
    refine lv_iload_n hx hb dX2_stands_13 rfl (lv_at hl 3 rfl) ?_
    refine s_cI (v := b2i (inB 0 999 p2 && inB 0 999 p3)) (As := [.int p2, .int p3]) (rest := []) S (metX2_isSpot l p2 p3) (va_cwS 2 hts (lw_S q1667 q1668 q62 q1669) rfl rfl rfl (by decide +kernel) ⟨Nat.le_of_ble_eq_true rfl, Nat.le_of_ble_eq_true rfl⟩) rfl hl.1 rfl (Nat.le_of_ble_eq_true rfl) dX2_stands_14 ⟨Nat.zero_le _, Nat.zero_le _⟩ ?_
    refine lz_if_ne (tgt := 23) hx hb dX2_stands_17 (by decide) (fun c_2 => ?_) (fun c_2 => ?_)
    · -- c_2: inB 0 999 p2 && inB 0 999 p3 = true
      refine lv_aload_n hx hb dX2_stands_23 rfl (lv_at hl 0 rfl) ?_
      refine mg_8 X M dX2_stands_24 ?_
      refine lv_iload_n hx hb dX2_stands_27 rfl (lv_at hl 1 rfl) ?_
      refine lv_iload_n hx hb dX2_stands_28 rfl (lv_at hl 2 rfl) ?_
      refine ms_8 X M (j := g1) (vp_in_nI (by omega) (by omega)) (nI_clamp (by omega)) dX2_stands_29 (fun H locs M => ?_)
      refine lv_aload_n hx hb dX2_stands_30 rfl (lv_at hl 0 rfl) ?_
      refine mg_9 X M dX2_stands_31 ?_
      refine lv_iload_n hx hb dX2_stands_34 rfl (lv_at hl 1 rfl) ?_
      refine lv_iload_n hx hb dX2_stands_35 rfl (lv_at hl 3 rfl) ?_
      refine ms_9 X M (j := g1) (vp_in_nI (by omega) (by omega)) (nI_clamp (by omega)) dX2_stands_36 (fun H locs M => ?_)
      refine lv_iconst (v := 1) hx hb dX2_stands_37 (by decide) ?_
      exact W.iret (v := 1) hx hb hr (fun t9 ht9 hW9 => ⟨⟨_, (va_up F 0 0, mset (mset Rr 8 g1 p2) 9 g1 p3), rfl, (by first | (simp [m_stands, c_1, eg1, c_2, up_s, up_n, nI_1, b2i]; done) | (simp_all [m_stands]; done) | grind [m_stands]), by show va_P _ _ _ t9.heap; rw [ht9]; exact M.1⟩, M.2.2.F ht9⟩) M.2.2.2.2 dX2_stands_38
    · -- c_2: inB 0 999 p2 && inB 0 999 p3 = false
      refine lv_ldc (v := (-1000001)) hx hb hown (hts _ q1627) dX2_stands_20 ?_
      exact W.iret (v := (-1000001)) hx hb hr (fun t9 ht9 hW9 => ⟨⟨_, (va_up F 0 0, Rr), rfl, (by first | (simp [m_stands, c_1, eg1, c_2, up_s, up_n, nI_1, b2i]; done) | (simp_all [m_stands]; done) | grind [m_stands]), by show va_P _ _ _ t9.heap; rw [ht9]; exact M.1⟩, M.2.2.F ht9⟩) M.2.2.2.2 dX2_stands_22

def m_byte (w : Int64) (k : Nat) : Int32 := ((w >>> ((nI (8 * k)).toInt64 &&& 63)) &&& 255).toInt32
def m_feed (F : Nat → Int32) (Rr : Nat → Nat → Int32) (w : Int64) (n : Int32) : Int32 × mST := if inB 1 8 n = false then ((-1000001), F, Rr) else if 400 < F 17 + n then ((-1000003), F, Rr) else (F 17 + n, va_up F 17 (F 17 + n), itr (fun j R => mset R 16 ((F 17).toNatClampNeg + j) (m_byte w (n.toNatClampNeg - 1 - j))) n.toNatClampNeg Rr)
def m_roadAt (a b : Int32) : Nat := if b = (-1000000) then 64 + a.toNatClampNeg else 8 * a.toNatClampNeg + b.toNatClampNeg
def m_road (F : Nat → Int32) (Rr : Nat → Nat → Int32) (a b days : Int32) : Int32 × mST := if inB 0 7 a = false ∨ (¬ b = (-1000000) ∧ inB 0 7 b = false) ∨ a = b ∨ inB 1 60 days = false then ((-1000001), F, Rr) else if b = (-1000000) then (Rr 37 (64 + a.toNatClampNeg), F, mset Rr 37 (64 + a.toNatClampNeg) days) else (Rr 37 (8 * a.toNatClampNeg + b.toNatClampNeg), F, mset (mset Rr 37 (8 * a.toNatClampNeg + b.toNatClampNeg) days) 37 (8 * b.toNatClampNeg + a.toNatClampNeg) days)
set_option maxHeartbeats 4000000 in
set_option maxRecDepth 100000 in
theorem metX2_road (l : Launch) (D : va_G) (cl : List vw_C) (hcl : cl[0]? = some (RX2, TX2, 61)) (h : Nat) (ad : Nat → Nat) (dA : ClassId) (F : Nat → Int32) (Rr : Nat → Nat → Int32) (p1 : Int32) (p2 : Int32) (p3 : Int32) : Met l yX2_road (ws_ yX2_road cX2_road 6 (some .int)) ({ frames := 2, cells := 0, slots := 0, locals := 45 } : Room) (va_Pc [.ref h, .int p1, .int p2, .int p3] (mPre D cl h ad dA F Rr)) (va_Qi (fun r u => (r, u) = m_road (va_up F 0 0) Rr p1 p2 p3) (mB D cl h ad dA) (mN h ad)) 0 0 (mN h ad) := by
  refine Met.ofW (cc := cX2_road) (maxL := 6) (ret := (some .int)) (by decide) rfl ?_
  intro p e s m args below meth c s₁ B hml hv
  obtain ⟨rfl, hK, hP, hD⟩ := hv
  have hx := B.exec
  have hb := B.bytes
  have hr := B.returns
  have hts := atoms_spec (ws := (ws_ yX2_road cX2_road 6 (some .int))) B.pre
  have hts : ∀ w ∈ lw_all, w.before _ s = true := fun w h => hts w (List.mem_cons_of_mem _ h)
  have hown : s.vm.findClass RX2 = some m.cls := findClass_of_methodNamed B.named
  have hlocks := B.notSynchronized
  have S : CallFix p m c cX2_road 6 s ([.ref h, .int p1, .int p2, .int p3] : List Value).toArray lw_all RX2 := ⟨hx, hb, hml, hown, hts⟩
  have X : mX p s m ([.ref h, .int p1, .int p2, .int p3] : List Value).toArray c cX2_road 6 D cl dA := ⟨hx, hb, hml, hown, hts, hK, hcl⟩
  have M : mM D cl h ad dA (mN h ad) s F Rr s.heap [] := ⟨hP, mW_self hD, va_S.rf⟩
  have hl := lv_entry ([.ref h, .int p1, .int p2, .int p3]) (n := 6) (Nat.le_of_ble_eq_true rfl)
  rw [lg_entry_eq]
  generalize (lg_sl ([.ref h, .int p1, .int p2, .int p3]) ++ List.replicate (6 - (lg_sl ([.ref h, .int p1, .int p2, .int p3])).length) Slot.unset).toArray = ls at hl ⊢
  have hl : lv_has ls 6 [(0, .ref h), (1, .int p1), (2, .int p2), (3, .int p3)] := hl
  refine lv_aload_n hx hb dX2_road_0 rfl (lv_at hl 0 rfl) ?_
  refine lv_iconst (v := 0) hx hb dX2_road_1 (by decide) ?_
  refine mp_0 X M dX2_road_2 (fun H locs M => ?_)
  refine lv_iload_n hx hb dX2_road_5 rfl (lv_at hl 1 rfl) ?_
  refine s_cI (v := b2i (inB 0 7 p1)) (As := [.int p1]) (rest := []) S (metX2_isTown l p1) (va_cwS 1 hts (lw_S q1810 q1811 q62 q1812) rfl rfl rfl (by decide +kernel) ⟨Nat.le_of_ble_eq_true rfl, Nat.le_of_ble_eq_true rfl⟩) rfl hl.1 rfl (Nat.le_of_ble_eq_true rfl) dX2_road_6 ⟨Nat.zero_le _, Nat.zero_le _⟩ ?_
  refine lz_if_eq (tgt := 42) hx hb dX2_road_9 (by decide) (fun c_1 => ?_) (fun c_1 => ?_)
  · -- c_1: inB 0 7 p1 = false
    refine lv_ldc (v := (-1000001)) hx hb hown (hts _ q1627) dX2_road_42 ?_
    exact W.iret (v := (-1000001)) hx hb hr (fun t9 ht9 hW9 => ⟨⟨_, (va_up F 0 0, Rr), rfl, (by first | (simp [m_road, c_1, up_s, up_n, nI_1, b2i]; done) | (simp_all [m_road]; done) | grind [m_road]), by show va_P _ _ _ t9.heap; rw [ht9]; exact M.1⟩, M.2.2.F ht9⟩) M.2.2.2.2 dX2_road_44
  · -- c_1: inB 0 7 p1 = true
    obtain ⟨a1, ha1, rfl⟩ := inB_ex c_1 (n := 7) rfl
    have ea1 : (nI a1).toNatClampNeg = a1 := nI_clamp (by omega)
    refine lv_iload_n hx hb dX2_road_12 rfl (lv_at hl 2 rfl) ?_
    refine lv_ldc (v := (-1000000)) hx hb hown (hts _ q1430) dX2_road_13 ?_
    refine lv_icmp_eq (tgt := 25) hx hb dX2_road_15 (by decide) (fun c_2 => ?_) (fun c_2 => ?_)
    · -- c_2: p2 = (-1000000)
      refine lv_iload_n hx hb dX2_road_25 rfl (lv_at hl 1 rfl) ?_
      refine lv_iload_n hx hb dX2_road_26 rfl (lv_at hl 2 rfl) ?_
      refine lv_icmp_eq (tgt := 42) hx hb dX2_road_27 (by decide) (fun c_3 => ?_) (fun c_3 => ?_)
      · -- c_3: nI a1 = p2
        refine lv_ldc (v := (-1000001)) hx hb hown (hts _ q1627) dX2_road_42 ?_
        exact W.iret (v := (-1000001)) hx hb hr (fun t9 ht9 hW9 => ⟨⟨_, (va_up F 0 0, Rr), rfl, (by first | (simp [m_road, c_1, ea1, c_2, c_3, up_s, up_n, nI_1, b2i]; done) | (simp_all [m_road]; done) | grind [m_road]), by show va_P _ _ _ t9.heap; rw [ht9]; exact M.1⟩, M.2.2.F ht9⟩) M.2.2.2.2 dX2_road_44
      · -- c_3: nI a1 ≠ p2
        refine lv_iload_n hx hb dX2_road_30 rfl (lv_at hl 3 rfl) ?_
        refine lv_i2l (v := p3.toInt64) hx hb dX2_road_31 rfl ?_
        refine lv_lconst (v := 1) hx hb dX2_road_32 (by decide) ?_
        refine lv_ldc2 (v := 60) hx hb hown (hts _ q1813) dX2_road_33 ?_
        refine s_cI (v := b2i (inB 1 60 p3)) (As := [.long p3.toInt64, .long 1, .long 60]) (rest := []) S (metX2_inI l p3 1 60 p3.toInt64 1 60 rfl rfl rfl) (va_cwS 3 hts (lw_S q1623 q1624 q62 q1625) rfl rfl rfl (by decide +kernel) ⟨Nat.le_of_ble_eq_true rfl, Nat.le_of_ble_eq_true rfl⟩) rfl hl.1 rfl (Nat.le_of_ble_eq_true rfl) dX2_road_36 ⟨Nat.zero_le _, Nat.zero_le _⟩ ?_
        refine lz_if_ne (tgt := 45) hx hb dX2_road_39 (by decide) (fun c_4 => ?_) (fun c_4 => ?_)
        · -- c_4: inB 1 60 p3 = true
          refine lv_iload_n hx hb dX2_road_45 rfl (lv_at hl 2 rfl) ?_
          refine lv_ldc (v := (-1000000)) hx hb hown (hts _ q1430) dX2_road_46 ?_
          refine lv_icmp_ne (tgt := 58) hx hb dX2_road_48 (by decide) (fun c_5 => absurd c_2 c_5) (fun c_5 => ?_)
          refine lv_bipush (v := 64) hx hb dX2_road_51 (by decide) ?_
          refine lv_iload_n hx hb dX2_road_53 rfl (lv_at hl 1 rfl) ?_
          refine lv_iadd hx hb dX2_road_54 ?_
          refine lv_asi (y := nI (64 + a1)) (nI_add 64 a1) ?_
          refine lv_goto (tgt := 64) hx hb dX2_road_55 (by decide) ?_
          refine lv_istore (lv' := [(4, .int (nI (64 + a1))), (0, .ref h), (1, .int (nI a1)), (2, .int p2), (3, .int p3)]) hx hb dX2_road_64 hl (by decide) rfl (fun ls hl => ?_)
          refine lv_aload_n hx hb dX2_road_66 rfl (lv_at hl 1 rfl) ?_
          refine mg_37 X M dX2_road_67 ?_
          refine lv_iload hx hb dX2_road_70 (lv_at hl 0 rfl) ?_
          refine mr_37 X M (f := Rr 37) rfl (j := 64 + a1) (vp_in_nI (by omega) (by omega)) (nI_clamp (by omega)) dX2_road_72 ?_
          refine lv_istore (lv' := [(5, .int (Rr 37 (64 + a1))), (4, .int (nI (64 + a1))), (0, .ref h), (1, .int (nI a1)), (2, .int p2), (3, .int p3)]) hx hb dX2_road_73 hl (by decide) rfl (fun ls hl => ?_)
          refine lv_aload_n hx hb dX2_road_75 rfl (lv_at hl 2 rfl) ?_
          refine mg_37 X M dX2_road_76 ?_
          refine lv_iload hx hb dX2_road_79 (lv_at hl 1 rfl) ?_
          refine lv_iload_n hx hb dX2_road_81 rfl (lv_at hl 5 rfl) ?_
          refine ms_37 X M (j := 64 + a1) (vp_in_nI (by omega) (by omega)) (nI_clamp (by omega)) dX2_road_82 (fun H locs M => ?_)
          refine lv_iload_n hx hb dX2_road_83 rfl (lv_at hl 4 rfl) ?_
          refine lv_ldc (v := (-1000000)) hx hb hown (hts _ q1430) dX2_road_84 ?_
          refine lv_icmp_eq (tgt := 101) hx hb dX2_road_86 (by decide) (fun c_6 => ?_) (fun c_6 => absurd c_2 c_6)
          refine lv_iload hx hb dX2_road_101 (lv_at hl 0 rfl) ?_
          exact W.iret (v := Rr 37 (64 + a1)) hx hb hr (fun t9 ht9 hW9 => ⟨⟨_, (va_up F 0 0, mset Rr 37 (64 + a1) p3), rfl, (by first | (simp [m_road, c_1, ea1, c_2, c_3, c_4, up_s, up_n, nI_1, b2i]; done) | (simp_all [m_road]; done) | grind [m_road]), by show va_P _ _ _ t9.heap; rw [ht9]; exact M.1⟩, M.2.2.F ht9⟩) M.2.2.2.2 dX2_road_103
        · -- c_4: inB 1 60 p3 = false
          refine lv_ldc (v := (-1000001)) hx hb hown (hts _ q1627) dX2_road_42 ?_
          exact W.iret (v := (-1000001)) hx hb hr (fun t9 ht9 hW9 => ⟨⟨_, (va_up F 0 0, Rr), rfl, (by first | (simp [m_road, c_1, ea1, c_2, c_3, c_4, up_s, up_n, nI_1, b2i]; done) | (simp_all [m_road]; done) | grind [m_road]), by show va_P _ _ _ t9.heap; rw [ht9]; exact M.1⟩, M.2.2.F ht9⟩) M.2.2.2.2 dX2_road_44
    · -- c_2: p2 ≠ (-1000000)
      refine lv_iload_n hx hb dX2_road_18 rfl (lv_at hl 2 rfl) ?_
      refine s_cI (v := b2i (inB 0 7 p2)) (As := [.int p2]) (rest := []) S (metX2_isTown l p2) (va_cwS 1 hts (lw_S q1810 q1811 q62 q1812) rfl rfl rfl (by decide +kernel) ⟨Nat.le_of_ble_eq_true rfl, Nat.le_of_ble_eq_true rfl⟩) rfl hl.1 rfl (Nat.le_of_ble_eq_true rfl) dX2_road_19 ⟨Nat.zero_le _, Nat.zero_le _⟩ ?_
      refine lz_if_eq (tgt := 42) hx hb dX2_road_22 (by decide) (fun c_7 => ?_) (fun c_7 => ?_)
      · -- c_7: inB 0 7 p2 = false
        refine lv_ldc (v := (-1000001)) hx hb hown (hts _ q1627) dX2_road_42 ?_
        exact W.iret (v := (-1000001)) hx hb hr (fun t9 ht9 hW9 => ⟨⟨_, (va_up F 0 0, Rr), rfl, (by first | (simp [m_road, c_1, ea1, c_2, c_7, up_s, up_n, nI_1, b2i]; done) | (simp_all [m_road]; done) | grind [m_road]), by show va_P _ _ _ t9.heap; rw [ht9]; exact M.1⟩, M.2.2.F ht9⟩) M.2.2.2.2 dX2_road_44
      · -- c_7: inB 0 7 p2 = true
        obtain ⟨b1, hb1, rfl⟩ := inB_ex c_7 (n := 7) rfl
        have eb1 : (nI b1).toNatClampNeg = b1 := nI_clamp (by omega)
        refine lv_iload_n hx hb dX2_road_25 rfl (lv_at hl 1 rfl) ?_
        refine lv_iload_n hx hb dX2_road_26 rfl (lv_at hl 2 rfl) ?_
        refine lv_icmp_eq (tgt := 42) hx hb dX2_road_27 (by decide) (fun c_8 => ?_) (fun c_8 => ?_)
        · -- c_8: nI a1 = nI b1
          refine lv_ldc (v := (-1000001)) hx hb hown (hts _ q1627) dX2_road_42 ?_
          exact W.iret (v := (-1000001)) hx hb hr (fun t9 ht9 hW9 => ⟨⟨_, (va_up F 0 0, Rr), rfl, (by first | (simp [m_road, c_1, ea1, c_2, c_7, eb1, c_8, up_s, up_n, nI_1, b2i]; done) | (simp_all [m_road]; done) | grind [m_road]), by show va_P _ _ _ t9.heap; rw [ht9]; exact M.1⟩, M.2.2.F ht9⟩) M.2.2.2.2 dX2_road_44
        · -- c_8: nI a1 ≠ nI b1
          refine lv_iload_n hx hb dX2_road_30 rfl (lv_at hl 3 rfl) ?_
          refine lv_i2l (v := p3.toInt64) hx hb dX2_road_31 rfl ?_
          refine lv_lconst (v := 1) hx hb dX2_road_32 (by decide) ?_
          refine lv_ldc2 (v := 60) hx hb hown (hts _ q1813) dX2_road_33 ?_
          refine s_cI (v := b2i (inB 1 60 p3)) (As := [.long p3.toInt64, .long 1, .long 60]) (rest := []) S (metX2_inI l p3 1 60 p3.toInt64 1 60 rfl rfl rfl) (va_cwS 3 hts (lw_S q1623 q1624 q62 q1625) rfl rfl rfl (by decide +kernel) ⟨Nat.le_of_ble_eq_true rfl, Nat.le_of_ble_eq_true rfl⟩) rfl hl.1 rfl (Nat.le_of_ble_eq_true rfl) dX2_road_36 ⟨Nat.zero_le _, Nat.zero_le _⟩ ?_
          refine lz_if_ne (tgt := 45) hx hb dX2_road_39 (by decide) (fun c_9 => ?_) (fun c_9 => ?_)
          · -- c_9: inB 1 60 p3 = true
            refine lv_iload_n hx hb dX2_road_45 rfl (lv_at hl 2 rfl) ?_
            refine lv_ldc (v := (-1000000)) hx hb hown (hts _ q1430) dX2_road_46 ?_
            refine lv_icmp_ne (tgt := 58) hx hb dX2_road_48 (by decide) (fun c_10 => ?_) (fun c_10 => absurd c_10 c_2)
            refine lv_bipush (v := 8) hx hb dX2_road_58 (by decide) ?_
            refine lv_iload_n hx hb dX2_road_60 rfl (lv_at hl 1 rfl) ?_
            refine lv_imul hx hb dX2_road_61 ?_
            refine lv_asi (y := nI (8 * a1)) (nI_mul 8 a1) ?_
            refine lv_iload_n hx hb dX2_road_62 rfl (lv_at hl 2 rfl) ?_
            refine lv_iadd hx hb dX2_road_63 ?_
            refine lv_asi (y := nI ((8 * a1) + b1)) (nI_add (8 * a1) b1) ?_
            refine lv_istore (lv' := [(4, .int (nI ((8 * a1) + b1))), (0, .ref h), (1, .int (nI a1)), (2, .int (nI b1)), (3, .int p3)]) hx hb dX2_road_64 hl (by decide) rfl (fun ls hl => ?_)
            refine lv_aload_n hx hb dX2_road_66 rfl (lv_at hl 1 rfl) ?_
            refine mg_37 X M dX2_road_67 ?_
            refine lv_iload hx hb dX2_road_70 (lv_at hl 0 rfl) ?_
            refine mr_37 X M (f := Rr 37) rfl (j := (8 * a1) + b1) (vp_in_nI (by omega) (by omega)) (nI_clamp (by omega)) dX2_road_72 ?_
            refine lv_istore (lv' := [(5, .int (Rr 37 ((8 * a1) + b1))), (4, .int (nI ((8 * a1) + b1))), (0, .ref h), (1, .int (nI a1)), (2, .int (nI b1)), (3, .int p3)]) hx hb dX2_road_73 hl (by decide) rfl (fun ls hl => ?_)
            refine lv_aload_n hx hb dX2_road_75 rfl (lv_at hl 2 rfl) ?_
            refine mg_37 X M dX2_road_76 ?_
            refine lv_iload hx hb dX2_road_79 (lv_at hl 1 rfl) ?_
            refine lv_iload_n hx hb dX2_road_81 rfl (lv_at hl 5 rfl) ?_
            refine ms_37 X M (j := (8 * a1) + b1) (vp_in_nI (by omega) (by omega)) (nI_clamp (by omega)) dX2_road_82 (fun H locs M => ?_)
            refine lv_iload_n hx hb dX2_road_83 rfl (lv_at hl 4 rfl) ?_
            refine lv_ldc (v := (-1000000)) hx hb hown (hts _ q1430) dX2_road_84 ?_
            refine lv_icmp_eq (tgt := 101) hx hb dX2_road_86 (by decide) (fun c_11 => absurd c_11 c_2) (fun c_11 => ?_)
            refine lv_aload_n hx hb dX2_road_89 rfl (lv_at hl 2 rfl) ?_
            refine mg_37 X M dX2_road_90 ?_
            refine lv_bipush (v := 8) hx hb dX2_road_93 (by decide) ?_
            refine lv_iload_n hx hb dX2_road_95 rfl (lv_at hl 4 rfl) ?_
            refine lv_imul hx hb dX2_road_96 ?_
            refine lv_asi (y := nI (8 * b1)) (nI_mul 8 b1) ?_
            refine lv_iload_n hx hb dX2_road_97 rfl (lv_at hl 3 rfl) ?_
            refine lv_iadd hx hb dX2_road_98 ?_
            refine lv_asi (y := nI ((8 * b1) + a1)) (nI_add (8 * b1) a1) ?_
            refine lv_iload_n hx hb dX2_road_99 rfl (lv_at hl 5 rfl) ?_
            refine ms_37 X M (j := (8 * b1) + a1) (vp_in_nI (by omega) (by omega)) (nI_clamp (by omega)) dX2_road_100 (fun H locs M => ?_)
            refine lv_iload hx hb dX2_road_101 (lv_at hl 0 rfl) ?_
            exact W.iret (v := Rr 37 ((8 * a1) + b1)) hx hb hr (fun t9 ht9 hW9 => ⟨⟨_, (va_up F 0 0, mset (mset Rr 37 ((8 * a1) + b1) p3) 37 ((8 * b1) + a1) p3), rfl, (by first | (simp [m_road, c_1, ea1, c_2, c_7, eb1, c_8, c_9, up_s, up_n, nI_1, b2i]; done) | (simp_all [m_road]; done) | grind [m_road]), by show va_P _ _ _ t9.heap; rw [ht9]; exact M.1⟩, M.2.2.F ht9⟩) M.2.2.2.2 dX2_road_103
          · -- c_9: inB 1 60 p3 = false
            refine lv_ldc (v := (-1000001)) hx hb hown (hts _ q1627) dX2_road_42 ?_
            exact W.iret (v := (-1000001)) hx hb hr (fun t9 ht9 hW9 => ⟨⟨_, (va_up F 0 0, Rr), rfl, (by first | (simp [m_road, c_1, ea1, c_2, c_7, eb1, c_8, c_9, up_s, up_n, nI_1, b2i]; done) | (simp_all [m_road]; done) | grind [m_road]), by show va_P _ _ _ t9.heap; rw [ht9]; exact M.1⟩, M.2.2.F ht9⟩) M.2.2.2.2 dX2_road_44

def m_sick (F : Nat → Int32) (Rr : Nat → Nat → Int32) (p1 p2 p3 : Int32) : Int32 × mST := if inB 0 7 p1 = false ∨ inB 0 999 p2 = false ∨ inB p2 999 p3 = false then ((-1000001), F, Rr) else if F 38 = 20 then ((-1000003), F, Rr) else (F 38 + 1, va_up F 38 (F 38 + 1), (mset (mset (mset Rr 39 (F 38).toNatClampNeg p1) 40 (F 38).toNatClampNeg p2) 41 (F 38).toNatClampNeg p3))
set_option maxHeartbeats 4000000 in
set_option maxRecDepth 100000 in
theorem metX2_sick (l : Launch) (D : va_G) (cl : List vw_C) (hcl : cl[0]? = some (RX2, TX2, 61)) (h : Nat) (ad : Nat → Nat) (dA : ClassId) (F : Nat → Int32) (Rr : Nat → Nat → Int32) (p1 : Int32) (p2 : Int32) (p3 : Int32) (h38 : cnB (F 38) 20) : Met l yX2_sick (ws_ yX2_sick cX2_sick 4 (some .int)) ({ frames := 2, cells := 0, slots := 0, locals := 45 } : Room) (va_Pc [.ref h, .int p1, .int p2, .int p3] (mPre D cl h ad dA F Rr)) (va_Qi (fun r u => (r, u) = m_sick (va_up F 0 0) Rr p1 p2 p3) (mB D cl h ad dA) (mN h ad)) 0 0 (mN h ad) := by
  refine Met.ofW (cc := cX2_sick) (maxL := 4) (ret := (some .int)) (by decide) rfl ?_
  intro p e s m args below meth c s₁ B hml hv
  obtain ⟨rfl, hK, hP, hD⟩ := hv
  have hx := B.exec
  have hb := B.bytes
  have hr := B.returns
  have hts := atoms_spec (ws := (ws_ yX2_sick cX2_sick 4 (some .int))) B.pre
  have hts : ∀ w ∈ lw_all, w.before _ s = true := fun w h => hts w (List.mem_cons_of_mem _ h)
  have hown : s.vm.findClass RX2 = some m.cls := findClass_of_methodNamed B.named
  have hlocks := B.notSynchronized
  have S : CallFix p m c cX2_sick 4 s ([.ref h, .int p1, .int p2, .int p3] : List Value).toArray lw_all RX2 := ⟨hx, hb, hml, hown, hts⟩
  have X : mX p s m ([.ref h, .int p1, .int p2, .int p3] : List Value).toArray c cX2_sick 4 D cl dA := ⟨hx, hb, hml, hown, hts, hK, hcl⟩
  have M : mM D cl h ad dA (mN h ad) s F Rr s.heap [] := ⟨hP, mW_self hD, va_S.rf⟩
  have hl := lv_entry ([.ref h, .int p1, .int p2, .int p3]) (n := 4) (Nat.le_of_ble_eq_true rfl)
  rw [lg_entry_eq]
  generalize (lg_sl ([.ref h, .int p1, .int p2, .int p3]) ++ List.replicate (4 - (lg_sl ([.ref h, .int p1, .int p2, .int p3])).length) Slot.unset).toArray = ls at hl ⊢
  have hl : lv_has ls 4 [(0, .ref h), (1, .int p1), (2, .int p2), (3, .int p3)] := hl
  obtain ⟨n38, hn38, en38⟩ := cnB_ex h38 (n := 20) rfl
  have em38 : (F 38).toNatClampNeg = n38 := by rw [en38]; exact nI_clamp (by omega)
  have ec38 : (nI n38).toNatClampNeg = n38 := nI_clamp (by omega)
  refine lv_aload_n hx hb dX2_sick_0 rfl (lv_at hl 0 rfl) ?_
  refine lv_iconst (v := 0) hx hb dX2_sick_1 (by decide) ?_
  refine mp_0 X M dX2_sick_2 (fun H locs M => ?_)
  refine lv_iload_n hx hb dX2_sick_5 rfl (lv_at hl 1 rfl) ?_
  refine s_cI (v := b2i (inB 0 7 p1)) (As := [.int p1]) (rest := []) S (metX2_isTown l p1) (va_cwS 1 hts (lw_S q1810 q1811 q62 q1812) rfl rfl rfl (by decide +kernel) ⟨Nat.le_of_ble_eq_true rfl, Nat.le_of_ble_eq_true rfl⟩) rfl hl.1 rfl (Nat.le_of_ble_eq_true rfl) dX2_sick_6 ⟨Nat.zero_le _, Nat.zero_le _⟩ ?_
  refine lz_if_eq (tgt := 32) hx hb dX2_sick_9 (by decide) (fun c_1 => ?_) (fun c_1 => ?_)
  · -- c_1: inB 0 7 p1 = false
    refine lv_ldc (v := (-1000001)) hx hb hown (hts _ q1627) dX2_sick_32 ?_
    exact W.iret (v := (-1000001)) hx hb hr (fun t9 ht9 hW9 => ⟨⟨_, (va_up F 0 0, Rr), rfl, (by first | (simp [m_sick, en38, ec38, c_1, up_s, up_n, nI_1, b2i]; done) | (simp_all [m_sick]; done) | grind [m_sick]), by show va_P _ _ _ t9.heap; rw [ht9]; exact M.1⟩, M.2.2.F ht9⟩) M.2.2.2.2 dX2_sick_34
  · -- c_1: inB 0 7 p1 = true
    refine lv_iload_n hx hb dX2_sick_12 rfl (lv_at hl 2 rfl) ?_
    refine s_cI (v := b2i (inB 0 999 p2)) (As := [.int p2]) (rest := []) S (metX2_isDay l p2) (va_cwS 1 hts (lw_S q1736 q1737 q62 q1738) rfl rfl rfl (by decide +kernel) ⟨Nat.le_of_ble_eq_true rfl, Nat.le_of_ble_eq_true rfl⟩) rfl hl.1 rfl (Nat.le_of_ble_eq_true rfl) dX2_sick_13 ⟨Nat.zero_le _, Nat.zero_le _⟩ ?_
    refine lz_if_eq (tgt := 32) hx hb dX2_sick_16 (by decide) (fun c_2 => ?_) (fun c_2 => ?_)
    · -- c_2: inB 0 999 p2 = false
      refine lv_ldc (v := (-1000001)) hx hb hown (hts _ q1627) dX2_sick_32 ?_
      exact W.iret (v := (-1000001)) hx hb hr (fun t9 ht9 hW9 => ⟨⟨_, (va_up F 0 0, Rr), rfl, (by first | (simp [m_sick, en38, ec38, c_1, c_2, up_s, up_n, nI_1, b2i]; done) | (simp_all [m_sick]; done) | grind [m_sick]), by show va_P _ _ _ t9.heap; rw [ht9]; exact M.1⟩, M.2.2.F ht9⟩) M.2.2.2.2 dX2_sick_34
    · -- c_2: inB 0 999 p2 = true
      refine lv_iload_n hx hb dX2_sick_19 rfl (lv_at hl 3 rfl) ?_
      refine lv_i2l (v := p3.toInt64) hx hb dX2_sick_20 rfl ?_
      refine lv_iload_n hx hb dX2_sick_21 rfl (lv_at hl 2 rfl) ?_
      refine lv_i2l (v := p2.toInt64) hx hb dX2_sick_22 rfl ?_
      refine lv_ldc2 (v := 999) hx hb hown (hts _ q1670) dX2_sick_23 ?_
      refine s_cI (v := b2i (inB p2 999 p3)) (As := [.long p3.toInt64, .long p2.toInt64, .long 999]) (rest := []) S (metX2_inI l p3 p2 999 p3.toInt64 p2.toInt64 999 rfl rfl rfl) (va_cwS 3 hts (lw_S q1623 q1624 q62 q1625) rfl rfl rfl (by decide +kernel) ⟨Nat.le_of_ble_eq_true rfl, Nat.le_of_ble_eq_true rfl⟩) rfl hl.1 rfl (Nat.le_of_ble_eq_true rfl) dX2_sick_26 ⟨Nat.zero_le _, Nat.zero_le _⟩ ?_
      refine lz_if_ne (tgt := 35) hx hb dX2_sick_29 (by decide) (fun c_3 => ?_) (fun c_3 => ?_)
      · -- c_3: inB p2 999 p3 = true
        refine lv_aload_n hx hb dX2_sick_35 rfl (lv_at hl 0 rfl) ?_
        refine mg_38 X M (v := F 38) rfl dX2_sick_36 ?_
        refine lv_asi (y := nI n38) en38 ?_
        refine lv_bipush (v := 20) hx hb dX2_sick_39 (by decide) ?_
        refine lv_icmp_ne (tgt := 47) hx hb dX2_sick_41 (by decide) (fun c_4 => ?_) (fun c_4 => ?_)
        · -- c_4: nI n38 ≠ 20
          have hn38b : n38 < 20 := nI_lt_ne (N := 20) c_4 hn38
          refine lv_aload_n hx hb dX2_sick_47 rfl (lv_at hl 0 rfl) ?_
          refine mg_39 X M dX2_sick_48 ?_
          refine lv_aload_n hx hb dX2_sick_51 rfl (lv_at hl 0 rfl) ?_
          refine mg_38 X M (v := F 38) rfl dX2_sick_52 ?_
          refine lv_asi (y := nI n38) en38 ?_
          refine lv_iload_n hx hb dX2_sick_55 rfl (lv_at hl 1 rfl) ?_
          refine ms_39 X M (j := n38) (vp_in_nI (by omega) (by omega)) (nI_clamp (by omega)) dX2_sick_56 (fun H locs M => ?_)
          refine lv_aload_n hx hb dX2_sick_57 rfl (lv_at hl 0 rfl) ?_
          refine mg_40 X M dX2_sick_58 ?_
          refine lv_aload_n hx hb dX2_sick_61 rfl (lv_at hl 0 rfl) ?_
          refine mg_38 X M (v := F 38) rfl dX2_sick_62 ?_
          refine lv_asi (y := nI n38) en38 ?_
          refine lv_iload_n hx hb dX2_sick_65 rfl (lv_at hl 2 rfl) ?_
          refine ms_40 X M (j := n38) (vp_in_nI (by omega) (by omega)) (nI_clamp (by omega)) dX2_sick_66 (fun H locs M => ?_)
          refine lv_aload_n hx hb dX2_sick_67 rfl (lv_at hl 0 rfl) ?_
          refine mg_41 X M dX2_sick_68 ?_
          refine lv_aload_n hx hb dX2_sick_71 rfl (lv_at hl 0 rfl) ?_
          refine mg_38 X M (v := F 38) rfl dX2_sick_72 ?_
          refine lv_asi (y := nI n38) en38 ?_
          refine lv_iload_n hx hb dX2_sick_75 rfl (lv_at hl 3 rfl) ?_
          refine ms_41 X M (j := n38) (vp_in_nI (by omega) (by omega)) (nI_clamp (by omega)) dX2_sick_76 (fun H locs M => ?_)
          refine lv_aload_n hx hb dX2_sick_77 rfl (lv_at hl 0 rfl) ?_
          refine lv_dup hx hb dX2_sick_78 rfl ?_
          refine mg_38 X M (v := F 38) rfl dX2_sick_79 ?_
          refine lv_asi (y := nI n38) en38 ?_
          refine lv_iconst (v := 1) hx hb dX2_sick_82 (by decide) ?_
          refine lv_iadd hx hb dX2_sick_83 ?_
          refine lv_asi (y := nI (n38 + 1)) (nI_add n38 1) ?_
          refine mp_38 X M dX2_sick_84 (fun H locs M => ?_)
          refine lv_aload_n hx hb dX2_sick_87 rfl (lv_at hl 0 rfl) ?_
          refine mg_38 X M (v := nI (n38 + 1)) rfl dX2_sick_88 ?_
          exact W.iret (v := nI (n38 + 1)) hx hb hr (fun t9 ht9 hW9 => ⟨⟨_, (va_up (va_up F 0 0) 38 (nI (n38 + 1)), mset (mset (mset Rr 39 n38 p1) 40 n38 p2) 41 n38 p3), rfl, (by first | (simp [m_sick, en38, ec38, c_1, c_2, c_3, c_4, up_s, up_n, nI_1, b2i]; done) | (simp_all [m_sick]; done) | grind [m_sick]), by show va_P _ _ _ t9.heap; rw [ht9]; exact M.1⟩, M.2.2.F ht9⟩) M.2.2.2.2 dX2_sick_91
        · -- c_4: nI n38 = 20
          refine lv_ldc (v := (-1000003)) hx hb hown (hts _ q1675) dX2_sick_44 ?_
          exact W.iret (v := (-1000003)) hx hb hr (fun t9 ht9 hW9 => ⟨⟨_, (va_up F 0 0, Rr), rfl, (by first | (simp [m_sick, en38, ec38, c_1, c_2, c_3, c_4, up_s, up_n, nI_1, b2i]; done) | (simp_all [m_sick]; done) | grind [m_sick]), by show va_P _ _ _ t9.heap; rw [ht9]; exact M.1⟩, M.2.2.F ht9⟩) M.2.2.2.2 dX2_sick_46
      · -- c_3: inB p2 999 p3 = false
        refine lv_ldc (v := (-1000001)) hx hb hown (hts _ q1627) dX2_sick_32 ?_
        exact W.iret (v := (-1000001)) hx hb hr (fun t9 ht9 hW9 => ⟨⟨_, (va_up F 0 0, Rr), rfl, (by first | (simp [m_sick, en38, ec38, c_1, c_2, c_3, up_s, up_n, nI_1, b2i]; done) | (simp_all [m_sick]; done) | grind [m_sick]), by show va_P _ _ _ t9.heap; rw [ht9]; exact M.1⟩, M.2.2.F ht9⟩) M.2.2.2.2 dX2_sick_34

def m_guest (F : Nat → Int32) (Rr : Nat → Nat → Int32) (p1 p2 p3 p4 : Int32) : Int32 × mST := if inB 0 11 p1 = false ∨ inB 0 7 p2 = false ∨ inB 0 999 p3 = false ∨ inB p3 999 p4 = false then ((-1000001), F, Rr) else if F 48 = 40 then ((-1000003), F, Rr) else (F 48 + 1, va_up F 48 (F 48 + 1), (mset (mset (mset (mset Rr 49 (F 48).toNatClampNeg p1) 50 (F 48).toNatClampNeg p2) 51 (F 48).toNatClampNeg p3) 52 (F 48).toNatClampNeg p4))
set_option maxHeartbeats 4000000 in
set_option maxRecDepth 100000 in
theorem metX2_guest (l : Launch) (D : va_G) (cl : List vw_C) (hcl : cl[0]? = some (RX2, TX2, 61)) (h : Nat) (ad : Nat → Nat) (dA : ClassId) (F : Nat → Int32) (Rr : Nat → Nat → Int32) (p1 : Int32) (p2 : Int32) (p3 : Int32) (p4 : Int32) (h48 : cnB (F 48) 40) : Met l yX2_guest (ws_ yX2_guest cX2_guest 5 (some .int)) ({ frames := 2, cells := 0, slots := 0, locals := 45 } : Room) (va_Pc [.ref h, .int p1, .int p2, .int p3, .int p4] (mPre D cl h ad dA F Rr)) (va_Qi (fun r u => (r, u) = m_guest (va_up F 0 0) Rr p1 p2 p3 p4) (mB D cl h ad dA) (mN h ad)) 0 0 (mN h ad) := by
  refine Met.ofW (cc := cX2_guest) (maxL := 5) (ret := (some .int)) (by decide) rfl ?_
  intro p e s m args below meth c s₁ B hml hv
  obtain ⟨rfl, hK, hP, hD⟩ := hv
  have hx := B.exec
  have hb := B.bytes
  have hr := B.returns
  have hts := atoms_spec (ws := (ws_ yX2_guest cX2_guest 5 (some .int))) B.pre
  have hts : ∀ w ∈ lw_all, w.before _ s = true := fun w h => hts w (List.mem_cons_of_mem _ h)
  have hown : s.vm.findClass RX2 = some m.cls := findClass_of_methodNamed B.named
  have hlocks := B.notSynchronized
  have S : CallFix p m c cX2_guest 5 s ([.ref h, .int p1, .int p2, .int p3, .int p4] : List Value).toArray lw_all RX2 := ⟨hx, hb, hml, hown, hts⟩
  have X : mX p s m ([.ref h, .int p1, .int p2, .int p3, .int p4] : List Value).toArray c cX2_guest 5 D cl dA := ⟨hx, hb, hml, hown, hts, hK, hcl⟩
  have M : mM D cl h ad dA (mN h ad) s F Rr s.heap [] := ⟨hP, mW_self hD, va_S.rf⟩
  have hl := lv_entry ([.ref h, .int p1, .int p2, .int p3, .int p4]) (n := 5) (Nat.le_of_ble_eq_true rfl)
  rw [lg_entry_eq]
  generalize (lg_sl ([.ref h, .int p1, .int p2, .int p3, .int p4]) ++ List.replicate (5 - (lg_sl ([.ref h, .int p1, .int p2, .int p3, .int p4])).length) Slot.unset).toArray = ls at hl ⊢
  have hl : lv_has ls 5 [(0, .ref h), (1, .int p1), (2, .int p2), (3, .int p3), (4, .int p4)] := hl
  obtain ⟨n48, hn48, en48⟩ := cnB_ex h48 (n := 40) rfl
  have em48 : (F 48).toNatClampNeg = n48 := by rw [en48]; exact nI_clamp (by omega)
  have ec48 : (nI n48).toNatClampNeg = n48 := nI_clamp (by omega)
  refine lv_aload_n hx hb dX2_guest_0 rfl (lv_at hl 0 rfl) ?_
  refine lv_iconst (v := 0) hx hb dX2_guest_1 (by decide) ?_
  refine mp_0 X M dX2_guest_2 (fun H locs M => ?_)
  refine lv_iload_n hx hb dX2_guest_5 rfl (lv_at hl 1 rfl) ?_
  refine s_cI (v := b2i (inB 0 11 p1)) (As := [.int p1]) (rest := []) S (metX2_isPerson l p1) (va_cwS 1 hts (lw_S q1823 q1824 q62 q1825) rfl rfl rfl (by decide +kernel) ⟨Nat.le_of_ble_eq_true rfl, Nat.le_of_ble_eq_true rfl⟩) rfl hl.1 rfl (Nat.le_of_ble_eq_true rfl) dX2_guest_6 ⟨Nat.zero_le _, Nat.zero_le _⟩ ?_
  refine lz_if_eq (tgt := 45) hx hb dX2_guest_9 (by decide) (fun c_1 => ?_) (fun c_1 => ?_)
  · -- c_1: inB 0 11 p1 = false
    refine lv_ldc (v := (-1000001)) hx hb hown (hts _ q1627) dX2_guest_45 ?_
    exact W.iret (v := (-1000001)) hx hb hr (fun t9 ht9 hW9 => ⟨⟨_, (va_up F 0 0, Rr), rfl, (by first | (simp [m_guest, en48, ec48, c_1, up_s, up_n, nI_1, b2i]; done) | (simp_all [m_guest]; done) | grind [m_guest]), by show va_P _ _ _ t9.heap; rw [ht9]; exact M.1⟩, M.2.2.F ht9⟩) M.2.2.2.2 dX2_guest_47
  · -- c_1: inB 0 11 p1 = true
    refine lv_iload_n hx hb dX2_guest_12 rfl (lv_at hl 2 rfl) ?_
    refine lv_i2l (v := p2.toInt64) hx hb dX2_guest_13 rfl ?_
    refine lv_lconst (v := 0) hx hb dX2_guest_14 (by decide) ?_
    refine lv_ldc2 (v := 7) hx hb hown (hts _ q1622) dX2_guest_15 ?_
    refine s_cI (v := b2i (inB 0 7 p2)) (As := [.long p2.toInt64, .long 0, .long 7]) (rest := []) S (metX2_inI l p2 0 7 p2.toInt64 0 7 rfl rfl rfl) (va_cwS 3 hts (lw_S q1623 q1624 q62 q1625) rfl rfl rfl (by decide +kernel) ⟨Nat.le_of_ble_eq_true rfl, Nat.le_of_ble_eq_true rfl⟩) rfl hl.1 rfl (Nat.le_of_ble_eq_true rfl) dX2_guest_18 ⟨Nat.zero_le _, Nat.zero_le _⟩ ?_
    refine lz_if_eq (tgt := 45) hx hb dX2_guest_21 (by decide) (fun c_2 => ?_) (fun c_2 => ?_)
    · -- c_2: inB 0 7 p2 = false
      refine lv_ldc (v := (-1000001)) hx hb hown (hts _ q1627) dX2_guest_45 ?_
      exact W.iret (v := (-1000001)) hx hb hr (fun t9 ht9 hW9 => ⟨⟨_, (va_up F 0 0, Rr), rfl, (by first | (simp [m_guest, en48, ec48, c_1, c_2, up_s, up_n, nI_1, b2i]; done) | (simp_all [m_guest]; done) | grind [m_guest]), by show va_P _ _ _ t9.heap; rw [ht9]; exact M.1⟩, M.2.2.F ht9⟩) M.2.2.2.2 dX2_guest_47
    · -- c_2: inB 0 7 p2 = true
      refine lv_iload_n hx hb dX2_guest_24 rfl (lv_at hl 3 rfl) ?_
      refine s_cI (v := b2i (inB 0 999 p3)) (As := [.int p3]) (rest := []) S (metX2_isDay l p3) (va_cwS 1 hts (lw_S q1736 q1737 q62 q1738) rfl rfl rfl (by decide +kernel) ⟨Nat.le_of_ble_eq_true rfl, Nat.le_of_ble_eq_true rfl⟩) rfl hl.1 rfl (Nat.le_of_ble_eq_true rfl) dX2_guest_25 ⟨Nat.zero_le _, Nat.zero_le _⟩ ?_
      refine lz_if_eq (tgt := 45) hx hb dX2_guest_28 (by decide) (fun c_3 => ?_) (fun c_3 => ?_)
      · -- c_3: inB 0 999 p3 = false
        refine lv_ldc (v := (-1000001)) hx hb hown (hts _ q1627) dX2_guest_45 ?_
        exact W.iret (v := (-1000001)) hx hb hr (fun t9 ht9 hW9 => ⟨⟨_, (va_up F 0 0, Rr), rfl, (by first | (simp [m_guest, en48, ec48, c_1, c_2, c_3, up_s, up_n, nI_1, b2i]; done) | (simp_all [m_guest]; done) | grind [m_guest]), by show va_P _ _ _ t9.heap; rw [ht9]; exact M.1⟩, M.2.2.F ht9⟩) M.2.2.2.2 dX2_guest_47
      · -- c_3: inB 0 999 p3 = true
        refine lv_iload hx hb dX2_guest_31 (lv_at hl 4 rfl) ?_
        refine lv_i2l (v := p4.toInt64) hx hb dX2_guest_33 rfl ?_
        refine lv_iload_n hx hb dX2_guest_34 rfl (lv_at hl 3 rfl) ?_
        refine lv_i2l (v := p3.toInt64) hx hb dX2_guest_35 rfl ?_
        refine lv_ldc2 (v := 999) hx hb hown (hts _ q1670) dX2_guest_36 ?_
        refine s_cI (v := b2i (inB p3 999 p4)) (As := [.long p4.toInt64, .long p3.toInt64, .long 999]) (rest := []) S (metX2_inI l p4 p3 999 p4.toInt64 p3.toInt64 999 rfl rfl rfl) (va_cwS 3 hts (lw_S q1623 q1624 q62 q1625) rfl rfl rfl (by decide +kernel) ⟨Nat.le_of_ble_eq_true rfl, Nat.le_of_ble_eq_true rfl⟩) rfl hl.1 rfl (Nat.le_of_ble_eq_true rfl) dX2_guest_39 ⟨Nat.zero_le _, Nat.zero_le _⟩ ?_
        refine lz_if_ne (tgt := 48) hx hb dX2_guest_42 (by decide) (fun c_4 => ?_) (fun c_4 => ?_)
        · -- c_4: inB p3 999 p4 = true
          refine lv_aload_n hx hb dX2_guest_48 rfl (lv_at hl 0 rfl) ?_
          refine mg_48 X M (v := F 48) rfl dX2_guest_49 ?_
          refine lv_asi (y := nI n48) en48 ?_
          refine lv_bipush (v := 40) hx hb dX2_guest_52 (by decide) ?_
          refine lv_icmp_ne (tgt := 60) hx hb dX2_guest_54 (by decide) (fun c_5 => ?_) (fun c_5 => ?_)
          · -- c_5: nI n48 ≠ 40
            have hn48b : n48 < 40 := nI_lt_ne (N := 40) c_5 hn48
            refine lv_aload_n hx hb dX2_guest_60 rfl (lv_at hl 0 rfl) ?_
            refine mg_49 X M dX2_guest_61 ?_
            refine lv_aload_n hx hb dX2_guest_64 rfl (lv_at hl 0 rfl) ?_
            refine mg_48 X M (v := F 48) rfl dX2_guest_65 ?_
            refine lv_asi (y := nI n48) en48 ?_
            refine lv_iload_n hx hb dX2_guest_68 rfl (lv_at hl 1 rfl) ?_
            refine ms_49 X M (j := n48) (vp_in_nI (by omega) (by omega)) (nI_clamp (by omega)) dX2_guest_69 (fun H locs M => ?_)
            refine lv_aload_n hx hb dX2_guest_70 rfl (lv_at hl 0 rfl) ?_
            refine mg_50 X M dX2_guest_71 ?_
            refine lv_aload_n hx hb dX2_guest_74 rfl (lv_at hl 0 rfl) ?_
            refine mg_48 X M (v := F 48) rfl dX2_guest_75 ?_
            refine lv_asi (y := nI n48) en48 ?_
            refine lv_iload_n hx hb dX2_guest_78 rfl (lv_at hl 2 rfl) ?_
            refine ms_50 X M (j := n48) (vp_in_nI (by omega) (by omega)) (nI_clamp (by omega)) dX2_guest_79 (fun H locs M => ?_)
            refine lv_aload_n hx hb dX2_guest_80 rfl (lv_at hl 0 rfl) ?_
            refine mg_51 X M dX2_guest_81 ?_
            refine lv_aload_n hx hb dX2_guest_84 rfl (lv_at hl 0 rfl) ?_
            refine mg_48 X M (v := F 48) rfl dX2_guest_85 ?_
            refine lv_asi (y := nI n48) en48 ?_
            refine lv_iload_n hx hb dX2_guest_88 rfl (lv_at hl 3 rfl) ?_
            refine ms_51 X M (j := n48) (vp_in_nI (by omega) (by omega)) (nI_clamp (by omega)) dX2_guest_89 (fun H locs M => ?_)
            refine lv_aload_n hx hb dX2_guest_90 rfl (lv_at hl 0 rfl) ?_
            refine mg_52 X M dX2_guest_91 ?_
            refine lv_aload_n hx hb dX2_guest_94 rfl (lv_at hl 0 rfl) ?_
            refine mg_48 X M (v := F 48) rfl dX2_guest_95 ?_
            refine lv_asi (y := nI n48) en48 ?_
            refine lv_iload hx hb dX2_guest_98 (lv_at hl 4 rfl) ?_
            refine ms_52 X M (j := n48) (vp_in_nI (by omega) (by omega)) (nI_clamp (by omega)) dX2_guest_100 (fun H locs M => ?_)
            refine lv_aload_n hx hb dX2_guest_101 rfl (lv_at hl 0 rfl) ?_
            refine lv_dup hx hb dX2_guest_102 rfl ?_
            refine mg_48 X M (v := F 48) rfl dX2_guest_103 ?_
            refine lv_asi (y := nI n48) en48 ?_
            refine lv_iconst (v := 1) hx hb dX2_guest_106 (by decide) ?_
            refine lv_iadd hx hb dX2_guest_107 ?_
            refine lv_asi (y := nI (n48 + 1)) (nI_add n48 1) ?_
            refine mp_48 X M dX2_guest_108 (fun H locs M => ?_)
            refine lv_aload_n hx hb dX2_guest_111 rfl (lv_at hl 0 rfl) ?_
            refine mg_48 X M (v := nI (n48 + 1)) rfl dX2_guest_112 ?_
            exact W.iret (v := nI (n48 + 1)) hx hb hr (fun t9 ht9 hW9 => ⟨⟨_, (va_up (va_up F 0 0) 48 (nI (n48 + 1)), mset (mset (mset (mset Rr 49 n48 p1) 50 n48 p2) 51 n48 p3) 52 n48 p4), rfl, (by first | (simp [m_guest, en48, ec48, c_1, c_2, c_3, c_4, c_5, up_s, up_n, nI_1, b2i]; done) | (simp_all [m_guest]; done) | grind [m_guest]), by show va_P _ _ _ t9.heap; rw [ht9]; exact M.1⟩, M.2.2.F ht9⟩) M.2.2.2.2 dX2_guest_115
          · -- c_5: nI n48 = 40
            refine lv_ldc (v := (-1000003)) hx hb hown (hts _ q1675) dX2_guest_57 ?_
            exact W.iret (v := (-1000003)) hx hb hr (fun t9 ht9 hW9 => ⟨⟨_, (va_up F 0 0, Rr), rfl, (by first | (simp [m_guest, en48, ec48, c_1, c_2, c_3, c_4, c_5, up_s, up_n, nI_1, b2i]; done) | (simp_all [m_guest]; done) | grind [m_guest]), by show va_P _ _ _ t9.heap; rw [ht9]; exact M.1⟩, M.2.2.F ht9⟩) M.2.2.2.2 dX2_guest_59
        · -- c_4: inB p3 999 p4 = false
          refine lv_ldc (v := (-1000001)) hx hb hown (hts _ q1627) dX2_guest_45 ?_
          exact W.iret (v := (-1000001)) hx hb hr (fun t9 ht9 hW9 => ⟨⟨_, (va_up F 0 0, Rr), rfl, (by first | (simp [m_guest, en48, ec48, c_1, c_2, c_3, c_4, up_s, up_n, nI_1, b2i]; done) | (simp_all [m_guest]; done) | grind [m_guest]), by show va_P _ _ _ t9.heap; rw [ht9]; exact M.1⟩, M.2.2.F ht9⟩) M.2.2.2.2 dX2_guest_47

def m_lean (F : Nat → Int32) (Rr : Nat → Nat → Int32) (p1 p2 p3 : Int32) : Int32 × mST := if inB 0 11 p1 = false ∨ inB 0 99 p2 = false ∨ inB 0 99 p3 = false then ((-1000001), F, Rr) else if F 55 = 20 then ((-1000003), F, Rr) else (F 55 + 1, va_up F 55 (F 55 + 1), (mset (mset (mset Rr 56 (F 55).toNatClampNeg p1) 57 (F 55).toNatClampNeg p2) 58 (F 55).toNatClampNeg p3))
set_option maxHeartbeats 4000000 in
set_option maxRecDepth 100000 in
theorem metX2_lean (l : Launch) (D : va_G) (cl : List vw_C) (hcl : cl[0]? = some (RX2, TX2, 61)) (h : Nat) (ad : Nat → Nat) (dA : ClassId) (F : Nat → Int32) (Rr : Nat → Nat → Int32) (p1 : Int32) (p2 : Int32) (p3 : Int32) (h55 : cnB (F 55) 20) : Met l yX2_lean (ws_ yX2_lean cX2_lean 4 (some .int)) ({ frames := 2, cells := 0, slots := 0, locals := 45 } : Room) (va_Pc [.ref h, .int p1, .int p2, .int p3] (mPre D cl h ad dA F Rr)) (va_Qi (fun r u => (r, u) = m_lean (va_up F 0 0) Rr p1 p2 p3) (mB D cl h ad dA) (mN h ad)) 0 0 (mN h ad) := by
  refine Met.ofW (cc := cX2_lean) (maxL := 4) (ret := (some .int)) (by decide) rfl ?_
  intro p e s m args below meth c s₁ B hml hv
  obtain ⟨rfl, hK, hP, hD⟩ := hv
  have hx := B.exec
  have hb := B.bytes
  have hr := B.returns
  have hts := atoms_spec (ws := (ws_ yX2_lean cX2_lean 4 (some .int))) B.pre
  have hts : ∀ w ∈ lw_all, w.before _ s = true := fun w h => hts w (List.mem_cons_of_mem _ h)
  have hown : s.vm.findClass RX2 = some m.cls := findClass_of_methodNamed B.named
  have hlocks := B.notSynchronized
  have S : CallFix p m c cX2_lean 4 s ([.ref h, .int p1, .int p2, .int p3] : List Value).toArray lw_all RX2 := ⟨hx, hb, hml, hown, hts⟩
  have X : mX p s m ([.ref h, .int p1, .int p2, .int p3] : List Value).toArray c cX2_lean 4 D cl dA := ⟨hx, hb, hml, hown, hts, hK, hcl⟩
  have M : mM D cl h ad dA (mN h ad) s F Rr s.heap [] := ⟨hP, mW_self hD, va_S.rf⟩
  have hl := lv_entry ([.ref h, .int p1, .int p2, .int p3]) (n := 4) (Nat.le_of_ble_eq_true rfl)
  rw [lg_entry_eq]
  generalize (lg_sl ([.ref h, .int p1, .int p2, .int p3]) ++ List.replicate (4 - (lg_sl ([.ref h, .int p1, .int p2, .int p3])).length) Slot.unset).toArray = ls at hl ⊢
  have hl : lv_has ls 4 [(0, .ref h), (1, .int p1), (2, .int p2), (3, .int p3)] := hl
  obtain ⟨n55, hn55, en55⟩ := cnB_ex h55 (n := 20) rfl
  have em55 : (F 55).toNatClampNeg = n55 := by rw [en55]; exact nI_clamp (by omega)
  have ec55 : (nI n55).toNatClampNeg = n55 := nI_clamp (by omega)
  refine lv_aload_n hx hb dX2_lean_0 rfl (lv_at hl 0 rfl) ?_
  refine lv_iconst (v := 0) hx hb dX2_lean_1 (by decide) ?_
  refine mp_0 X M dX2_lean_2 (fun H locs M => ?_)
  refine lv_iload_n hx hb dX2_lean_5 rfl (lv_at hl 1 rfl) ?_
  refine s_cI (v := b2i (inB 0 11 p1)) (As := [.int p1]) (rest := []) S (metX2_isLength l p1) (va_cwS 1 hts (lw_S q1886 q1887 q62 q1888) rfl rfl rfl (by decide +kernel) ⟨Nat.le_of_ble_eq_true rfl, Nat.le_of_ble_eq_true rfl⟩) rfl hl.1 rfl (Nat.le_of_ble_eq_true rfl) dX2_lean_6 ⟨Nat.zero_le _, Nat.zero_le _⟩ ?_
  refine lz_if_eq (tgt := 36) hx hb dX2_lean_9 (by decide) (fun c_1 => ?_) (fun c_1 => ?_)
  · -- c_1: inB 0 11 p1 = false
    refine lv_ldc (v := (-1000001)) hx hb hown (hts _ q1627) dX2_lean_36 ?_
    exact W.iret (v := (-1000001)) hx hb hr (fun t9 ht9 hW9 => ⟨⟨_, (va_up F 0 0, Rr), rfl, (by first | (simp [m_lean, en55, ec55, c_1, up_s, up_n, nI_1, b2i]; done) | (simp_all [m_lean]; done) | grind [m_lean]), by show va_P _ _ _ t9.heap; rw [ht9]; exact M.1⟩, M.2.2.F ht9⟩) M.2.2.2.2 dX2_lean_38
  · -- c_1: inB 0 11 p1 = true
    refine lv_iload_n hx hb dX2_lean_12 rfl (lv_at hl 2 rfl) ?_
    refine lv_i2l (v := p2.toInt64) hx hb dX2_lean_13 rfl ?_
    refine lv_lconst (v := 0) hx hb dX2_lean_14 (by decide) ?_
    refine lv_ldc2 (v := 99) hx hb hown (hts _ q1772) dX2_lean_15 ?_
    refine s_cI (v := b2i (inB 0 99 p2)) (As := [.long p2.toInt64, .long 0, .long 99]) (rest := []) S (metX2_inI l p2 0 99 p2.toInt64 0 99 rfl rfl rfl) (va_cwS 3 hts (lw_S q1623 q1624 q62 q1625) rfl rfl rfl (by decide +kernel) ⟨Nat.le_of_ble_eq_true rfl, Nat.le_of_ble_eq_true rfl⟩) rfl hl.1 rfl (Nat.le_of_ble_eq_true rfl) dX2_lean_18 ⟨Nat.zero_le _, Nat.zero_le _⟩ ?_
    refine lz_if_eq (tgt := 36) hx hb dX2_lean_21 (by decide) (fun c_2 => ?_) (fun c_2 => ?_)
    · -- c_2: inB 0 99 p2 = false
      refine lv_ldc (v := (-1000001)) hx hb hown (hts _ q1627) dX2_lean_36 ?_
      exact W.iret (v := (-1000001)) hx hb hr (fun t9 ht9 hW9 => ⟨⟨_, (va_up F 0 0, Rr), rfl, (by first | (simp [m_lean, en55, ec55, c_1, c_2, up_s, up_n, nI_1, b2i]; done) | (simp_all [m_lean]; done) | grind [m_lean]), by show va_P _ _ _ t9.heap; rw [ht9]; exact M.1⟩, M.2.2.F ht9⟩) M.2.2.2.2 dX2_lean_38
    · -- c_2: inB 0 99 p2 = true
      refine lv_iload_n hx hb dX2_lean_24 rfl (lv_at hl 3 rfl) ?_
      refine lv_i2l (v := p3.toInt64) hx hb dX2_lean_25 rfl ?_
      refine lv_lconst (v := 0) hx hb dX2_lean_26 (by decide) ?_
      refine lv_ldc2 (v := 99) hx hb hown (hts _ q1772) dX2_lean_27 ?_
      refine s_cI (v := b2i (inB 0 99 p3)) (As := [.long p3.toInt64, .long 0, .long 99]) (rest := []) S (metX2_inI l p3 0 99 p3.toInt64 0 99 rfl rfl rfl) (va_cwS 3 hts (lw_S q1623 q1624 q62 q1625) rfl rfl rfl (by decide +kernel) ⟨Nat.le_of_ble_eq_true rfl, Nat.le_of_ble_eq_true rfl⟩) rfl hl.1 rfl (Nat.le_of_ble_eq_true rfl) dX2_lean_30 ⟨Nat.zero_le _, Nat.zero_le _⟩ ?_
      refine lz_if_ne (tgt := 39) hx hb dX2_lean_33 (by decide) (fun c_3 => ?_) (fun c_3 => ?_)
      · -- c_3: inB 0 99 p3 = true
        refine lv_aload_n hx hb dX2_lean_39 rfl (lv_at hl 0 rfl) ?_
        refine mg_55 X M (v := F 55) rfl dX2_lean_40 ?_
        refine lv_asi (y := nI n55) en55 ?_
        refine lv_bipush (v := 20) hx hb dX2_lean_43 (by decide) ?_
        refine lv_icmp_ne (tgt := 51) hx hb dX2_lean_45 (by decide) (fun c_4 => ?_) (fun c_4 => ?_)
        · -- c_4: nI n55 ≠ 20
          have hn55b : n55 < 20 := nI_lt_ne (N := 20) c_4 hn55
          refine lv_aload_n hx hb dX2_lean_51 rfl (lv_at hl 0 rfl) ?_
          refine mg_56 X M dX2_lean_52 ?_
          refine lv_aload_n hx hb dX2_lean_55 rfl (lv_at hl 0 rfl) ?_
          refine mg_55 X M (v := F 55) rfl dX2_lean_56 ?_
          refine lv_asi (y := nI n55) en55 ?_
          refine lv_iload_n hx hb dX2_lean_59 rfl (lv_at hl 1 rfl) ?_
          refine ms_56 X M (j := n55) (vp_in_nI (by omega) (by omega)) (nI_clamp (by omega)) dX2_lean_60 (fun H locs M => ?_)
          refine lv_aload_n hx hb dX2_lean_61 rfl (lv_at hl 0 rfl) ?_
          refine mg_57 X M dX2_lean_62 ?_
          refine lv_aload_n hx hb dX2_lean_65 rfl (lv_at hl 0 rfl) ?_
          refine mg_55 X M (v := F 55) rfl dX2_lean_66 ?_
          refine lv_asi (y := nI n55) en55 ?_
          refine lv_iload_n hx hb dX2_lean_69 rfl (lv_at hl 2 rfl) ?_
          refine ms_57 X M (j := n55) (vp_in_nI (by omega) (by omega)) (nI_clamp (by omega)) dX2_lean_70 (fun H locs M => ?_)
          refine lv_aload_n hx hb dX2_lean_71 rfl (lv_at hl 0 rfl) ?_
          refine mg_58 X M dX2_lean_72 ?_
          refine lv_aload_n hx hb dX2_lean_75 rfl (lv_at hl 0 rfl) ?_
          refine mg_55 X M (v := F 55) rfl dX2_lean_76 ?_
          refine lv_asi (y := nI n55) en55 ?_
          refine lv_iload_n hx hb dX2_lean_79 rfl (lv_at hl 3 rfl) ?_
          refine ms_58 X M (j := n55) (vp_in_nI (by omega) (by omega)) (nI_clamp (by omega)) dX2_lean_80 (fun H locs M => ?_)
          refine lv_aload_n hx hb dX2_lean_81 rfl (lv_at hl 0 rfl) ?_
          refine lv_dup hx hb dX2_lean_82 rfl ?_
          refine mg_55 X M (v := F 55) rfl dX2_lean_83 ?_
          refine lv_asi (y := nI n55) en55 ?_
          refine lv_iconst (v := 1) hx hb dX2_lean_86 (by decide) ?_
          refine lv_iadd hx hb dX2_lean_87 ?_
          refine lv_asi (y := nI (n55 + 1)) (nI_add n55 1) ?_
          refine mp_55 X M dX2_lean_88 (fun H locs M => ?_)
          refine lv_aload_n hx hb dX2_lean_91 rfl (lv_at hl 0 rfl) ?_
          refine mg_55 X M (v := nI (n55 + 1)) rfl dX2_lean_92 ?_
          exact W.iret (v := nI (n55 + 1)) hx hb hr (fun t9 ht9 hW9 => ⟨⟨_, (va_up (va_up F 0 0) 55 (nI (n55 + 1)), mset (mset (mset Rr 56 n55 p1) 57 n55 p2) 58 n55 p3), rfl, (by first | (simp [m_lean, en55, ec55, c_1, c_2, c_3, c_4, up_s, up_n, nI_1, b2i]; done) | (simp_all [m_lean]; done) | grind [m_lean]), by show va_P _ _ _ t9.heap; rw [ht9]; exact M.1⟩, M.2.2.F ht9⟩) M.2.2.2.2 dX2_lean_95
        · -- c_4: nI n55 = 20
          refine lv_ldc (v := (-1000003)) hx hb hown (hts _ q1675) dX2_lean_48 ?_
          exact W.iret (v := (-1000003)) hx hb hr (fun t9 ht9 hW9 => ⟨⟨_, (va_up F 0 0, Rr), rfl, (by first | (simp [m_lean, en55, ec55, c_1, c_2, c_3, c_4, up_s, up_n, nI_1, b2i]; done) | (simp_all [m_lean]; done) | grind [m_lean]), by show va_P _ _ _ t9.heap; rw [ht9]; exact M.1⟩, M.2.2.F ht9⟩) M.2.2.2.2 dX2_lean_50
      · -- c_3: inB 0 99 p3 = false
        refine lv_ldc (v := (-1000001)) hx hb hown (hts _ q1627) dX2_lean_36 ?_
        exact W.iret (v := (-1000001)) hx hb hr (fun t9 ht9 hW9 => ⟨⟨_, (va_up F 0 0, Rr), rfl, (by first | (simp [m_lean, en55, ec55, c_1, c_2, c_3, up_s, up_n, nI_1, b2i]; done) | (simp_all [m_lean]; done) | grind [m_lean]), by show va_P _ _ _ t9.heap; rw [ht9]; exact M.1⟩, M.2.2.F ht9⟩) M.2.2.2.2 dX2_lean_38

def m_fell (F : Nat → Int32) (Rr : Nat → Nat → Int32) (g day : Int32) : Int32 × mST := if inB 0 7 g = false ∨ inB 0 999 day = false then ((-1000001), F, Rr) else if ¬ Rr 53 g.toNatClampNeg = (-1000000) ∧ Rr 53 g.toNatClampNeg ≤ day then (0, F, Rr) else (1, F, mset Rr 53 g.toNatClampNeg day)
def m_high (F : Nat → Int32) (Rr : Nat → Nat → Int32) (g v : Int32) : Int32 × mST := if inB 0 11 g = false ∨ inB 1 99 v = false then ((-1000001), F, Rr) else (Rr 54 g.toNatClampNeg, F, mset Rr 54 g.toNatClampNeg v)
def m_day (F : Nat → Int32) (Rr : Nat → Nat → Int32) (d : Int32) : Int32 × mST := if inB 0 999 d = false then ((-1000001), F, Rr) else (F 44, va_up F 44 d, Rr)
def m_trace (F : Nat → Int32) (Rr : Nat → Nat → Int32) (i : Int32) : Int32 × mST := if inB 0 (F 60 - 1) i = false then ((-1000000), F, Rr) else (Rr 59 i.toNatClampNeg, F, Rr)
set_option maxHeartbeats 4000000 in
set_option maxRecDepth 100000 in
theorem metX2_fell (l : Launch) (D : va_G) (cl : List vw_C) (hcl : cl[0]? = some (RX2, TX2, 61)) (h : Nat) (ad : Nat → Nat) (dA : ClassId) (F : Nat → Int32) (Rr : Nat → Nat → Int32) (p1 : Int32) (p2 : Int32) : Met l yX2_fell (ws_ yX2_fell cX2_fell 3 (some .int)) ({ frames := 2, cells := 0, slots := 0, locals := 45 } : Room) (va_Pc [.ref h, .int p1, .int p2] (mPre D cl h ad dA F Rr)) (va_Qi (fun r u => (r, u) = m_fell (va_up F 0 0) Rr p1 p2) (mB D cl h ad dA) (mN h ad)) 0 0 (mN h ad) := by
  refine Met.ofW (cc := cX2_fell) (maxL := 3) (ret := (some .int)) (by decide) rfl ?_
  intro p e s m args below meth c s₁ B hml hv
  obtain ⟨rfl, hK, hP, hD⟩ := hv
  have hx := B.exec
  have hb := B.bytes
  have hr := B.returns
  have hts := atoms_spec (ws := (ws_ yX2_fell cX2_fell 3 (some .int))) B.pre
  have hts : ∀ w ∈ lw_all, w.before _ s = true := fun w h => hts w (List.mem_cons_of_mem _ h)
  have hown : s.vm.findClass RX2 = some m.cls := findClass_of_methodNamed B.named
  have hlocks := B.notSynchronized
  have S : CallFix p m c cX2_fell 3 s ([.ref h, .int p1, .int p2] : List Value).toArray lw_all RX2 := ⟨hx, hb, hml, hown, hts⟩
  have X : mX p s m ([.ref h, .int p1, .int p2] : List Value).toArray c cX2_fell 3 D cl dA := ⟨hx, hb, hml, hown, hts, hK, hcl⟩
  have M : mM D cl h ad dA (mN h ad) s F Rr s.heap [] := ⟨hP, mW_self hD, va_S.rf⟩
  have hl := lv_entry ([.ref h, .int p1, .int p2]) (n := 3) (Nat.le_of_ble_eq_true rfl)
  rw [lg_entry_eq]
  generalize (lg_sl ([.ref h, .int p1, .int p2]) ++ List.replicate (3 - (lg_sl ([.ref h, .int p1, .int p2])).length) Slot.unset).toArray = ls at hl ⊢
  have hl : lv_has ls 3 [(0, .ref h), (1, .int p1), (2, .int p2)] := hl
  refine lv_aload_n hx hb dX2_fell_0 rfl (lv_at hl 0 rfl) ?_
  refine lv_iconst (v := 0) hx hb dX2_fell_1 (by decide) ?_
  refine mp_0 X M dX2_fell_2 (fun H locs M => ?_)
  refine lv_iload_n hx hb dX2_fell_5 rfl (lv_at hl 1 rfl) ?_
  refine lv_i2l (v := p1.toInt64) hx hb dX2_fell_6 rfl ?_
  refine lv_lconst (v := 0) hx hb dX2_fell_7 (by decide) ?_
  refine lv_ldc2 (v := 7) hx hb hown (hts _ q1622) dX2_fell_8 ?_
  refine s_cI (v := b2i (inB 0 7 p1)) (As := [.long p1.toInt64, .long 0, .long 7]) (rest := []) S (metX2_inI l p1 0 7 p1.toInt64 0 7 rfl rfl rfl) (va_cwS 3 hts (lw_S q1623 q1624 q62 q1625) rfl rfl rfl (by decide +kernel) ⟨Nat.le_of_ble_eq_true rfl, Nat.le_of_ble_eq_true rfl⟩) rfl hl.1 rfl (Nat.le_of_ble_eq_true rfl) dX2_fell_11 ⟨Nat.zero_le _, Nat.zero_le _⟩ ?_
  refine lz_if_eq (tgt := 24) hx hb dX2_fell_14 (by decide) (fun c_1 => ?_) (fun c_1 => ?_)
  · -- c_1: inB 0 7 p1 = false
    refine lv_ldc (v := (-1000001)) hx hb hown (hts _ q1627) dX2_fell_24 ?_
    exact W.iret (v := (-1000001)) hx hb hr (fun t9 ht9 hW9 => ⟨⟨_, (va_up F 0 0, Rr), rfl, (by first | (simp [m_fell, c_1, up_s, up_n, nI_1, b2i]; done) | (simp_all [m_fell]; done) | grind [m_fell]), by show va_P _ _ _ t9.heap; rw [ht9]; exact M.1⟩, M.2.2.F ht9⟩) M.2.2.2.2 dX2_fell_26
  · -- c_1: inB 0 7 p1 = true
    obtain ⟨g1, hg1, rfl⟩ := inB_ex c_1 (n := 7) rfl
    have eg1 : (nI g1).toNatClampNeg = g1 := nI_clamp (by omega)
    refine lv_iload_n hx hb dX2_fell_17 rfl (lv_at hl 2 rfl) ?_
    refine s_cI (v := b2i (inB 0 999 p2)) (As := [.int p2]) (rest := []) S (metX2_isDay l p2) (va_cwS 1 hts (lw_S q1736 q1737 q62 q1738) rfl rfl rfl (by decide +kernel) ⟨Nat.le_of_ble_eq_true rfl, Nat.le_of_ble_eq_true rfl⟩) rfl hl.1 rfl (Nat.le_of_ble_eq_true rfl) dX2_fell_18 ⟨Nat.zero_le _, Nat.zero_le _⟩ ?_
    refine lz_if_ne (tgt := 27) hx hb dX2_fell_21 (by decide) (fun c_2 => ?_) (fun c_2 => ?_)
    · -- c_2: inB 0 999 p2 = true
      refine lv_aload_n hx hb dX2_fell_27 rfl (lv_at hl 0 rfl) ?_
      refine mg_53 X M dX2_fell_28 ?_
      refine lv_iload_n hx hb dX2_fell_31 rfl (lv_at hl 1 rfl) ?_
      refine mr_53 X M (f := Rr 53) rfl (j := g1) (vp_in_nI (by omega) (by omega)) (nI_clamp (by omega)) dX2_fell_32 ?_
      refine lv_ldc (v := (-1000000)) hx hb hown (hts _ q1430) dX2_fell_33 ?_
      refine lv_icmp_eq (tgt := 50) hx hb dX2_fell_35 (by decide) (fun c_3 => ?_) (fun c_3 => ?_)
      · -- c_3: Rr 53 g1 = (-1000000)
        refine lv_aload_n hx hb dX2_fell_50 rfl (lv_at hl 0 rfl) ?_
        refine mg_53 X M dX2_fell_51 ?_
        refine lv_iload_n hx hb dX2_fell_54 rfl (lv_at hl 1 rfl) ?_
        refine lv_iload_n hx hb dX2_fell_55 rfl (lv_at hl 2 rfl) ?_
        refine ms_53 X M (j := g1) (vp_in_nI (by omega) (by omega)) (nI_clamp (by omega)) dX2_fell_56 (fun H locs M => ?_)
        refine lv_iconst (v := 1) hx hb dX2_fell_57 (by decide) ?_
        exact W.iret (v := 1) hx hb hr (fun t9 ht9 hW9 => ⟨⟨_, (va_up F 0 0, mset Rr 53 g1 p2), rfl, (by first | (simp [m_fell, c_1, eg1, c_2, c_3, up_s, up_n, nI_1, b2i]; done) | (simp_all [m_fell]; done) | grind [m_fell]), by show va_P _ _ _ t9.heap; rw [ht9]; exact M.1⟩, M.2.2.F ht9⟩) M.2.2.2.2 dX2_fell_58
      · -- c_3: Rr 53 g1 ≠ (-1000000)
        refine lv_aload_n hx hb dX2_fell_38 rfl (lv_at hl 0 rfl) ?_
        refine mg_53 X M dX2_fell_39 ?_
        refine lv_iload_n hx hb dX2_fell_42 rfl (lv_at hl 1 rfl) ?_
        refine mr_53 X M (f := Rr 53) rfl (j := g1) (vp_in_nI (by omega) (by omega)) (nI_clamp (by omega)) dX2_fell_43 ?_
        refine lv_iload_n hx hb dX2_fell_44 rfl (lv_at hl 2 rfl) ?_
        refine lb_icmp_gt (tgt := 50) hx hb dX2_fell_45 (by decide) (fun c_4 c_4' => ?_) (fun c_4 c_4' => ?_)
        · -- c_4: Rr 53 g1 > p2
          refine lv_aload_n hx hb dX2_fell_50 rfl (lv_at hl 0 rfl) ?_
          refine mg_53 X M dX2_fell_51 ?_
          refine lv_iload_n hx hb dX2_fell_54 rfl (lv_at hl 1 rfl) ?_
          refine lv_iload_n hx hb dX2_fell_55 rfl (lv_at hl 2 rfl) ?_
          refine ms_53 X M (j := g1) (vp_in_nI (by omega) (by omega)) (nI_clamp (by omega)) dX2_fell_56 (fun H locs M => ?_)
          refine lv_iconst (v := 1) hx hb dX2_fell_57 (by decide) ?_
          exact W.iret (v := 1) hx hb hr (fun t9 ht9 hW9 => ⟨⟨_, (va_up F 0 0, mset Rr 53 g1 p2), rfl, (by first | (simp [m_fell, c_1, eg1, c_2, c_3, c_4, c_4', up_s, up_n, nI_1, b2i]; done) | (simp_all [m_fell]; done) | grind [m_fell]), by show va_P _ _ _ t9.heap; rw [ht9]; exact M.1⟩, M.2.2.F ht9⟩) M.2.2.2.2 dX2_fell_58
        · -- c_4: Rr 53 g1 ≤ p2
          refine lv_iconst (v := 0) hx hb dX2_fell_48 (by decide) ?_
          exact W.iret (v := 0) hx hb hr (fun t9 ht9 hW9 => ⟨⟨_, (va_up F 0 0, Rr), rfl, (by first | (simp [m_fell, c_1, eg1, c_2, c_3, c_4, c_4', up_s, up_n, nI_1, b2i]; done) | (simp_all [m_fell]; done) | grind [m_fell]), by show va_P _ _ _ t9.heap; rw [ht9]; exact M.1⟩, M.2.2.F ht9⟩) M.2.2.2.2 dX2_fell_49
    · -- c_2: inB 0 999 p2 = false
      refine lv_ldc (v := (-1000001)) hx hb hown (hts _ q1627) dX2_fell_24 ?_
      exact W.iret (v := (-1000001)) hx hb hr (fun t9 ht9 hW9 => ⟨⟨_, (va_up F 0 0, Rr), rfl, (by first | (simp [m_fell, c_1, eg1, c_2, up_s, up_n, nI_1, b2i]; done) | (simp_all [m_fell]; done) | grind [m_fell]), by show va_P _ _ _ t9.heap; rw [ht9]; exact M.1⟩, M.2.2.F ht9⟩) M.2.2.2.2 dX2_fell_26

set_option maxHeartbeats 4000000 in
set_option maxRecDepth 100000 in
theorem metX2_high (l : Launch) (D : va_G) (cl : List vw_C) (hcl : cl[0]? = some (RX2, TX2, 61)) (h : Nat) (ad : Nat → Nat) (dA : ClassId) (F : Nat → Int32) (Rr : Nat → Nat → Int32) (p1 : Int32) (p2 : Int32) : Met l yX2_high (ws_ yX2_high cX2_high 4 (some .int)) ({ frames := 2, cells := 0, slots := 0, locals := 45 } : Room) (va_Pc [.ref h, .int p1, .int p2] (mPre D cl h ad dA F Rr)) (va_Qi (fun r u => (r, u) = m_high (va_up F 0 0) Rr p1 p2) (mB D cl h ad dA) (mN h ad)) 0 0 (mN h ad) := by
  refine Met.ofW (cc := cX2_high) (maxL := 4) (ret := (some .int)) (by decide) rfl ?_
  intro p e s m args below meth c s₁ B hml hv
  obtain ⟨rfl, hK, hP, hD⟩ := hv
  have hx := B.exec
  have hb := B.bytes
  have hr := B.returns
  have hts := atoms_spec (ws := (ws_ yX2_high cX2_high 4 (some .int))) B.pre
  have hts : ∀ w ∈ lw_all, w.before _ s = true := fun w h => hts w (List.mem_cons_of_mem _ h)
  have hown : s.vm.findClass RX2 = some m.cls := findClass_of_methodNamed B.named
  have hlocks := B.notSynchronized
  have S : CallFix p m c cX2_high 4 s ([.ref h, .int p1, .int p2] : List Value).toArray lw_all RX2 := ⟨hx, hb, hml, hown, hts⟩
  have X : mX p s m ([.ref h, .int p1, .int p2] : List Value).toArray c cX2_high 4 D cl dA := ⟨hx, hb, hml, hown, hts, hK, hcl⟩
  have M : mM D cl h ad dA (mN h ad) s F Rr s.heap [] := ⟨hP, mW_self hD, va_S.rf⟩
  have hl := lv_entry ([.ref h, .int p1, .int p2]) (n := 4) (Nat.le_of_ble_eq_true rfl)
  rw [lg_entry_eq]
  generalize (lg_sl ([.ref h, .int p1, .int p2]) ++ List.replicate (4 - (lg_sl ([.ref h, .int p1, .int p2])).length) Slot.unset).toArray = ls at hl ⊢
  have hl : lv_has ls 4 [(0, .ref h), (1, .int p1), (2, .int p2)] := hl
  refine lv_aload_n hx hb dX2_high_0 rfl (lv_at hl 0 rfl) ?_
  refine lv_iconst (v := 0) hx hb dX2_high_1 (by decide) ?_
  refine mp_0 X M dX2_high_2 (fun H locs M => ?_)
  refine lv_iload_n hx hb dX2_high_5 rfl (lv_at hl 1 rfl) ?_
  refine s_cI (v := b2i (inB 0 11 p1)) (As := [.int p1]) (rest := []) S (metX2_isLength l p1) (va_cwS 1 hts (lw_S q1886 q1887 q62 q1888) rfl rfl rfl (by decide +kernel) ⟨Nat.le_of_ble_eq_true rfl, Nat.le_of_ble_eq_true rfl⟩) rfl hl.1 rfl (Nat.le_of_ble_eq_true rfl) dX2_high_6 ⟨Nat.zero_le _, Nat.zero_le _⟩ ?_
  refine lz_if_eq (tgt := 24) hx hb dX2_high_9 (by decide) (fun c_1 => ?_) (fun c_1 => ?_)
  · -- c_1: inB 0 11 p1 = false
    refine lv_ldc (v := (-1000001)) hx hb hown (hts _ q1627) dX2_high_24 ?_
    exact W.iret (v := (-1000001)) hx hb hr (fun t9 ht9 hW9 => ⟨⟨_, (va_up F 0 0, Rr), rfl, (by first | (simp [m_high, c_1, up_s, up_n, nI_1, b2i]; done) | (simp_all [m_high]; done) | grind [m_high]), by show va_P _ _ _ t9.heap; rw [ht9]; exact M.1⟩, M.2.2.F ht9⟩) M.2.2.2.2 dX2_high_26
  · -- c_1: inB 0 11 p1 = true
    obtain ⟨g1, hg1, rfl⟩ := inB_ex c_1 (n := 11) rfl
    have eg1 : (nI g1).toNatClampNeg = g1 := nI_clamp (by omega)
    refine lv_iload_n hx hb dX2_high_12 rfl (lv_at hl 2 rfl) ?_
    refine lv_i2l (v := p2.toInt64) hx hb dX2_high_13 rfl ?_
    refine lv_lconst (v := 1) hx hb dX2_high_14 (by decide) ?_
    refine lv_ldc2 (v := 99) hx hb hown (hts _ q1772) dX2_high_15 ?_
    refine s_cI (v := b2i (inB 1 99 p2)) (As := [.long p2.toInt64, .long 1, .long 99]) (rest := []) S (metX2_inI l p2 1 99 p2.toInt64 1 99 rfl rfl rfl) (va_cwS 3 hts (lw_S q1623 q1624 q62 q1625) rfl rfl rfl (by decide +kernel) ⟨Nat.le_of_ble_eq_true rfl, Nat.le_of_ble_eq_true rfl⟩) rfl hl.1 rfl (Nat.le_of_ble_eq_true rfl) dX2_high_18 ⟨Nat.zero_le _, Nat.zero_le _⟩ ?_
    refine lz_if_ne (tgt := 27) hx hb dX2_high_21 (by decide) (fun c_2 => ?_) (fun c_2 => ?_)
    · -- c_2: inB 1 99 p2 = true
      refine lv_aload_n hx hb dX2_high_27 rfl (lv_at hl 0 rfl) ?_
      refine mg_54 X M dX2_high_28 ?_
      refine lv_iload_n hx hb dX2_high_31 rfl (lv_at hl 1 rfl) ?_
      refine mr_54 X M (f := Rr 54) rfl (j := g1) (vp_in_nI (by omega) (by omega)) (nI_clamp (by omega)) dX2_high_32 ?_
      refine lv_istore_n (lv' := [(3, .int (Rr 54 g1)), (0, .ref h), (1, .int (nI g1)), (2, .int p2)]) hx hb dX2_high_33 rfl hl (by decide) rfl (fun ls hl => ?_)
      refine lv_aload_n hx hb dX2_high_34 rfl (lv_at hl 1 rfl) ?_
      refine mg_54 X M dX2_high_35 ?_
      refine lv_iload_n hx hb dX2_high_38 rfl (lv_at hl 2 rfl) ?_
      refine lv_iload_n hx hb dX2_high_39 rfl (lv_at hl 3 rfl) ?_
      refine ms_54 X M (j := g1) (vp_in_nI (by omega) (by omega)) (nI_clamp (by omega)) dX2_high_40 (fun H locs M => ?_)
      refine lv_iload_n hx hb dX2_high_41 rfl (lv_at hl 0 rfl) ?_
      exact W.iret (v := Rr 54 g1) hx hb hr (fun t9 ht9 hW9 => ⟨⟨_, (va_up F 0 0, mset Rr 54 g1 p2), rfl, (by first | (simp [m_high, c_1, eg1, c_2, up_s, up_n, nI_1, b2i]; done) | (simp_all [m_high]; done) | grind [m_high]), by show va_P _ _ _ t9.heap; rw [ht9]; exact M.1⟩, M.2.2.F ht9⟩) M.2.2.2.2 dX2_high_42
    · -- c_2: inB 1 99 p2 = false
      refine lv_ldc (v := (-1000001)) hx hb hown (hts _ q1627) dX2_high_24 ?_
      exact W.iret (v := (-1000001)) hx hb hr (fun t9 ht9 hW9 => ⟨⟨_, (va_up F 0 0, Rr), rfl, (by first | (simp [m_high, c_1, eg1, c_2, up_s, up_n, nI_1, b2i]; done) | (simp_all [m_high]; done) | grind [m_high]), by show va_P _ _ _ t9.heap; rw [ht9]; exact M.1⟩, M.2.2.F ht9⟩) M.2.2.2.2 dX2_high_26

set_option maxHeartbeats 4000000 in
set_option maxRecDepth 100000 in
theorem metX2_day (l : Launch) (D : va_G) (cl : List vw_C) (hcl : cl[0]? = some (RX2, TX2, 61)) (h : Nat) (ad : Nat → Nat) (dA : ClassId) (F : Nat → Int32) (Rr : Nat → Nat → Int32) (p1 : Int32) : Met l yX2_day (ws_ yX2_day cX2_day 3 (some .int)) ({ frames := 2, cells := 0, slots := 0, locals := 45 } : Room) (va_Pc [.ref h, .int p1] (mPre D cl h ad dA F Rr)) (va_Qi (fun r u => (r, u) = m_day (va_up F 0 0) Rr p1) (mB D cl h ad dA) (mN h ad)) 0 0 (mN h ad) := by
  refine Met.ofW (cc := cX2_day) (maxL := 3) (ret := (some .int)) (by decide) rfl ?_
  intro p e s m args below meth c s₁ B hml hv
  obtain ⟨rfl, hK, hP, hD⟩ := hv
  have hx := B.exec
  have hb := B.bytes
  have hr := B.returns
  have hts := atoms_spec (ws := (ws_ yX2_day cX2_day 3 (some .int))) B.pre
  have hts : ∀ w ∈ lw_all, w.before _ s = true := fun w h => hts w (List.mem_cons_of_mem _ h)
  have hown : s.vm.findClass RX2 = some m.cls := findClass_of_methodNamed B.named
  have hlocks := B.notSynchronized
  have S : CallFix p m c cX2_day 3 s ([.ref h, .int p1] : List Value).toArray lw_all RX2 := ⟨hx, hb, hml, hown, hts⟩
  have X : mX p s m ([.ref h, .int p1] : List Value).toArray c cX2_day 3 D cl dA := ⟨hx, hb, hml, hown, hts, hK, hcl⟩
  have M : mM D cl h ad dA (mN h ad) s F Rr s.heap [] := ⟨hP, mW_self hD, va_S.rf⟩
  have hl := lv_entry ([.ref h, .int p1]) (n := 3) (Nat.le_of_ble_eq_true rfl)
  rw [lg_entry_eq]
  generalize (lg_sl ([.ref h, .int p1]) ++ List.replicate (3 - (lg_sl ([.ref h, .int p1])).length) Slot.unset).toArray = ls at hl ⊢
  have hl : lv_has ls 3 [(0, .ref h), (1, .int p1)] := hl
  refine lv_aload_n hx hb dX2_day_0 rfl (lv_at hl 0 rfl) ?_
  refine lv_iconst (v := 0) hx hb dX2_day_1 (by decide) ?_
  refine mp_0 X M dX2_day_2 (fun H locs M => ?_)
  refine lv_iload_n hx hb dX2_day_5 rfl (lv_at hl 1 rfl) ?_
  refine s_cI (v := b2i (inB 0 999 p1)) (As := [.int p1]) (rest := []) S (metX2_isDay l p1) (va_cwS 1 hts (lw_S q1736 q1737 q62 q1738) rfl rfl rfl (by decide +kernel) ⟨Nat.le_of_ble_eq_true rfl, Nat.le_of_ble_eq_true rfl⟩) rfl hl.1 rfl (Nat.le_of_ble_eq_true rfl) dX2_day_6 ⟨Nat.zero_le _, Nat.zero_le _⟩ ?_
  refine lz_if_ne (tgt := 15) hx hb dX2_day_9 (by decide) (fun c_1 => ?_) (fun c_1 => ?_)
  · -- c_1: inB 0 999 p1 = true
    refine lv_aload_n hx hb dX2_day_15 rfl (lv_at hl 0 rfl) ?_
    refine mg_44 X M (v := F 44) rfl dX2_day_16 ?_
    refine lv_istore_n (lv' := [(2, .int (F 44)), (0, .ref h), (1, .int p1)]) hx hb dX2_day_19 rfl hl (by decide) rfl (fun ls hl => ?_)
    refine lv_aload_n hx hb dX2_day_20 rfl (lv_at hl 1 rfl) ?_
    refine lv_iload_n hx hb dX2_day_21 rfl (lv_at hl 2 rfl) ?_
    refine mp_44 X M dX2_day_22 (fun H locs M => ?_)
    refine lv_iload_n hx hb dX2_day_25 rfl (lv_at hl 0 rfl) ?_
    exact W.iret (v := F 44) hx hb hr (fun t9 ht9 hW9 => ⟨⟨_, (va_up (va_up F 0 0) 44 p1, Rr), rfl, (by first | (simp [m_day, c_1, up_s, up_n, nI_1, b2i]; done) | (simp_all [m_day]; done) | grind [m_day]), by show va_P _ _ _ t9.heap; rw [ht9]; exact M.1⟩, M.2.2.F ht9⟩) M.2.2.2.2 dX2_day_26
  · -- c_1: inB 0 999 p1 = false
    refine lv_ldc (v := (-1000001)) hx hb hown (hts _ q1627) dX2_day_12 ?_
    exact W.iret (v := (-1000001)) hx hb hr (fun t9 ht9 hW9 => ⟨⟨_, (va_up F 0 0, Rr), rfl, (by first | (simp [m_day, c_1, up_s, up_n, nI_1, b2i]; done) | (simp_all [m_day]; done) | grind [m_day]), by show va_P _ _ _ t9.heap; rw [ht9]; exact M.1⟩, M.2.2.F ht9⟩) M.2.2.2.2 dX2_day_14

set_option maxHeartbeats 4000000 in
set_option maxRecDepth 100000 in
theorem metX2_trace (l : Launch) (D : va_G) (cl : List vw_C) (hcl : cl[0]? = some (RX2, TX2, 61)) (h : Nat) (ad : Nat → Nat) (dA : ClassId) (F : Nat → Int32) (Rr : Nat → Nat → Int32) (p1 : Int32) (h60 : cnB (F 60) 16) : Met l yX2_trace (ws_ yX2_trace cX2_trace 2 (some .int)) ({ frames := 1, cells := 0, slots := 0, locals := 25 } : Room) (va_Pc [.ref h, .int p1] (mPre D cl h ad dA F Rr)) (va_Qi (fun r u => (r, u) = m_trace (va_up F 0 0) Rr p1) (mB D cl h ad dA) (mN h ad)) 0 0 (mN h ad) := by
  refine Met.ofW (cc := cX2_trace) (maxL := 2) (ret := (some .int)) (by decide) rfl ?_
  intro p e s m args below meth c s₁ B hml hv
  obtain ⟨rfl, hK, hP, hD⟩ := hv
  have hx := B.exec
  have hb := B.bytes
  have hr := B.returns
  have hts := atoms_spec (ws := (ws_ yX2_trace cX2_trace 2 (some .int))) B.pre
  have hts : ∀ w ∈ lw_all, w.before _ s = true := fun w h => hts w (List.mem_cons_of_mem _ h)
  have hown : s.vm.findClass RX2 = some m.cls := findClass_of_methodNamed B.named
  have hlocks := B.notSynchronized
  have S : CallFix p m c cX2_trace 2 s ([.ref h, .int p1] : List Value).toArray lw_all RX2 := ⟨hx, hb, hml, hown, hts⟩
  have X : mX p s m ([.ref h, .int p1] : List Value).toArray c cX2_trace 2 D cl dA := ⟨hx, hb, hml, hown, hts, hK, hcl⟩
  have M : mM D cl h ad dA (mN h ad) s F Rr s.heap [] := ⟨hP, mW_self hD, va_S.rf⟩
  have hl := lv_entry ([.ref h, .int p1]) (n := 2) (Nat.le_of_ble_eq_true rfl)
  rw [lg_entry_eq]
  generalize (lg_sl ([.ref h, .int p1]) ++ List.replicate (2 - (lg_sl ([.ref h, .int p1])).length) Slot.unset).toArray = ls at hl ⊢
  have hl : lv_has ls 2 [(0, .ref h), (1, .int p1)] := hl
  refine lv_aload_n hx hb dX2_trace_0 rfl (lv_at hl 0 rfl) ?_
  refine lv_iconst (v := 0) hx hb dX2_trace_1 (by decide) ?_
  refine mp_0 X M dX2_trace_2 (fun H locs M => ?_)
  refine lv_iload_n hx hb dX2_trace_5 rfl (lv_at hl 1 rfl) ?_
  refine lv_i2l (v := p1.toInt64) hx hb dX2_trace_6 rfl ?_
  refine lv_lconst (v := 0) hx hb dX2_trace_7 (by decide) ?_
  refine lv_aload_n hx hb dX2_trace_8 rfl (lv_at hl 0 rfl) ?_
  refine mg_60 X M (v := F 60) rfl dX2_trace_9 ?_
  refine lv_iconst (v := 1) hx hb dX2_trace_12 (by decide) ?_
  refine lv_isub hx hb dX2_trace_13 ?_
  refine lv_i2l (v := ((F 60) - 1).toInt64) hx hb dX2_trace_14 rfl ?_
  refine s_cI (v := b2i (inB 0 ((F 60) - 1) p1)) (As := [.long p1.toInt64, .long 0, .long (((F 60) - 1).toInt64)]) (rest := []) S (metX2_inI l p1 0 ((F 60) - 1) p1.toInt64 0 (((F 60) - 1).toInt64) rfl rfl rfl) (va_cwS 3 hts (lw_S q1623 q1624 q62 q1625) rfl rfl rfl (by decide +kernel) ⟨Nat.le_of_ble_eq_true rfl, Nat.le_of_ble_eq_true rfl⟩) rfl hl.1 rfl (Nat.le_of_ble_eq_true rfl) dX2_trace_15 ⟨Nat.zero_le _, Nat.zero_le _⟩ ?_
  refine lz_if_eq (tgt := 30) hx hb dX2_trace_18 (by decide) (fun c_1 => ?_) (fun c_1 => ?_)
  · -- c_1: inB 0 ((F 60) - 1) p1 = false
    refine lv_ldc (v := (-1000000)) hx hb hown (hts _ q1430) dX2_trace_30 ?_
    exact W.iret (v := (-1000000)) hx hb hr (fun t9 ht9 hW9 => ⟨⟨_, (va_up F 0 0, Rr), rfl, (by first | (simp [m_trace, c_1, up_s, up_n, nI_1, b2i]; done) | (simp_all [m_trace]; done) | grind [m_trace]), by show va_P _ _ _ t9.heap; rw [ht9]; exact M.1⟩, M.2.2.F ht9⟩) M.2.2.2.2 dX2_trace_32
  · -- c_1: inB 0 ((F 60) - 1) p1 = true
    refine lv_aload_n hx hb dX2_trace_21 rfl (lv_at hl 0 rfl) ?_
    refine mg_59 X M dX2_trace_22 ?_
    refine lv_iload_n hx hb dX2_trace_25 rfl (lv_at hl 1 rfl) ?_
    refine mr_59 X M (f := Rr 59) rfl (j := p1.toNatClampNeg) (by first | assumption | exact vp_inN (N := 16) rfl (by grind [inB]) (by grind [inB])) rfl dX2_trace_26 ?_
    refine lv_goto (tgt := 32) hx hb dX2_trace_27 (by decide) ?_
    exact W.iret (v := Rr 59 p1.toNatClampNeg) hx hb hr (fun t9 ht9 hW9 => ⟨⟨_, (va_up F 0 0, Rr), rfl, (by first | (simp [m_trace, c_1, up_s, up_n, nI_1, b2i]; done) | (simp_all [m_trace]; done) | grind [m_trace]), by show va_P _ _ _ t9.heap; rw [ht9]; exact M.1⟩, M.2.2.F ht9⟩) M.2.2.2.2 dX2_trace_32

set_option maxHeartbeats 4000000 in
set_option maxRecDepth 100000 in
theorem metX2_status (l : Launch) (D : va_G) (cl : List vw_C) (hcl : cl[0]? = some (RX2, TX2, 61)) (h : Nat) (ad : Nat → Nat) (dA : ClassId) (F : Nat → Int32) (Rr : Nat → Nat → Int32) : Met l yX2_status (ws_ yX2_status cX2_status 1 (some .int)) ({ frames := 0, cells := 0, slots := 0, locals := 0 } : Room) (va_Pc [.ref h] (mPre D cl h ad dA F Rr)) (va_Qi (fun r u => (r, u) = ((F 1), va_up F 0 0, Rr)) (mB D cl h ad dA) (mN h ad)) 0 0 (mN h ad) := by
  refine Met.ofW (cc := cX2_status) (maxL := 1) (ret := (some .int)) (by decide) rfl ?_
  intro p e s m args below meth c s₁ B hml hv
  obtain ⟨rfl, hK, hP, hD⟩ := hv
  have hx := B.exec
  have hb := B.bytes
  have hr := B.returns
  have hts := atoms_spec (ws := (ws_ yX2_status cX2_status 1 (some .int))) B.pre
  have hts : ∀ w ∈ lw_all, w.before _ s = true := fun w h => hts w (List.mem_cons_of_mem _ h)
  have hown : s.vm.findClass RX2 = some m.cls := findClass_of_methodNamed B.named
  have hlocks := B.notSynchronized
  have S : CallFix p m c cX2_status 1 s ([.ref h] : List Value).toArray lw_all RX2 := ⟨hx, hb, hml, hown, hts⟩
  have X : mX p s m ([.ref h] : List Value).toArray c cX2_status 1 D cl dA := ⟨hx, hb, hml, hown, hts, hK, hcl⟩
  have M : mM D cl h ad dA (mN h ad) s F Rr s.heap [] := ⟨hP, mW_self hD, va_S.rf⟩
  have hl := lv_entry ([.ref h]) (n := 1) (Nat.le_of_ble_eq_true rfl)
  rw [lg_entry_eq]
  generalize (lg_sl ([.ref h]) ++ List.replicate (1 - (lg_sl ([.ref h])).length) Slot.unset).toArray = ls at hl ⊢
  have hl : lv_has ls 1 [(0, .ref h)] := hl
  refine lv_aload_n hx hb dX2_status_0 rfl (lv_at hl 0 rfl) ?_
  refine lv_iconst (v := 0) hx hb dX2_status_1 (by decide) ?_
  refine mp_0 X M dX2_status_2 (fun H locs M => ?_)
  refine lv_aload_n hx hb dX2_status_5 rfl (lv_at hl 0 rfl) ?_
  refine mg_1 X M (v := F 1) rfl dX2_status_6 ?_
  exact W.iret (v := F 1) hx hb hr (fun t9 ht9 hW9 => ⟨⟨_, (va_up F 0 0, Rr), rfl, rfl, by show va_P _ _ _ t9.heap; rw [ht9]; exact M.1⟩, M.2.2.F ht9⟩) M.2.2.2.2 dX2_status_9

set_option maxHeartbeats 4000000 in
set_option maxRecDepth 100000 in
theorem metX2_fault (l : Launch) (D : va_G) (cl : List vw_C) (hcl : cl[0]? = some (RX2, TX2, 61)) (h : Nat) (ad : Nat → Nat) (dA : ClassId) (F : Nat → Int32) (Rr : Nat → Nat → Int32) : Met l yX2_fault (ws_ yX2_fault cX2_fault 1 (some .int)) ({ frames := 0, cells := 0, slots := 0, locals := 0 } : Room) (va_Pc [.ref h] (mPre D cl h ad dA F Rr)) (va_Qi (fun r u => (r, u) = ((F 18), va_up F 0 0, Rr)) (mB D cl h ad dA) (mN h ad)) 0 0 (mN h ad) := by
  refine Met.ofW (cc := cX2_fault) (maxL := 1) (ret := (some .int)) (by decide) rfl ?_
  intro p e s m args below meth c s₁ B hml hv
  obtain ⟨rfl, hK, hP, hD⟩ := hv
  have hx := B.exec
  have hb := B.bytes
  have hr := B.returns
  have hts := atoms_spec (ws := (ws_ yX2_fault cX2_fault 1 (some .int))) B.pre
  have hts : ∀ w ∈ lw_all, w.before _ s = true := fun w h => hts w (List.mem_cons_of_mem _ h)
  have hown : s.vm.findClass RX2 = some m.cls := findClass_of_methodNamed B.named
  have hlocks := B.notSynchronized
  have S : CallFix p m c cX2_fault 1 s ([.ref h] : List Value).toArray lw_all RX2 := ⟨hx, hb, hml, hown, hts⟩
  have X : mX p s m ([.ref h] : List Value).toArray c cX2_fault 1 D cl dA := ⟨hx, hb, hml, hown, hts, hK, hcl⟩
  have M : mM D cl h ad dA (mN h ad) s F Rr s.heap [] := ⟨hP, mW_self hD, va_S.rf⟩
  have hl := lv_entry ([.ref h]) (n := 1) (Nat.le_of_ble_eq_true rfl)
  rw [lg_entry_eq]
  generalize (lg_sl ([.ref h]) ++ List.replicate (1 - (lg_sl ([.ref h])).length) Slot.unset).toArray = ls at hl ⊢
  have hl : lv_has ls 1 [(0, .ref h)] := hl
  refine lv_aload_n hx hb dX2_fault_0 rfl (lv_at hl 0 rfl) ?_
  refine lv_iconst (v := 0) hx hb dX2_fault_1 (by decide) ?_
  refine mp_0 X M dX2_fault_2 (fun H locs M => ?_)
  refine lv_aload_n hx hb dX2_fault_5 rfl (lv_at hl 0 rfl) ?_
  refine mg_18 X M (v := F 18) rfl dX2_fault_6 ?_
  exact W.iret (v := F 18) hx hb hr (fun t9 ht9 hW9 => ⟨⟨_, (va_up F 0 0, Rr), rfl, rfl, by show va_P _ _ _ t9.heap; rw [ht9]; exact M.1⟩, M.2.2.F ht9⟩) M.2.2.2.2 dX2_fault_9

def m_bits (x : Int32) : Int32 := itr (fun k n => n + ((x >>> (nI k &&& 31)) &&& 1)) 16 0
set_option maxHeartbeats 4000000 in
set_option maxRecDepth 100000 in
theorem metX2_bits (l : Launch) (p1 : Int32) : Met l yX2_bits (ws_ yX2_bits cX2_bits 3 (some .int)) ({ frames := 0, cells := 0, slots := 0, locals := 0 } : Room) (va_Pc [.int p1] (fun _ => True)) (vp_Si (fun r => r = m_bits p1)) 0 0 (fun _ => False) := by
  refine Met.ofW (cc := cX2_bits) (maxL := 3) (ret := (some .int)) (by decide) rfl ?_
  intro p e s m args below meth c s₁ B hml hv
  obtain ⟨rfl, -⟩ := hv
  have hx := B.exec
  have hb := B.bytes
  have hr := B.returns
  have hts := atoms_spec (ws := (ws_ yX2_bits cX2_bits 3 (some .int))) B.pre
  have hts : ∀ w ∈ lw_all, w.before _ s = true := fun w h => hts w (List.mem_cons_of_mem _ h)
  have hown : s.vm.findClass RX2 = some m.cls := findClass_of_methodNamed B.named
  have hlocks := B.notSynchronized
  have S : CallFix p m c cX2_bits 3 s ([.int p1] : List Value).toArray lw_all RX2 := ⟨hx, hb, hml, hown, hts⟩
  have hl := lv_entry ([.int p1]) (n := 3) (Nat.le_of_ble_eq_true rfl)
  rw [lg_entry_eq]
  generalize (lg_sl ([.int p1]) ++ List.replicate (3 - (lg_sl ([.int p1])).length) Slot.unset).toArray = ls at hl ⊢
  have hl : lv_has ls 3 [(0, .int p1)] := hl
  refine lv_iconst (v := 0) hx hb dX2_bits_0 (by decide) ?_
  refine lv_istore_n (lv' := [(1, .int 0), (0, .int p1)]) hx hb dX2_bits_1 rfl hl (by decide) rfl (fun ls hl => ?_)
  refine lv_iconst (v := 0) hx hb dX2_bits_2 (by decide) ?_
  refine lv_istore_n (lv' := [(2, .int 0), (1, .int 0), (0, .int p1)]) hx hb dX2_bits_3 rfl hl (by decide) rfl (fun ls hl => ?_)
  have L_1 : ∀ (fuL_1 : Nat) (i : Nat) (x : Int32), (i ≤ 16) → (x = itr (fun k n => n + ((p1 >>> (nI k &&& 31)) &&& 1)) i 0) → 16 - i < fuL_1 → ∀ ls, lv_has ls 3 [(0, .int p1), (1, .int x), (2, .int (nI i))] → W p l e ({ frames := 0, cells := 0, slots := 0, locals := 0 } : Room) s m ([.int p1] : List Value).toArray below meth c s.heap [] 0 0 (MQ below (vp_Si (fun r => r = m_bits p1)) ([.int p1] : List Value).toArray s 0 0 (fun _ => False)) (F0 m 4 ls []) := by
    intro fuL_1
    induction fuL_1 with
    | zero => intro i x hi qx hfuL_1; exact absurd hfuL_1 (Nat.not_lt_zero _)
    | succ fuL_1 L_1ih =>
      intro i x hi qx hfuL_1 ls hl
      refine lv_iload_n hx hb dX2_bits_4 rfl (lv_at hl 2 rfl) ?_
      refine lv_bipush (v := 16) hx hb dX2_bits_5 (by decide) ?_
      refine ln_icmp_ge (tgt := 24) hx hb (a := i) (b := 16) (by omega) (by omega) dX2_bits_7 (by decide) (fun c_2 => ?_) (fun c_2 => ?_)
      · -- c_2: nI i ≥ 16
        have ei : i = 16 := by omega
        rw [ei] at qx
        refine lv_iload_n hx hb dX2_bits_24 rfl (lv_at hl 1 rfl) ?_
        exact W.iret (v := x) hx hb hr (fun t9 ht9 hW9 => ⟨_, rfl, (by unfold m_bits; exact qx), ht9⟩) (fun _ h9 => by cases h9) dX2_bits_25
      · -- c_2: nI i < 16
        refine lv_iload_n hx hb dX2_bits_10 rfl (lv_at hl 1 rfl) ?_
        refine lv_iload_n hx hb dX2_bits_11 rfl (lv_at hl 0 rfl) ?_
        refine lv_iload_n hx hb dX2_bits_12 rfl (lv_at hl 2 rfl) ?_
        refine lv_ishr hx hb dX2_bits_13 ?_
        refine lv_iconst (v := 1) hx hb dX2_bits_14 (by decide) ?_
        refine lv_iand hx hb dX2_bits_15 ?_
        refine lv_iadd hx hb dX2_bits_16 ?_
        refine lv_istore_n (lv' := [(1, .int (x + ((p1 >>> ((nI i) &&& 31)) &&& 1))), (0, .int p1), (2, .int (nI i))]) hx hb dX2_bits_17 rfl hl (by decide) rfl (fun ls hl => ?_)
        refine lv_iinc (v := nI (i + 1)) (lv' := [(2, .int (nI (i + 1))), (1, .int (x + ((p1 >>> ((nI i) &&& 31)) &&& 1))), (0, .int p1)]) hx hb dX2_bits_18 hl (k := 2) rfl (mk_inc _) (by decide) rfl (fun ls hl => ?_)
        refine lv_goto (tgt := 4) hx hb dX2_bits_21 (by decide) ?_
        exact L_1ih  (i + 1) (x + ((p1 >>> ((nI i) &&& 31)) &&& 1)) (by omega) (by first | (rw [itr_s, ← qx]; done) | (rw [itr_s, ← qx]; first | (simp [c_2, up_s, up_n, nI_1, b2i]; done) | (simp_all []; done) | grind [])) (by omega) ls (lv_sub hl [2, 1, 0] rfl)
  exact L_1 ((16 - 0) + 1) 0 0 (Nat.zero_le _) (by first | rfl | (simp only [itr]; assumption) | (simp [itr, up_s, up_n, nI_1, b2i]; done)) (Nat.lt_succ_self _) ls (lv_sub hl [2, 1, 0] rfl)

def m_whoStep (F : Nat → Int32) (Rr : Nat → Nat → Int32) (g : Nat) (k : Nat) (set : Int32) : Int32 := if Rr 50 k = nI g ∧ Rr 51 k ≤ Rr 53 g - 2 ∧ Rr 53 g - 10 ≤ Rr 52 k then set ||| ((1 : Int32) <<< (Rr 49 k &&& 31)) else set
def m_whoMay (F : Nat → Int32) (Rr : Nat → Nat → Int32) (g : Nat) : Int32 := itr (m_whoStep F Rr g) (F 48).toNatClampNeg 0
