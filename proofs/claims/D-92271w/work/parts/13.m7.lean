/-! THE REFERENCE, 7: copies; the tape fed; sizes and marks; counts -/
set_option maxHeartbeats 4000000 in
set_option maxRecDepth 100000 in
theorem metX2_copy (l : Launch) (D : va_G) (cl : List vw_C) (hcl : cl[0]? = some (RX2, TX2, 61)) (h : Nat) (ad : Nat → Nat) (dA : ClassId) (F : Nat → Int32) (Rr : Nat → Nat → Int32) (p1 : Int32) (p2 : Int32) (p3 : Int32) (p4 : Int32) (p5 : Int32) (h3 : ∀ k, k < 8 → cnB (Rr 3 k) 64) : Met l yX2_copy (ws_ yX2_copy cX2_copy 9 (some .int)) ({ frames := 2, cells := 0, slots := 0, locals := 45 } : Room) (va_Pc [.ref h, .int p1, .int p2, .int p3, .int p4, .int p5] (mPre D cl h ad dA F Rr)) (va_Qi (fun r u => (r, u) = m_copy (va_up F 0 0) Rr p1 p2 p3 p4 p5) (mB D cl h ad dA) (mN h ad)) 0 0 (mN h ad) := by
  refine Met.ofW (cc := cX2_copy) (maxL := 9) (ret := (some .int)) (by decide) rfl ?_
  intro p e s m args below meth c s₁ B hml hv
  obtain ⟨rfl, hK, hP, hD⟩ := hv
  have hx := B.exec
  have hb := B.bytes
  have hr := B.returns
  have hts := atoms_spec (ws := (ws_ yX2_copy cX2_copy 9 (some .int))) B.pre
  have hts : ∀ w ∈ lw_all, w.before _ s = true := fun w h => hts w (List.mem_cons_of_mem _ h)
  have hown : s.vm.findClass RX2 = some m.cls := findClass_of_methodNamed B.named
  have hlocks := B.notSynchronized
  have S : CallFix p m c cX2_copy 9 s ([.ref h, .int p1, .int p2, .int p3, .int p4, .int p5] : List Value).toArray lw_all RX2 := ⟨hx, hb, hml, hown, hts⟩
  have X : mX p s m ([.ref h, .int p1, .int p2, .int p3, .int p4, .int p5] : List Value).toArray c cX2_copy 9 D cl dA := ⟨hx, hb, hml, hown, hts, hK, hcl⟩
  have M : mM D cl h ad dA (mN h ad) s F Rr s.heap [] := ⟨hP, mW_self hD, va_S.rf⟩
  have hl := lv_entry ([.ref h, .int p1, .int p2, .int p3, .int p4, .int p5]) (n := 9) (Nat.le_of_ble_eq_true rfl)
  rw [lg_entry_eq]
  generalize (lg_sl ([.ref h, .int p1, .int p2, .int p3, .int p4, .int p5]) ++ List.replicate (9 - (lg_sl ([.ref h, .int p1, .int p2, .int p3, .int p4, .int p5])).length) Slot.unset).toArray = ls at hl ⊢
  have hl : lv_has ls 9 [(0, .ref h), (1, .int p1), (2, .int p2), (3, .int p3), (4, .int p4), (5, .int p5)] := hl
  refine lv_aload_n hx hb dX2_copy_0 rfl (lv_at hl 0 rfl) ?_
  refine lv_iconst (v := 0) hx hb dX2_copy_1 (by decide) ?_
  refine mp_0 X M dX2_copy_2 (fun H locs M => ?_)
  refine lv_iload_n hx hb dX2_copy_5 rfl (lv_at hl 1 rfl) ?_
  refine s_cI (v := b2i (inB 0 7 p1)) (As := [.int p1]) (rest := []) S (metX2_isSheet l p1) (va_cwS 1 hts (lw_S q1619 q1620 q62 q1621) rfl rfl rfl (by decide +kernel) ⟨Nat.le_of_ble_eq_true rfl, Nat.le_of_ble_eq_true rfl⟩) rfl hl.1 rfl (Nat.le_of_ble_eq_true rfl) dX2_copy_6 ⟨Nat.zero_le _, Nat.zero_le _⟩ ?_
  refine lz_if_eq (tgt := 19) hx hb dX2_copy_9 (by decide) (fun c_1 => ?_) (fun c_1 => ?_)
  · -- c_1: inB 0 7 p1 = false
    refine lv_ldc (v := (-1000001)) hx hb hown (hts _ q1627) dX2_copy_19 ?_
    exact W.iret (v := (-1000001)) hx hb hr (fun t9 ht9 hW9 => ⟨⟨_, (va_up F 0 0, Rr), rfl, (by first | (simp [m_copy, c_1, up_s, up_n, nI_1, b2i]; done) | (simp_all [m_copy]; done) | grind [m_copy]), by show va_P _ _ _ t9.heap; rw [ht9]; exact M.1⟩, M.2.2.F ht9⟩) M.2.2.2.2 dX2_copy_21
  · -- c_1: inB 0 7 p1 = true
    obtain ⟨a1, ha1, rfl⟩ := inB_ex c_1 (n := 7) rfl
    have ea1 : (nI a1).toNatClampNeg = a1 := nI_clamp (by omega)
    refine lv_iload_n hx hb dX2_copy_12 rfl (lv_at hl 3 rfl) ?_
    refine s_cI (v := b2i (inB 0 7 p3)) (As := [.int p3]) (rest := []) S (metX2_isSheet l p3) (va_cwS 1 hts (lw_S q1619 q1620 q62 q1621) rfl rfl rfl (by decide +kernel) ⟨Nat.le_of_ble_eq_true rfl, Nat.le_of_ble_eq_true rfl⟩) rfl hl.1 rfl (Nat.le_of_ble_eq_true rfl) dX2_copy_13 ⟨Nat.zero_le _, Nat.zero_le _⟩ ?_
    refine lz_if_ne (tgt := 22) hx hb dX2_copy_16 (by decide) (fun c_2 => ?_) (fun c_2 => ?_)
    · -- c_2: inB 0 7 p3 = true
      obtain ⟨b1, hb1, rfl⟩ := inB_ex c_2 (n := 7) rfl
      have eb1 : (nI b1).toNatClampNeg = b1 := nI_clamp (by omega)
      refine lv_aload_n hx hb dX2_copy_22 rfl (lv_at hl 0 rfl) ?_
      refine lv_iconst (v := 0) hx hb dX2_copy_23 (by decide) ?_
      refine mp_1 X M dX2_copy_24 (fun H locs M => ?_)
      refine lv_aload_n hx hb dX2_copy_27 rfl (lv_at hl 0 rfl) ?_
      refine mg_2 X M dX2_copy_28 ?_
      refine lv_iload_n hx hb dX2_copy_31 rfl (lv_at hl 1 rfl) ?_
      refine mr_2 X M (f := Rr 2) rfl (j := a1) (vp_in_nI (by omega) (by omega)) (nI_clamp (by omega)) dX2_copy_32 ?_
      refine lb_if_lt (tgt := 45) hx hb dX2_copy_33 (by decide) (fun c_3 c_3' => ?_) (fun c_3 c_3' => ?_)
      · -- c_3: Rr 2 a1 < 0
        refine lv_aload_n hx hb dX2_copy_45 rfl (lv_at hl 0 rfl) ?_
        refine lv_iconst (v := 1) hx hb dX2_copy_46 (by decide) ?_
        refine m_cU (As := [.int 1]) (rest := []) X M (metX2_finding l D cl hcl h ad dA (va_up (va_up F 0 0) 1 0) Rr 1) (cwV 1 hts (lw_V q1628 q1630 qs27 q62 q1631) rfl rfl rfl (by decide +kernel) ⟨Nat.le_of_ble_eq_true rfl, Nat.le_of_ble_eq_true rfl⟩) rfl hl.1 rfl (Nat.le_of_ble_eq_true rfl) dX2_copy_47 ⟨Nat.zero_le _, Nat.zero_le _⟩ (fun r9 F9 R9 hr9 H locs M => ?_)
        obtain ⟨Z_4, eZ_4⟩ : ∃ z, z = m_finding (va_up (va_up F 0 0) 1 0) Rr 1 := ⟨_, rfl⟩
        rw [← eZ_4] at hr9
        obtain ⟨rfl, rfl, rfl⟩ : r9 = Z_4.1 ∧ F9 = Z_4.2.1 ∧ R9 = Z_4.2.2 := ⟨congrArg Prod.fst hr9, congrArg (fun z => z.2.1) hr9, congrArg (fun z => z.2.2) hr9⟩
        exact W.iret (v := Z_4.1) hx hb hr (fun t9 ht9 hW9 => ⟨⟨_, (Z_4.2.1, Z_4.2.2), rfl, (by first | (simp [m_copy, c_1, ea1, c_2, eb1, c_3, c_3', ← eZ_4, up_s, up_n, nI_1, b2i]; done) | (simp [m_copy, c_1, ea1, c_2, eb1, c_3, c_3', eZ_4, up_s, up_n, nI_1, b2i]; done) | (simp_all [m_copy]; done) | grind [m_copy]), by show va_P _ _ _ t9.heap; rw [ht9]; exact M.1⟩, M.2.2.F ht9⟩) M.2.2.2.2 dX2_copy_50
      · -- c_3: Rr 2 a1 ≥ 0
        refine lv_aload_n hx hb dX2_copy_36 rfl (lv_at hl 0 rfl) ?_
        refine mg_2 X M dX2_copy_37 ?_
        refine lv_iload_n hx hb dX2_copy_40 rfl (lv_at hl 3 rfl) ?_
        refine mr_2 X M (f := Rr 2) rfl (j := b1) (vp_in_nI (by omega) (by omega)) (nI_clamp (by omega)) dX2_copy_41 ?_
        refine lb_if_ge (tgt := 51) hx hb dX2_copy_42 (by decide) (fun c_5 c_5' => ?_) (fun c_5 c_5' => ?_)
        · -- c_5: Rr 2 b1 ≥ 0
          refine lv_aload_n hx hb dX2_copy_51 rfl (lv_at hl 0 rfl) ?_
          refine mg_2 X M dX2_copy_52 ?_
          refine lv_iload_n hx hb dX2_copy_55 rfl (lv_at hl 1 rfl) ?_
          refine mr_2 X M (f := Rr 2) rfl (j := a1) (vp_in_nI (by omega) (by omega)) (nI_clamp (by omega)) dX2_copy_56 ?_
          refine lv_aload_n hx hb dX2_copy_57 rfl (lv_at hl 0 rfl) ?_
          refine mg_2 X M dX2_copy_58 ?_
          refine lv_iload_n hx hb dX2_copy_61 rfl (lv_at hl 3 rfl) ?_
          refine mr_2 X M (f := Rr 2) rfl (j := b1) (vp_in_nI (by omega) (by omega)) (nI_clamp (by omega)) dX2_copy_62 ?_
          refine lv_icmp_eq (tgt := 72) hx hb dX2_copy_63 (by decide) (fun c_6 => ?_) (fun c_6 => ?_)
          · -- c_6: Rr 2 a1 = Rr 2 b1
            refine lv_iload_n hx hb dX2_copy_72 rfl (lv_at hl 2 rfl) ?_
            refine lb_if_lt (tgt := 121) hx hb dX2_copy_73 (by decide) (fun c_7 c_7' => ?_) (fun c_7 c_7' => ?_)
            · -- c_7: p2 < 0
              refine lv_aload_n hx hb dX2_copy_121 rfl (lv_at hl 0 rfl) ?_
              refine lv_iconst (v := 2) hx hb dX2_copy_122 (by decide) ?_
              refine m_cU (As := [.int 2]) (rest := []) X M (metX2_finding l D cl hcl h ad dA (va_up (va_up F 0 0) 1 0) Rr 2) (cwV 1 hts (lw_V q1628 q1630 qs27 q62 q1631) rfl rfl rfl (by decide +kernel) ⟨Nat.le_of_ble_eq_true rfl, Nat.le_of_ble_eq_true rfl⟩) rfl hl.1 rfl (Nat.le_of_ble_eq_true rfl) dX2_copy_123 ⟨Nat.zero_le _, Nat.zero_le _⟩ (fun r9 F9 R9 hr9 H locs M => ?_)
              obtain ⟨Z_8, eZ_8⟩ : ∃ z, z = m_finding (va_up (va_up F 0 0) 1 0) Rr 2 := ⟨_, rfl⟩
              rw [← eZ_8] at hr9
              obtain ⟨rfl, rfl, rfl⟩ : r9 = Z_8.1 ∧ F9 = Z_8.2.1 ∧ R9 = Z_8.2.2 := ⟨congrArg Prod.fst hr9, congrArg (fun z => z.2.1) hr9, congrArg (fun z => z.2.2) hr9⟩
              exact W.iret (v := Z_8.1) hx hb hr (fun t9 ht9 hW9 => ⟨⟨_, (Z_8.2.1, Z_8.2.2), rfl, (by first | (simp [m_copy, c_1, ea1, c_2, eb1, c_3, c_3', c_5, c_5', c_6, c_7, c_7', ← eZ_8, up_s, up_n, nI_1, b2i]; done) | (simp [m_copy, c_1, ea1, c_2, eb1, c_3, c_3', c_5, c_5', c_6, c_7, c_7', eZ_8, up_s, up_n, nI_1, b2i]; done) | (simp_all [m_copy]; done) | grind [m_copy]), by show va_P _ _ _ t9.heap; rw [ht9]; exact M.1⟩, M.2.2.F ht9⟩) M.2.2.2.2 dX2_copy_126
            · -- c_7: p2 ≥ 0
              obtain ⟨i1, hi1, rfl⟩ := nat_ge0 c_7
              have ei1 : (nI i1).toNatClampNeg = i1 := nI_clamp (by omega)
              refine lv_iload hx hb dX2_copy_76 (lv_at hl 4 rfl) ?_
              refine lb_if_lt (tgt := 121) hx hb dX2_copy_78 (by decide) (fun c_9 c_9' => ?_) (fun c_9 c_9' => ?_)
              · -- c_9: p4 < 0
                refine lv_aload_n hx hb dX2_copy_121 rfl (lv_at hl 0 rfl) ?_
                refine lv_iconst (v := 2) hx hb dX2_copy_122 (by decide) ?_
                refine m_cU (As := [.int 2]) (rest := []) X M (metX2_finding l D cl hcl h ad dA (va_up (va_up F 0 0) 1 0) Rr 2) (cwV 1 hts (lw_V q1628 q1630 qs27 q62 q1631) rfl rfl rfl (by decide +kernel) ⟨Nat.le_of_ble_eq_true rfl, Nat.le_of_ble_eq_true rfl⟩) rfl hl.1 rfl (Nat.le_of_ble_eq_true rfl) dX2_copy_123 ⟨Nat.zero_le _, Nat.zero_le _⟩ (fun r9 F9 R9 hr9 H locs M => ?_)
                obtain ⟨Z_10, eZ_10⟩ : ∃ z, z = m_finding (va_up (va_up F 0 0) 1 0) Rr 2 := ⟨_, rfl⟩
                rw [← eZ_10] at hr9
                obtain ⟨rfl, rfl, rfl⟩ : r9 = Z_10.1 ∧ F9 = Z_10.2.1 ∧ R9 = Z_10.2.2 := ⟨congrArg Prod.fst hr9, congrArg (fun z => z.2.1) hr9, congrArg (fun z => z.2.2) hr9⟩
                exact W.iret (v := Z_10.1) hx hb hr (fun t9 ht9 hW9 => ⟨⟨_, (Z_10.2.1, Z_10.2.2), rfl, (by first | (simp [m_copy, c_1, ea1, c_2, eb1, c_3, c_3', c_5, c_5', c_6, c_7, c_7', ei1, c_9, c_9', ← eZ_10, up_s, up_n, nI_1, b2i]; done) | (simp [m_copy, c_1, ea1, c_2, eb1, c_3, c_3', c_5, c_5', c_6, c_7, c_7', ei1, c_9, c_9', eZ_10, up_s, up_n, nI_1, b2i]; done) | (simp_all [m_copy]; done) | grind [m_copy]), by show va_P _ _ _ t9.heap; rw [ht9]; exact M.1⟩, M.2.2.F ht9⟩) M.2.2.2.2 dX2_copy_126
              · -- c_9: p4 ≥ 0
                obtain ⟨j1, hj1, rfl⟩ := nat_ge0 c_9
                have ej1 : (nI j1).toNatClampNeg = j1 := nI_clamp (by omega)
                refine lv_iload hx hb dX2_copy_81 (lv_at hl 5 rfl) ?_
                refine lb_if_lt (tgt := 121) hx hb dX2_copy_83 (by decide) (fun c_11 c_11' => ?_) (fun c_11 c_11' => ?_)
                · -- c_11: p5 < 0
                  refine lv_aload_n hx hb dX2_copy_121 rfl (lv_at hl 0 rfl) ?_
                  refine lv_iconst (v := 2) hx hb dX2_copy_122 (by decide) ?_
                  refine m_cU (As := [.int 2]) (rest := []) X M (metX2_finding l D cl hcl h ad dA (va_up (va_up F 0 0) 1 0) Rr 2) (cwV 1 hts (lw_V q1628 q1630 qs27 q62 q1631) rfl rfl rfl (by decide +kernel) ⟨Nat.le_of_ble_eq_true rfl, Nat.le_of_ble_eq_true rfl⟩) rfl hl.1 rfl (Nat.le_of_ble_eq_true rfl) dX2_copy_123 ⟨Nat.zero_le _, Nat.zero_le _⟩ (fun r9 F9 R9 hr9 H locs M => ?_)
                  obtain ⟨Z_12, eZ_12⟩ : ∃ z, z = m_finding (va_up (va_up F 0 0) 1 0) Rr 2 := ⟨_, rfl⟩
                  rw [← eZ_12] at hr9
                  obtain ⟨rfl, rfl, rfl⟩ : r9 = Z_12.1 ∧ F9 = Z_12.2.1 ∧ R9 = Z_12.2.2 := ⟨congrArg Prod.fst hr9, congrArg (fun z => z.2.1) hr9, congrArg (fun z => z.2.2) hr9⟩
                  exact W.iret (v := Z_12.1) hx hb hr (fun t9 ht9 hW9 => ⟨⟨_, (Z_12.2.1, Z_12.2.2), rfl, (by first | (simp [m_copy, c_1, ea1, c_2, eb1, c_3, c_3', c_5, c_5', c_6, c_7, c_7', ei1, c_9, c_9', ej1, c_11, c_11', ← eZ_12, up_s, up_n, nI_1, b2i]; done) | (simp [m_copy, c_1, ea1, c_2, eb1, c_3, c_3', c_5, c_5', c_6, c_7, c_7', ei1, c_9, c_9', ej1, c_11, c_11', eZ_12, up_s, up_n, nI_1, b2i]; done) | (simp_all [m_copy]; done) | grind [m_copy]), by show va_P _ _ _ t9.heap; rw [ht9]; exact M.1⟩, M.2.2.F ht9⟩) M.2.2.2.2 dX2_copy_126
                · -- c_11: p5 ≥ 0
                  obtain ⟨n1, hn1, rfl⟩ := nat_ge0 c_11
                  have en1 : (nI n1).toNatClampNeg = n1 := nI_clamp (by omega)
                  refine lv_iload_n hx hb dX2_copy_86 rfl (lv_at hl 2 rfl) ?_
                  refine lv_i2l (v := (nI i1).toInt64) hx hb dX2_copy_87 rfl ?_
                  refine lv_iload hx hb dX2_copy_88 (lv_at hl 5 rfl) ?_
                  refine lv_i2l (v := (nI n1).toInt64) hx hb dX2_copy_90 rfl ?_
                  refine lv_ladd hx hb dX2_copy_91 ?_
                  refine lv_aload_n hx hb dX2_copy_92 rfl (lv_at hl 0 rfl) ?_
                  refine mg_3 X M dX2_copy_93 ?_
                  refine lv_iload_n hx hb dX2_copy_96 rfl (lv_at hl 1 rfl) ?_
                  refine mr_3 X M (f := Rr 3) rfl (j := a1) (vp_in_nI (by omega) (by omega)) (nI_clamp (by omega)) dX2_copy_97 ?_
                  refine lv_i2l (v := (Rr 3 a1).toInt64) hx hb dX2_copy_98 rfl ?_
                  refine W.lcmp hx hb dX2_copy_99 ?_
                  refine lc_if_gt (tgt := 121) hx hb dX2_copy_100 (by decide) (fun c_13 c_13' => ?_) (fun c_13 c_13' => ?_)
                  · -- c_13: ((nI i1).toInt64) + ((nI n1).toInt64) > (Rr 3 a1).toInt64
                    refine lv_aload_n hx hb dX2_copy_121 rfl (lv_at hl 0 rfl) ?_
                    refine lv_iconst (v := 2) hx hb dX2_copy_122 (by decide) ?_
                    refine m_cU (As := [.int 2]) (rest := []) X M (metX2_finding l D cl hcl h ad dA (va_up (va_up F 0 0) 1 0) Rr 2) (cwV 1 hts (lw_V q1628 q1630 qs27 q62 q1631) rfl rfl rfl (by decide +kernel) ⟨Nat.le_of_ble_eq_true rfl, Nat.le_of_ble_eq_true rfl⟩) rfl hl.1 rfl (Nat.le_of_ble_eq_true rfl) dX2_copy_123 ⟨Nat.zero_le _, Nat.zero_le _⟩ (fun r9 F9 R9 hr9 H locs M => ?_)
                    obtain ⟨Z_14, eZ_14⟩ : ∃ z, z = m_finding (va_up (va_up F 0 0) 1 0) Rr 2 := ⟨_, rfl⟩
                    rw [← eZ_14] at hr9
                    obtain ⟨rfl, rfl, rfl⟩ : r9 = Z_14.1 ∧ F9 = Z_14.2.1 ∧ R9 = Z_14.2.2 := ⟨congrArg Prod.fst hr9, congrArg (fun z => z.2.1) hr9, congrArg (fun z => z.2.2) hr9⟩
                    exact W.iret (v := Z_14.1) hx hb hr (fun t9 ht9 hW9 => ⟨⟨_, (Z_14.2.1, Z_14.2.2), rfl, (by first | (simp [m_copy, c_1, ea1, c_2, eb1, c_3, c_3', c_5, c_5', c_6, c_7, c_7', ei1, c_9, c_9', ej1, c_11, c_11', en1, c_13, c_13', ← eZ_14, up_s, up_n, nI_1, b2i]; done) | (simp [m_copy, c_1, ea1, c_2, eb1, c_3, c_3', c_5, c_5', c_6, c_7, c_7', ei1, c_9, c_9', ej1, c_11, c_11', en1, c_13, c_13', eZ_14, up_s, up_n, nI_1, b2i]; done) | (simp_all [m_copy]; done) | grind [m_copy]), by show va_P _ _ _ t9.heap; rw [ht9]; exact M.1⟩, M.2.2.F ht9⟩) M.2.2.2.2 dX2_copy_126
                  · -- c_13: ((nI i1).toInt64) + ((nI n1).toInt64) ≤ (Rr 3 a1).toInt64
                    have hs1 := add64 hi1 hn1 c_13 (h3 a1 (by omega)) (n := 64) rfl
                    refine lv_iload hx hb dX2_copy_103 (lv_at hl 4 rfl) ?_
                    refine lv_i2l (v := (nI j1).toInt64) hx hb dX2_copy_105 rfl ?_
                    refine lv_iload hx hb dX2_copy_106 (lv_at hl 5 rfl) ?_
                    refine lv_i2l (v := (nI n1).toInt64) hx hb dX2_copy_108 rfl ?_
                    refine lv_ladd hx hb dX2_copy_109 ?_
                    refine lv_aload_n hx hb dX2_copy_110 rfl (lv_at hl 0 rfl) ?_
                    refine mg_3 X M dX2_copy_111 ?_
                    refine lv_iload_n hx hb dX2_copy_114 rfl (lv_at hl 3 rfl) ?_
                    refine mr_3 X M (f := Rr 3) rfl (j := b1) (vp_in_nI (by omega) (by omega)) (nI_clamp (by omega)) dX2_copy_115 ?_
                    refine lv_i2l (v := (Rr 3 b1).toInt64) hx hb dX2_copy_116 rfl ?_
                    refine W.lcmp hx hb dX2_copy_117 ?_
                    refine lc_if_le (tgt := 127) hx hb dX2_copy_118 (by decide) (fun c_15 c_15' => ?_) (fun c_15 c_15' => ?_)
                    · -- c_15: ((nI j1).toInt64) + ((nI n1).toInt64) ≤ (Rr 3 b1).toInt64
                      have hs2 := add64 hj1 hn1 c_15 (h3 b1 (by omega)) (n := 64) rfl
                      refine lv_iload_n hx hb dX2_copy_127 rfl (lv_at hl 2 rfl) ?_
                      refine lv_iload hx hb dX2_copy_128 (lv_at hl 4 rfl) ?_
                      refine ln_icmp_lt (tgt := 137) hx hb (a := i1) (b := j1) (by omega) (by omega) dX2_copy_130 (by decide) (fun c_16 => ?_) (fun c_16 => ?_)
                      · -- c_16: nI i1 < nI j1
                        have ed : decide (nI j1 ≤ nI i1) = false := decide_eq_false (fun q => by have q2 := (nI_leI (by omega) (by omega)).mp q; omega)
                        refine lv_iconst (v := 0) hx hb dX2_copy_137 (by decide) ?_
                        refine lv_istore (lv' := [(6, .int 0), (0, .ref h), (1, .int (nI a1)), (2, .int (nI i1)), (3, .int (nI b1)), (4, .int (nI j1)), (5, .int (nI n1))]) hx hb dX2_copy_138 hl (by decide) rfl (fun ls hl => ?_)
                        refine lv_iconst (v := 0) hx hb dX2_copy_140 (by decide) ?_
                        refine lv_istore (lv' := [(7, .int 0), (6, .int 0), (0, .ref h), (1, .int (nI a1)), (2, .int (nI i1)), (3, .int (nI b1)), (4, .int (nI j1)), (5, .int (nI n1))]) hx hb dX2_copy_141 hl (by decide) rfl (fun ls hl => ?_)
                        have L_17 : ∀ (fuL_17 : Nat) (k : Nat) (R1 : Nat → Nat → Int32), (k ≤ n1) → (R1 = itr (m_copyStep a1 i1 b1 j1 n1 false) k Rr) → n1 - k < fuL_17 → ∀ (H : Heap) (locs : List Loc), mM D cl h ad dA (mN h ad) s (va_up (va_up F 0 0) 1 0) R1 H locs → ∀ ls, lv_has ls 9 [(0, .ref h), (1, .int (nI a1)), (2, .int (nI i1)), (3, .int (nI b1)), (4, .int (nI j1)), (5, .int (nI n1)), (6, .int 0), (7, .int (nI k))] → W p l e ({ frames := 2, cells := 0, slots := 0, locals := 45 } : Room) s m ([.ref h, .int (nI a1), .int (nI i1), .int (nI b1), .int (nI j1), .int (nI n1)] : List Value).toArray below meth c H locs 0 0 (MQ below (va_Qi (fun r u => (r, u) = m_copy (va_up F 0 0) Rr (nI a1) (nI i1) (nI b1) (nI j1) (nI n1)) (mB D cl h ad dA) (mN h ad)) ([.ref h, .int (nI a1), .int (nI i1), .int (nI b1), .int (nI j1), .int (nI n1)] : List Value).toArray s 0 0 (mN h ad)) (F0 m 143 ls []) := by
                          intro fuL_17
                          induction fuL_17 with
                          | zero => intro k R1 hk qR1 hfuL_17; exact absurd hfuL_17 (Nat.not_lt_zero _)
                          | succ fuL_17 L_17ih =>
                            intro k R1 hk qR1 hfuL_17 H locs M ls hl
                            refine lv_iload hx hb dX2_copy_143 (lv_at hl 7 rfl) ?_
                            refine lv_iload hx hb dX2_copy_145 (lv_at hl 5 rfl) ?_
                            refine ln_icmp_ge (tgt := 204) hx hb (a := k) (b := n1) (by omega) (by omega) dX2_copy_147 (by decide) (fun c_18 => ?_) (fun c_18 => ?_)
                            · -- c_18: nI k ≥ nI n1
                              have ek : k = n1 := by omega
                              rw [ek] at qR1
                              refine lv_iload hx hb dX2_copy_204 (lv_at hl 5 rfl) ?_
                              exact W.iret (v := nI n1) hx hb hr (fun t9 ht9 hW9 => ⟨⟨_, (va_up (va_up F 0 0) 1 0, R1), rfl, (by simp only [m_copy, m_finding]; rw [if_neg (by simp [c_1, ea1, c_2, eb1, c_3, c_3', c_5, c_5', c_6, c_7, c_7', ei1, c_9, c_9', ej1, c_11, c_11', en1, c_13, c_13', c_15, c_15', c_16, ed, c_18, ← qR1]), if_neg (by simp [up_n, c_1, ea1, c_2, eb1, c_3, c_3', c_5, c_5', c_6, c_7, c_7', ei1, c_9, c_9', ej1, c_11, c_11', en1, c_13, c_13', c_15, c_15', c_16, ed, c_18, ← qR1]), if_neg (by simp [c_1, ea1, c_2, eb1, c_3, c_3', c_5, c_5', c_6, c_7, c_7', ei1, c_9, c_9', ej1, c_11, c_11', en1, c_13, c_13', c_15, c_15', c_16, ed, c_18, ← qR1]), if_neg (by simp [c_1, ea1, c_2, eb1, c_3, c_3', c_5, c_5', c_6, c_7, c_7', ei1, c_9, c_9', ej1, c_11, c_11', en1, c_13, c_13', c_15, c_15', c_16, ed, c_18, ← qR1])]; simp [c_1, ea1, c_2, eb1, c_3, c_3', c_5, c_5', c_6, c_7, c_7', ei1, c_9, c_9', ej1, c_11, c_11', en1, c_13, c_13', c_15, c_15', c_16, ed, c_18, ← qR1]), by show va_P _ _ _ t9.heap; rw [ht9]; exact M.1⟩, M.2.2.F ht9⟩) M.2.2.2.2 dX2_copy_206
                            · -- c_18: nI k < nI n1
                              refine lv_iload hx hb dX2_copy_150 (lv_at hl 6 rfl) ?_
                              refine lv_if_eq (tgt := 160) hx hb dX2_copy_152 (by decide) (fun c_19 => ?_) (fun c_19 => absurd c_19 (by decide))
                              refine lv_iload hx hb dX2_copy_160 (lv_at hl 5 rfl) ?_
                              refine lv_iconst (v := 1) hx hb dX2_copy_162 (by decide) ?_
                              refine lv_isub hx hb dX2_copy_163 ?_
                              refine lv_asi (y := nI (n1 - 1)) (nI_subN (a := n1) (b := 1) (by omega)) ?_
                              refine lv_iload hx hb dX2_copy_164 (lv_at hl 7 rfl) ?_
                              refine lv_isub hx hb dX2_copy_166 ?_
                              refine lv_asi (y := nI ((n1 - 1) - k)) (nI_subN (a := n1 - 1) (b := k) (by omega)) ?_
                              refine lv_istore (lv' := [(8, .int (nI ((n1 - 1) - k))), (0, .ref h), (1, .int (nI a1)), (2, .int (nI i1)), (3, .int (nI b1)), (4, .int (nI j1)), (5, .int (nI n1)), (6, .int 0), (7, .int (nI k))]) hx hb dX2_copy_167 hl (by decide) rfl (fun ls hl => ?_)
                              refine lv_aload_n hx hb dX2_copy_169 rfl (lv_at hl 1 rfl) ?_
                              refine mg_4 X M dX2_copy_170 ?_
                              refine lv_bipush (v := 64) hx hb dX2_copy_173 (by decide) ?_
                              refine lv_iload_n hx hb dX2_copy_175 rfl (lv_at hl 4 rfl) ?_
                              refine lv_imul hx hb dX2_copy_176 ?_
                              refine lv_asi (y := nI (64 * b1)) (nI_mul 64 b1) ?_
                              refine lv_iload hx hb dX2_copy_177 (lv_at hl 5 rfl) ?_
                              refine lv_iadd hx hb dX2_copy_179 ?_
                              refine lv_asi (y := nI ((64 * b1) + j1)) (nI_add (64 * b1) j1) ?_
                              refine lv_iload hx hb dX2_copy_180 (lv_at hl 0 rfl) ?_
                              refine lv_iadd hx hb dX2_copy_182 ?_
                              refine lv_asi (y := nI (((64 * b1) + j1) + ((n1 - 1) - k))) (nI_add ((64 * b1) + j1) ((n1 - 1) - k)) ?_
                              refine lv_aload_n hx hb dX2_copy_183 rfl (lv_at hl 1 rfl) ?_
                              refine mg_4 X M dX2_copy_184 ?_
                              refine lv_bipush (v := 64) hx hb dX2_copy_187 (by decide) ?_
                              refine lv_iload_n hx hb dX2_copy_189 rfl (lv_at hl 2 rfl) ?_
                              refine lv_imul hx hb dX2_copy_190 ?_
                              refine lv_asi (y := nI (64 * a1)) (nI_mul 64 a1) ?_
                              refine lv_iload_n hx hb dX2_copy_191 rfl (lv_at hl 3 rfl) ?_
                              refine lv_iadd hx hb dX2_copy_192 ?_
                              refine lv_asi (y := nI ((64 * a1) + i1)) (nI_add (64 * a1) i1) ?_
                              refine lv_iload hx hb dX2_copy_193 (lv_at hl 0 rfl) ?_
                              refine lv_iadd hx hb dX2_copy_195 ?_
                              refine lv_asi (y := nI (((64 * a1) + i1) + ((n1 - 1) - k))) (nI_add ((64 * a1) + i1) ((n1 - 1) - k)) ?_
                              refine mr_4 X M (f := R1 4) rfl (j := ((64 * a1) + i1) + ((n1 - 1) - k)) (vp_in_nI (by omega) (by omega)) (nI_clamp (by omega)) dX2_copy_196 ?_
                              refine ms_4 X M (j := ((64 * b1) + j1) + ((n1 - 1) - k)) (vp_in_nI (by omega) (by omega)) (nI_clamp (by omega)) dX2_copy_197 (fun H locs M => ?_)
                              refine lv_iinc (v := nI (k + 1)) (lv' := [(7, .int (nI (k + 1))), (8, .int (nI ((n1 - 1) - k))), (0, .ref h), (1, .int (nI a1)), (2, .int (nI i1)), (3, .int (nI b1)), (4, .int (nI j1)), (5, .int (nI n1)), (6, .int 0)]) hx hb dX2_copy_198 hl (k := 8) rfl (mk_inc _) (by decide) rfl (fun ls hl => ?_)
                              refine lv_goto (tgt := 143) hx hb dX2_copy_201 (by decide) ?_
                              exact L_17ih  (k + 1) (mset R1 4 (((64 * b1) + j1) + ((n1 - 1) - k)) (R1 4 (((64 * a1) + i1) + ((n1 - 1) - k)))) (by omega) (by first | (rw [itr_s, ← qR1]; done) | (rw [itr_s, ← qR1]; first | (simp [m_copyStep, c_1, ea1, c_2, eb1, c_3, c_3', c_5, c_5', c_6, c_7, c_7', ei1, c_9, c_9', ej1, c_11, c_11', en1, c_13, c_13', c_15, c_15', c_16, ed, c_18, up_s, up_n, nI_1, b2i]; done) | (simp_all [m_copyStep]; done) | grind [m_copyStep])) (by omega) _ _ M ls (lv_sub hl [2, 3, 4, 5, 6, 7, 8, 0] rfl)
                        exact L_17 ((n1 - 0) + 1) 0 Rr (by omega) rfl (Nat.lt_succ_self _) _ _ M ls (lv_sub hl [2, 3, 4, 5, 6, 7, 1, 0] rfl)
                      · -- c_16: nI i1 ≥ nI j1
                        have ed : decide (nI j1 ≤ nI i1) = true := decide_eq_true (nI_le c_16 (by omega))
                        refine lv_iconst (v := 1) hx hb dX2_copy_133 (by decide) ?_
                        refine lv_goto (tgt := 138) hx hb dX2_copy_134 (by decide) ?_
                        refine lv_istore (lv' := [(6, .int 1), (0, .ref h), (1, .int (nI a1)), (2, .int (nI i1)), (3, .int (nI b1)), (4, .int (nI j1)), (5, .int (nI n1))]) hx hb dX2_copy_138 hl (by decide) rfl (fun ls hl => ?_)
                        refine lv_iconst (v := 0) hx hb dX2_copy_140 (by decide) ?_
                        refine lv_istore (lv' := [(7, .int 0), (6, .int 1), (0, .ref h), (1, .int (nI a1)), (2, .int (nI i1)), (3, .int (nI b1)), (4, .int (nI j1)), (5, .int (nI n1))]) hx hb dX2_copy_141 hl (by decide) rfl (fun ls hl => ?_)
                        have L_20 : ∀ (fuL_20 : Nat) (k : Nat) (R1 : Nat → Nat → Int32), (k ≤ n1) → (R1 = itr (m_copyStep a1 i1 b1 j1 n1 true) k Rr) → n1 - k < fuL_20 → ∀ (H : Heap) (locs : List Loc), mM D cl h ad dA (mN h ad) s (va_up (va_up F 0 0) 1 0) R1 H locs → ∀ ls, lv_has ls 9 [(0, .ref h), (1, .int (nI a1)), (2, .int (nI i1)), (3, .int (nI b1)), (4, .int (nI j1)), (5, .int (nI n1)), (6, .int 1), (7, .int (nI k))] → W p l e ({ frames := 2, cells := 0, slots := 0, locals := 45 } : Room) s m ([.ref h, .int (nI a1), .int (nI i1), .int (nI b1), .int (nI j1), .int (nI n1)] : List Value).toArray below meth c H locs 0 0 (MQ below (va_Qi (fun r u => (r, u) = m_copy (va_up F 0 0) Rr (nI a1) (nI i1) (nI b1) (nI j1) (nI n1)) (mB D cl h ad dA) (mN h ad)) ([.ref h, .int (nI a1), .int (nI i1), .int (nI b1), .int (nI j1), .int (nI n1)] : List Value).toArray s 0 0 (mN h ad)) (F0 m 143 ls []) := by
                          intro fuL_20
                          induction fuL_20 with
                          | zero => intro k R1 hk qR1 hfuL_20; exact absurd hfuL_20 (Nat.not_lt_zero _)
                          | succ fuL_20 L_20ih =>
                            intro k R1 hk qR1 hfuL_20 H locs M ls hl
                            refine lv_iload hx hb dX2_copy_143 (lv_at hl 7 rfl) ?_
                            refine lv_iload hx hb dX2_copy_145 (lv_at hl 5 rfl) ?_
                            refine ln_icmp_ge (tgt := 204) hx hb (a := k) (b := n1) (by omega) (by omega) dX2_copy_147 (by decide) (fun c_21 => ?_) (fun c_21 => ?_)
                            · -- c_21: nI k ≥ nI n1
                              have ek : k = n1 := by omega
                              rw [ek] at qR1
                              refine lv_iload hx hb dX2_copy_204 (lv_at hl 5 rfl) ?_
                              exact W.iret (v := nI n1) hx hb hr (fun t9 ht9 hW9 => ⟨⟨_, (va_up (va_up F 0 0) 1 0, R1), rfl, (by simp only [m_copy, m_finding]; rw [if_neg (by simp [c_1, ea1, c_2, eb1, c_3, c_3', c_5, c_5', c_6, c_7, c_7', ei1, c_9, c_9', ej1, c_11, c_11', en1, c_13, c_13', c_15, c_15', c_16, ed, c_21, ← qR1]), if_neg (by simp [up_n, c_1, ea1, c_2, eb1, c_3, c_3', c_5, c_5', c_6, c_7, c_7', ei1, c_9, c_9', ej1, c_11, c_11', en1, c_13, c_13', c_15, c_15', c_16, ed, c_21, ← qR1]), if_neg (by simp [c_1, ea1, c_2, eb1, c_3, c_3', c_5, c_5', c_6, c_7, c_7', ei1, c_9, c_9', ej1, c_11, c_11', en1, c_13, c_13', c_15, c_15', c_16, ed, c_21, ← qR1]), if_neg (by simp [c_1, ea1, c_2, eb1, c_3, c_3', c_5, c_5', c_6, c_7, c_7', ei1, c_9, c_9', ej1, c_11, c_11', en1, c_13, c_13', c_15, c_15', c_16, ed, c_21, ← qR1])]; simp [c_1, ea1, c_2, eb1, c_3, c_3', c_5, c_5', c_6, c_7, c_7', ei1, c_9, c_9', ej1, c_11, c_11', en1, c_13, c_13', c_15, c_15', c_16, ed, c_21, ← qR1]), by show va_P _ _ _ t9.heap; rw [ht9]; exact M.1⟩, M.2.2.F ht9⟩) M.2.2.2.2 dX2_copy_206
                            · -- c_21: nI k < nI n1
                              refine lv_iload hx hb dX2_copy_150 (lv_at hl 6 rfl) ?_
                              refine lv_if_eq (tgt := 160) hx hb dX2_copy_152 (by decide) (fun c_22 => absurd c_22 (by decide)) (fun c_22 => ?_)
                              refine lv_iload hx hb dX2_copy_155 (lv_at hl 7 rfl) ?_
                              refine lv_goto (tgt := 167) hx hb dX2_copy_157 (by decide) ?_
                              refine lv_istore (lv' := [(8, .int (nI k)), (0, .ref h), (1, .int (nI a1)), (2, .int (nI i1)), (3, .int (nI b1)), (4, .int (nI j1)), (5, .int (nI n1)), (6, .int 1), (7, .int (nI k))]) hx hb dX2_copy_167 hl (by decide) rfl (fun ls hl => ?_)
                              refine lv_aload_n hx hb dX2_copy_169 rfl (lv_at hl 1 rfl) ?_
                              refine mg_4 X M dX2_copy_170 ?_
                              refine lv_bipush (v := 64) hx hb dX2_copy_173 (by decide) ?_
                              refine lv_iload_n hx hb dX2_copy_175 rfl (lv_at hl 4 rfl) ?_
                              refine lv_imul hx hb dX2_copy_176 ?_
                              refine lv_asi (y := nI (64 * b1)) (nI_mul 64 b1) ?_
                              refine lv_iload hx hb dX2_copy_177 (lv_at hl 5 rfl) ?_
                              refine lv_iadd hx hb dX2_copy_179 ?_
                              refine lv_asi (y := nI ((64 * b1) + j1)) (nI_add (64 * b1) j1) ?_
                              refine lv_iload hx hb dX2_copy_180 (lv_at hl 0 rfl) ?_
                              refine lv_iadd hx hb dX2_copy_182 ?_
                              refine lv_asi (y := nI (((64 * b1) + j1) + k)) (nI_add ((64 * b1) + j1) k) ?_
                              refine lv_aload_n hx hb dX2_copy_183 rfl (lv_at hl 1 rfl) ?_
                              refine mg_4 X M dX2_copy_184 ?_
                              refine lv_bipush (v := 64) hx hb dX2_copy_187 (by decide) ?_
                              refine lv_iload_n hx hb dX2_copy_189 rfl (lv_at hl 2 rfl) ?_
                              refine lv_imul hx hb dX2_copy_190 ?_
                              refine lv_asi (y := nI (64 * a1)) (nI_mul 64 a1) ?_
                              refine lv_iload_n hx hb dX2_copy_191 rfl (lv_at hl 3 rfl) ?_
                              refine lv_iadd hx hb dX2_copy_192 ?_
                              refine lv_asi (y := nI ((64 * a1) + i1)) (nI_add (64 * a1) i1) ?_
                              refine lv_iload hx hb dX2_copy_193 (lv_at hl 0 rfl) ?_
                              refine lv_iadd hx hb dX2_copy_195 ?_
                              refine lv_asi (y := nI (((64 * a1) + i1) + k)) (nI_add ((64 * a1) + i1) k) ?_
                              refine mr_4 X M (f := R1 4) rfl (j := ((64 * a1) + i1) + k) (vp_in_nI (by omega) (by omega)) (nI_clamp (by omega)) dX2_copy_196 ?_
                              refine ms_4 X M (j := ((64 * b1) + j1) + k) (vp_in_nI (by omega) (by omega)) (nI_clamp (by omega)) dX2_copy_197 (fun H locs M => ?_)
                              refine lv_iinc (v := nI (k + 1)) (lv' := [(7, .int (nI (k + 1))), (8, .int (nI k)), (0, .ref h), (1, .int (nI a1)), (2, .int (nI i1)), (3, .int (nI b1)), (4, .int (nI j1)), (5, .int (nI n1)), (6, .int 1)]) hx hb dX2_copy_198 hl (k := 8) rfl (mk_inc _) (by decide) rfl (fun ls hl => ?_)
                              refine lv_goto (tgt := 143) hx hb dX2_copy_201 (by decide) ?_
                              exact L_20ih  (k + 1) (mset R1 4 (((64 * b1) + j1) + k) (R1 4 (((64 * a1) + i1) + k))) (by omega) (by first | (rw [itr_s, ← qR1]; done) | (rw [itr_s, ← qR1]; first | (simp [m_copyStep, c_1, ea1, c_2, eb1, c_3, c_3', c_5, c_5', c_6, c_7, c_7', ei1, c_9, c_9', ej1, c_11, c_11', en1, c_13, c_13', c_15, c_15', c_16, ed, c_21, up_s, up_n, nI_1, b2i]; done) | (simp_all [m_copyStep]; done) | grind [m_copyStep])) (by omega) _ _ M ls (lv_sub hl [2, 3, 4, 5, 6, 7, 8, 0] rfl)
                        exact L_20 ((n1 - 0) + 1) 0 Rr (by omega) rfl (Nat.lt_succ_self _) _ _ M ls (lv_sub hl [2, 3, 4, 5, 6, 7, 1, 0] rfl)
                    · -- c_15: ((nI j1).toInt64) + ((nI n1).toInt64) > (Rr 3 b1).toInt64
                      refine lv_aload_n hx hb dX2_copy_121 rfl (lv_at hl 0 rfl) ?_
                      refine lv_iconst (v := 2) hx hb dX2_copy_122 (by decide) ?_
                      refine m_cU (As := [.int 2]) (rest := []) X M (metX2_finding l D cl hcl h ad dA (va_up (va_up F 0 0) 1 0) Rr 2) (cwV 1 hts (lw_V q1628 q1630 qs27 q62 q1631) rfl rfl rfl (by decide +kernel) ⟨Nat.le_of_ble_eq_true rfl, Nat.le_of_ble_eq_true rfl⟩) rfl hl.1 rfl (Nat.le_of_ble_eq_true rfl) dX2_copy_123 ⟨Nat.zero_le _, Nat.zero_le _⟩ (fun r9 F9 R9 hr9 H locs M => ?_)
                      obtain ⟨Z_23, eZ_23⟩ : ∃ z, z = m_finding (va_up (va_up F 0 0) 1 0) Rr 2 := ⟨_, rfl⟩
                      rw [← eZ_23] at hr9
                      obtain ⟨rfl, rfl, rfl⟩ : r9 = Z_23.1 ∧ F9 = Z_23.2.1 ∧ R9 = Z_23.2.2 := ⟨congrArg Prod.fst hr9, congrArg (fun z => z.2.1) hr9, congrArg (fun z => z.2.2) hr9⟩
                      exact W.iret (v := Z_23.1) hx hb hr (fun t9 ht9 hW9 => ⟨⟨_, (Z_23.2.1, Z_23.2.2), rfl, (by first | (simp [m_copy, c_1, ea1, c_2, eb1, c_3, c_3', c_5, c_5', c_6, c_7, c_7', ei1, c_9, c_9', ej1, c_11, c_11', en1, c_13, c_13', c_15, c_15', ← eZ_23, up_s, up_n, nI_1, b2i]; done) | (simp [m_copy, c_1, ea1, c_2, eb1, c_3, c_3', c_5, c_5', c_6, c_7, c_7', ei1, c_9, c_9', ej1, c_11, c_11', en1, c_13, c_13', c_15, c_15', eZ_23, up_s, up_n, nI_1, b2i]; done) | (simp_all [m_copy]; done) | grind [m_copy]), by show va_P _ _ _ t9.heap; rw [ht9]; exact M.1⟩, M.2.2.F ht9⟩) M.2.2.2.2 dX2_copy_126
          · -- c_6: Rr 2 a1 ≠ Rr 2 b1
            refine lv_aload_n hx hb dX2_copy_66 rfl (lv_at hl 0 rfl) ?_
            refine lv_iconst (v := 5) hx hb dX2_copy_67 (by decide) ?_
            refine m_cU (As := [.int 5]) (rest := []) X M (metX2_finding l D cl hcl h ad dA (va_up (va_up F 0 0) 1 0) Rr 5) (cwV 1 hts (lw_V q1628 q1630 qs27 q62 q1631) rfl rfl rfl (by decide +kernel) ⟨Nat.le_of_ble_eq_true rfl, Nat.le_of_ble_eq_true rfl⟩) rfl hl.1 rfl (Nat.le_of_ble_eq_true rfl) dX2_copy_68 ⟨Nat.zero_le _, Nat.zero_le _⟩ (fun r9 F9 R9 hr9 H locs M => ?_)
            obtain ⟨Z_24, eZ_24⟩ : ∃ z, z = m_finding (va_up (va_up F 0 0) 1 0) Rr 5 := ⟨_, rfl⟩
            rw [← eZ_24] at hr9
            obtain ⟨rfl, rfl, rfl⟩ : r9 = Z_24.1 ∧ F9 = Z_24.2.1 ∧ R9 = Z_24.2.2 := ⟨congrArg Prod.fst hr9, congrArg (fun z => z.2.1) hr9, congrArg (fun z => z.2.2) hr9⟩
            exact W.iret (v := Z_24.1) hx hb hr (fun t9 ht9 hW9 => ⟨⟨_, (Z_24.2.1, Z_24.2.2), rfl, (by first | (simp [m_copy, c_1, ea1, c_2, eb1, c_3, c_3', c_5, c_5', c_6, ← eZ_24, up_s, up_n, nI_1, b2i]; done) | (simp [m_copy, c_1, ea1, c_2, eb1, c_3, c_3', c_5, c_5', c_6, eZ_24, up_s, up_n, nI_1, b2i]; done) | (simp_all [m_copy]; done) | grind [m_copy]), by show va_P _ _ _ t9.heap; rw [ht9]; exact M.1⟩, M.2.2.F ht9⟩) M.2.2.2.2 dX2_copy_71
        · -- c_5: Rr 2 b1 < 0
          refine lv_aload_n hx hb dX2_copy_45 rfl (lv_at hl 0 rfl) ?_
          refine lv_iconst (v := 1) hx hb dX2_copy_46 (by decide) ?_
          refine m_cU (As := [.int 1]) (rest := []) X M (metX2_finding l D cl hcl h ad dA (va_up (va_up F 0 0) 1 0) Rr 1) (cwV 1 hts (lw_V q1628 q1630 qs27 q62 q1631) rfl rfl rfl (by decide +kernel) ⟨Nat.le_of_ble_eq_true rfl, Nat.le_of_ble_eq_true rfl⟩) rfl hl.1 rfl (Nat.le_of_ble_eq_true rfl) dX2_copy_47 ⟨Nat.zero_le _, Nat.zero_le _⟩ (fun r9 F9 R9 hr9 H locs M => ?_)
          obtain ⟨Z_25, eZ_25⟩ : ∃ z, z = m_finding (va_up (va_up F 0 0) 1 0) Rr 1 := ⟨_, rfl⟩
          rw [← eZ_25] at hr9
          obtain ⟨rfl, rfl, rfl⟩ : r9 = Z_25.1 ∧ F9 = Z_25.2.1 ∧ R9 = Z_25.2.2 := ⟨congrArg Prod.fst hr9, congrArg (fun z => z.2.1) hr9, congrArg (fun z => z.2.2) hr9⟩
          exact W.iret (v := Z_25.1) hx hb hr (fun t9 ht9 hW9 => ⟨⟨_, (Z_25.2.1, Z_25.2.2), rfl, (by first | (simp [m_copy, c_1, ea1, c_2, eb1, c_3, c_3', c_5, c_5', ← eZ_25, up_s, up_n, nI_1, b2i]; done) | (simp [m_copy, c_1, ea1, c_2, eb1, c_3, c_3', c_5, c_5', eZ_25, up_s, up_n, nI_1, b2i]; done) | (simp_all [m_copy]; done) | grind [m_copy]), by show va_P _ _ _ t9.heap; rw [ht9]; exact M.1⟩, M.2.2.F ht9⟩) M.2.2.2.2 dX2_copy_50
    · -- c_2: inB 0 7 p3 = false
      refine lv_ldc (v := (-1000001)) hx hb hown (hts _ q1627) dX2_copy_19 ?_
      exact W.iret (v := (-1000001)) hx hb hr (fun t9 ht9 hW9 => ⟨⟨_, (va_up F 0 0, Rr), rfl, (by first | (simp [m_copy, c_1, ea1, c_2, up_s, up_n, nI_1, b2i]; done) | (simp_all [m_copy]; done) | grind [m_copy]), by show va_P _ _ _ t9.heap; rw [ht9]; exact M.1⟩, M.2.2.F ht9⟩) M.2.2.2.2 dX2_copy_21


set_option maxHeartbeats 4000000 in
set_option maxRecDepth 100000 in
theorem metX2_feed (l : Launch) (D : va_G) (cl : List vw_C) (hcl : cl[0]? = some (RX2, TX2, 61)) (h : Nat) (ad : Nat → Nat) (dA : ClassId) (F : Nat → Int32) (Rr : Nat → Nat → Int32) (p1 : Int64) (p3 : Int32) (h17 : cnB (F 17) 400) : Met l yX2_feed (ws_ yX2_feed cX2_feed 5 (some .int)) ({ frames := 1, cells := 0, slots := 0, locals := 25 } : Room) (va_Pc [.ref h, .long p1, .int p3] (mPre D cl h ad dA F Rr)) (va_Qi (fun r u => (r, u) = m_feed (va_up F 0 0) Rr p1 p3) (mB D cl h ad dA) (mN h ad)) 0 0 (mN h ad) := by
  refine Met.ofW (cc := cX2_feed) (maxL := 5) (ret := (some .int)) (by decide) rfl ?_
  intro p e s m args below meth c s₁ B hml hv
  obtain ⟨rfl, hK, hP, hD⟩ := hv
  have hx := B.exec
  have hb := B.bytes
  have hr := B.returns
  have hts := atoms_spec (ws := (ws_ yX2_feed cX2_feed 5 (some .int))) B.pre
  have hts : ∀ w ∈ lw_all, w.before _ s = true := fun w h => hts w (List.mem_cons_of_mem _ h)
  have hown : s.vm.findClass RX2 = some m.cls := findClass_of_methodNamed B.named
  have hlocks := B.notSynchronized
  have S : CallFix p m c cX2_feed 5 s ([.ref h, .long p1, .int p3] : List Value).toArray lw_all RX2 := ⟨hx, hb, hml, hown, hts⟩
  have X : mX p s m ([.ref h, .long p1, .int p3] : List Value).toArray c cX2_feed 5 D cl dA := ⟨hx, hb, hml, hown, hts, hK, hcl⟩
  have M : mM D cl h ad dA (mN h ad) s F Rr s.heap [] := ⟨hP, mW_self hD, va_S.rf⟩
  have hl := lv_entry ([.ref h, .long p1, .int p3]) (n := 5) (Nat.le_of_ble_eq_true rfl)
  rw [lg_entry_eq]
  generalize (lg_sl ([.ref h, .long p1, .int p3]) ++ List.replicate (5 - (lg_sl ([.ref h, .long p1, .int p3])).length) Slot.unset).toArray = ls at hl ⊢
  have hl : lv_has ls 5 [(0, .ref h), (1, .long p1), (3, .int p3)] := hl
  obtain ⟨n17, hn17, en17⟩ := cnB_ex h17 (n := 400) rfl
  have em17 : (F 17).toNatClampNeg = n17 := by rw [en17]; exact nI_clamp (by omega)
  have ec17 : (nI n17).toNatClampNeg = n17 := nI_clamp (by omega)
  refine lv_aload_n hx hb dX2_feed_0 rfl (lv_at hl 0 rfl) ?_
  refine lv_iconst (v := 0) hx hb dX2_feed_1 (by decide) ?_
  refine mp_0 X M dX2_feed_2 (fun H locs M => ?_)
  refine lv_iload_n hx hb dX2_feed_5 rfl (lv_at hl 2 rfl) ?_
  refine lv_i2l (v := p3.toInt64) hx hb dX2_feed_6 rfl ?_
  refine lv_lconst (v := 1) hx hb dX2_feed_7 (by decide) ?_
  refine lv_ldc2 (v := 8) hx hb hown (hts _ q1652) dX2_feed_8 ?_
  refine s_cI (v := b2i (inB 1 8 p3)) (As := [.long p3.toInt64, .long 1, .long 8]) (rest := []) S (metX2_inI l p3 1 8 p3.toInt64 1 8 rfl rfl rfl) (va_cwS 3 hts (lw_S q1623 q1624 q62 q1625) rfl rfl rfl (by decide +kernel) ⟨Nat.le_of_ble_eq_true rfl, Nat.le_of_ble_eq_true rfl⟩) rfl hl.1 rfl (Nat.le_of_ble_eq_true rfl) dX2_feed_11 ⟨Nat.zero_le _, Nat.zero_le _⟩ ?_
  refine lz_if_ne (tgt := 20) hx hb dX2_feed_14 (by decide) (fun c_1 => ?_) (fun c_1 => ?_)
  · -- c_1: inB 1 8 p3 = true
    obtain ⟨n1, hn1, rfl⟩ := inB_ex (show inB 0 8 p3 = true from inB_t.mpr ⟨Int32.le_trans (by decide) (inB_t.mp c_1).1, (inB_t.mp c_1).2⟩) (n := 8) rfl
    have en1 : (nI n1).toNatClampNeg = n1 := nI_clamp (by omega)
    have hn1p : 1 ≤ n1 := Nat.pos_of_ne_zero (fun q => by rw [q] at c_1; exact absurd (inB_t.mp c_1).1 (by decide))
    refine lv_aload_n hx hb dX2_feed_20 rfl (lv_at hl 0 rfl) ?_
    refine mg_17 X M (v := F 17) rfl dX2_feed_21 ?_
    refine lv_asi (y := nI n17) en17 ?_
    refine lv_iload_n hx hb dX2_feed_24 rfl (lv_at hl 2 rfl) ?_
    refine lv_iadd hx hb dX2_feed_25 ?_
    refine lv_asi (y := nI (n17 + n1)) (nI_add n17 n1) ?_
    refine lv_sipush (v := 400) hx hb dX2_feed_26 (by decide) ?_
    refine ln_icmp_le (tgt := 35) hx hb (a := n17 + n1) (b := 400) (by omega) (by omega) dX2_feed_29 (by decide) (fun c_2 => ?_) (fun c_2 => ?_)
    · -- c_2: nI (n17 + n1) ≤ 400
      have ef : ¬ (400 : Int32) < nI (n17 + n1) := fun q => by have q2 := (nI_ltI (a := 400) (by omega) (by omega)).mp q; omega
      refine lv_iload_n hx hb dX2_feed_35 rfl (lv_at hl 2 rfl) ?_
      refine lv_iconst (v := 1) hx hb dX2_feed_36 (by decide) ?_
      refine lv_isub hx hb dX2_feed_37 ?_
      refine lv_istore (lv' := [(4, .int ((nI n1) - 1)), (0, .ref h), (1, .long p1), (3, .int (nI n1))]) hx hb dX2_feed_38 hl (by decide) rfl (fun ls hl => ?_)
      have L_3 : ∀ (fuL_3 : Nat) (i : Nat) (r : Nat) (R1 : Nat → Nat → Int32), (i + r = n1) → (R1 = itr (fun j R => mset R 16 (n17 + j) (m_byte p1 (n1 - 1 - j))) i Rr) → r < fuL_3 → ∀ (H : Heap) (locs : List Loc), mM D cl h ad dA (mN h ad) s (va_up (va_up F 0 0) 17 (nI (n17 + i))) R1 H locs → ∀ ls, lv_has ls 5 [(0, .ref h), (1, .long p1), (3, .int (nI n1)), (4, .int (nI r - 1))] → W p l e ({ frames := 1, cells := 0, slots := 0, locals := 25 } : Room) s m ([.ref h, .long p1, .int (nI n1)] : List Value).toArray below meth c H locs 0 0 (MQ below (va_Qi (fun r u => (r, u) = m_feed (va_up F 0 0) Rr p1 (nI n1)) (mB D cl h ad dA) (mN h ad)) ([.ref h, .long p1, .int (nI n1)] : List Value).toArray s 0 0 (mN h ad)) (F0 m 40 ls []) := by
        intro fuL_3
        induction fuL_3 with
        | zero => intro i r R1 hir qR1 hfuL_3; exact absurd hfuL_3 (Nat.not_lt_zero _)
        | succ fuL_3 L_3ih =>
          intro i r R1 hir qR1 hfuL_3 H locs M ls hl
          refine lv_iload hx hb dX2_feed_40 (lv_at hl 3 rfl) ?_
          refine lb_if_lt (tgt := 82) hx hb dX2_feed_42 (by decide) (fun c_4 c_4' => ?_) (fun c_4 c_4' => ?_)
          · -- c_4: nI r - 1 < 0
            have er : r = 0 := dec_lt0 (by omega) c_4
            have ei : i = n1 := by omega
            rw [ei] at qR1
            refine lv_aload_n hx hb dX2_feed_82 rfl (lv_at hl 0 rfl) ?_
            refine mg_17 X M (v := nI (n17 + i)) rfl dX2_feed_83 ?_
            exact W.iret (v := nI (n17 + i)) hx hb hr (fun t9 ht9 hW9 => ⟨⟨_, (va_up (va_up F 0 0) 17 (nI (n17 + i)), R1), rfl, (by simp [m_feed, up_s, up_n, nI_add, en17, ec17, c_1, en1, c_2, ef, c_4, c_4', ei, ← qR1]), by show va_P _ _ _ t9.heap; rw [ht9]; exact M.1⟩, M.2.2.F ht9⟩) M.2.2.2.2 dX2_feed_86
          · -- c_4: nI r - 1 ≥ 0
            obtain ⟨r1, rfl⟩ := dec_ge0 c_4
            rw [nI_pred] at hl
            refine lv_aload_n hx hb dX2_feed_45 rfl (lv_at hl 0 rfl) ?_
            refine mg_16 X M dX2_feed_46 ?_
            refine lv_aload_n hx hb dX2_feed_49 rfl (lv_at hl 0 rfl) ?_
            refine mg_17 X M (v := nI (n17 + i)) rfl dX2_feed_50 ?_
            refine lv_lload_n hx hb dX2_feed_53 rfl (lv_at hl 1 rfl) ?_
            refine lv_bipush (v := 8) hx hb dX2_feed_54 (by decide) ?_
            refine lv_iload hx hb dX2_feed_56 (lv_at hl 3 rfl) ?_
            refine lv_imul hx hb dX2_feed_58 ?_
            refine lv_asi (y := nI (8 * r1)) (nI_mul 8 r1) ?_
            refine lv_lshr (v := p1 >>> ((nI (8 * r1)).toInt64 &&& 63)) hx hb dX2_feed_59 rfl ?_
            refine lv_ldc2 (v := 255) hx hb hown (hts _ q1676) dX2_feed_60 ?_
            refine lv_land hx hb dX2_feed_63 ?_
            refine lv_l2i (v := ((p1 >>> ((nI (8 * r1)).toInt64 &&& 63)) &&& 255).toInt32) hx hb dX2_feed_64 rfl ?_
            refine ms_16 X M (j := n17 + i) (vp_in_nI (by omega) (by omega)) (nI_clamp (by omega)) dX2_feed_65 (fun H locs M => ?_)
            refine lv_aload_n hx hb dX2_feed_66 rfl (lv_at hl 0 rfl) ?_
            refine lv_dup hx hb dX2_feed_67 rfl ?_
            refine mg_17 X M (v := nI (n17 + i)) rfl dX2_feed_68 ?_
            refine lv_iconst (v := 1) hx hb dX2_feed_71 (by decide) ?_
            refine lv_iadd hx hb dX2_feed_72 ?_
            refine lv_asi (y := nI ((n17 + i) + 1)) (nI_add (n17 + i) 1) ?_
            refine mp_17 X M dX2_feed_73 (fun H locs M => ?_)
            refine lv_iinc (v := nI r1 - 1) (lv' := [(4, .int (nI r1 - 1)), (0, .ref h), (1, .long p1), (3, .int (nI n1))]) hx hb dX2_feed_76 hl (k := 3) rfl (mk_dec _) (by decide) rfl (fun ls hl => ?_)
            refine lv_goto (tgt := 40) hx hb dX2_feed_79 (by decide) ?_
            exact L_3ih  (i + 1) r1 (mset R1 16 (n17 + i) (((p1 >>> ((nI (8 * r1)).toInt64 &&& 63)) &&& 255).toInt32)) (by omega) (by rw [itr_s, ← qR1, show n1 - 1 - i = r1 by omega]; rfl) (by omega) _ _ (by rw [up_up] at M; exact M) ls (lv_sub hl [1, 2, 3, 0] rfl)
      exact L_3 (n1 + 1) 0 n1 Rr (Nat.zero_add _) rfl (Nat.lt_succ_self _) _ _ (by rw [up_id (show (va_up F 0 0) 17 = nI (n17 + 0) from en17)]; exact M) ls (lv_sub hl [1, 2, 3, 0] rfl)
    · -- c_2: nI (n17 + n1) > 400
      have ef : (400 : Int32) < nI (n17 + n1) := nI_lt (a := 400) c_2 (by omega)
      refine lv_ldc (v := (-1000003)) hx hb hown (hts _ q1675) dX2_feed_32 ?_
      exact W.iret (v := (-1000003)) hx hb hr (fun t9 ht9 hW9 => ⟨⟨_, (va_up F 0 0, Rr), rfl, (by simp [m_feed, up_s, up_n, nI_add, en17, ec17, c_1, en1, c_2, ef]), by show va_P _ _ _ t9.heap; rw [ht9]; exact M.1⟩, M.2.2.F ht9⟩) M.2.2.2.2 dX2_feed_34
  · -- c_1: inB 1 8 p3 = false
    refine lv_ldc (v := (-1000001)) hx hb hown (hts _ q1627) dX2_feed_17 ?_
    exact W.iret (v := (-1000001)) hx hb hr (fun t9 ht9 hW9 => ⟨⟨_, (va_up F 0 0, Rr), rfl, (by first | (simp [m_feed, en17, ec17, c_1, up_s, up_n, nI_1, b2i]; done) | (simp_all [m_feed]; done) | grind [m_feed]), by show va_P _ _ _ t9.heap; rw [ht9]; exact M.1⟩, M.2.2.F ht9⟩) M.2.2.2.2 dX2_feed_19

def m_began (F : Nat → Int32) (Rr : Nat → Nat → Int32) (b : Int32) : mST := if F 60 < 16 then (va_up F 60 (F 60 + 1), mset Rr 59 (F 60).toNatClampNeg b) else (F, Rr)
theorem m_began_60 {F : Nat → Int32} {Rr : Nat → Nat → Int32} {b : Int32} (h : cnB (F 60) 16) : cnB ((m_began F Rr b).1 60) 16 := by
  unfold m_began
  split
  · show cnB (va_up F 60 (F 60 + 1) 60) 16
    rw [up_s]; constructor <;> grind
  · exact h
set_option maxHeartbeats 4000000 in
set_option maxRecDepth 100000 in
theorem metX2_began (l : Launch) (D : va_G) (cl : List vw_C) (hcl : cl[0]? = some (RX2, TX2, 61)) (h : Nat) (ad : Nat → Nat) (dA : ClassId) (F : Nat → Int32) (Rr : Nat → Nat → Int32) (p1 : Int32) (h60 : cnB (F 60) 16) : Met l yX2_began (ws_ yX2_began cX2_began 2 none) ({ frames := 0, cells := 0, slots := 0, locals := 0 } : Room) (va_Pc [.ref h, .int p1] (mPre D cl h ad dA F Rr)) (va_Qv (fun u => u = m_began F Rr p1) (mB D cl h ad dA) (mN h ad)) 0 0 (mN h ad) := by
  refine Met.ofW (cc := cX2_began) (maxL := 2) (ret := none) (by decide) rfl ?_
  intro p e s m args below meth c s₁ B hml hv
  obtain ⟨rfl, hK, hP, hD⟩ := hv
  have hx := B.exec
  have hb := B.bytes
  have hr := B.returns
  have hts := atoms_spec (ws := (ws_ yX2_began cX2_began 2 none)) B.pre
  have hts : ∀ w ∈ lw_all, w.before _ s = true := fun w h => hts w (List.mem_cons_of_mem _ h)
  have hown : s.vm.findClass RX2 = some m.cls := findClass_of_methodNamed B.named
  have hlocks := B.notSynchronized
  have S : CallFix p m c cX2_began 2 s ([.ref h, .int p1] : List Value).toArray lw_all RX2 := ⟨hx, hb, hml, hown, hts⟩
  have X : mX p s m ([.ref h, .int p1] : List Value).toArray c cX2_began 2 D cl dA := ⟨hx, hb, hml, hown, hts, hK, hcl⟩
  have M : mM D cl h ad dA (mN h ad) s F Rr s.heap [] := ⟨hP, mW_self hD, va_S.rf⟩
  have hl := lv_entry ([.ref h, .int p1]) (n := 2) (Nat.le_of_ble_eq_true rfl)
  rw [lg_entry_eq]
  generalize (lg_sl ([.ref h, .int p1]) ++ List.replicate (2 - (lg_sl ([.ref h, .int p1])).length) Slot.unset).toArray = ls at hl ⊢
  have hl : lv_has ls 2 [(0, .ref h), (1, .int p1)] := hl
  refine lv_aload_n hx hb dX2_began_0 rfl (lv_at hl 0 rfl) ?_
  refine mg_60 X M (v := F 60) rfl dX2_began_1 ?_
  refine lv_bipush (v := 16) hx hb dX2_began_4 (by decide) ?_
  refine lb_icmp_ge (tgt := 29) hx hb dX2_began_6 (by decide) (fun c_1 c_1' => ?_) (fun c_1 c_1' => ?_)
  · -- c_1: F 60 ≥ 16
    exact W.vret hx hb hr (fun t9 ht9 hW9 => ⟨⟨(F, Rr), rfl, (by first | (simp [m_began, c_1, c_1', up_s, up_n, nI_1, b2i]; done) | (simp_all [m_began]; done) | grind [m_began]), by show va_P _ _ _ t9.heap; rw [ht9]; exact M.1⟩, M.2.2.F ht9⟩) M.2.2.2.2 dX2_began_29
  · -- c_1: F 60 < 16
    refine lv_aload_n hx hb dX2_began_9 rfl (lv_at hl 0 rfl) ?_
    refine mg_59 X M dX2_began_10 ?_
    refine lv_aload_n hx hb dX2_began_13 rfl (lv_at hl 0 rfl) ?_
    refine mg_60 X M (v := F 60) rfl dX2_began_14 ?_
    refine lv_iload_n hx hb dX2_began_17 rfl (lv_at hl 1 rfl) ?_
    refine ms_59 X M (j := (F 60).toNatClampNeg) (vp_inN (N := 16) rfl h60.1 (by assumption)) rfl dX2_began_18 (fun H locs M => ?_)
    refine lv_aload_n hx hb dX2_began_19 rfl (lv_at hl 0 rfl) ?_
    refine lv_dup hx hb dX2_began_20 rfl ?_
    refine mg_60 X M (v := F 60) rfl dX2_began_21 ?_
    refine lv_iconst (v := 1) hx hb dX2_began_24 (by decide) ?_
    refine lv_iadd hx hb dX2_began_25 ?_
    refine mp_60 X M dX2_began_26 (fun H locs M => ?_)
    exact W.vret hx hb hr (fun t9 ht9 hW9 => ⟨⟨(va_up F 60 ((F 60) + 1), mset Rr 59 ((F 60).toNatClampNeg) p1), rfl, (by first | (simp [m_began, c_1, c_1', up_s, up_n, nI_1, b2i]; done) | (simp_all [m_began]; done) | grind [m_began]), by show va_P _ _ _ t9.heap; rw [ht9]; exact M.1⟩, M.2.2.F ht9⟩) M.2.2.2.2 dX2_began_29

def m_nightSize (F : Nat → Int32) (Rr : Nat → Nat → Int32) (p : Nat) : Int32 × mST := ((m_began (m_began F Rr 14).1 (m_began F Rr 14).2 10).2 43 (7 * p + 6) - (m_began (m_began F Rr 14).1 (m_began F Rr 14).2 10).2 43 (7 * p + 5) + (m_began (m_began F Rr 14).1 (m_began F Rr 14).2 10).2 43 (7 * p + 1), m_began (m_began F Rr 14).1 (m_began F Rr 14).2 10)
set_option maxHeartbeats 4000000 in
set_option maxRecDepth 100000 in
theorem metX2_nightSize (l : Launch) (D : va_G) (cl : List vw_C) (hcl : cl[0]? = some (RX2, TX2, 61)) (h : Nat) (ad : Nat → Nat) (dA : ClassId) (F : Nat → Int32) (Rr : Nat → Nat → Int32) (c1 : Nat) (hc1 : c1 < 16) (h60 : cnB (F 60) 16) : Met l yX2_nightSize (ws_ yX2_nightSize cX2_nightSize 2 (some .int)) ({ frames := 1, cells := 0, slots := 0, locals := 22 } : Room) (va_Pc [.ref h, .int (nI c1)] (mPre D cl h ad dA F Rr)) (va_Qi (fun r u => (r, u) = m_nightSize F Rr c1) (mB D cl h ad dA) (mN h ad)) 0 0 (mN h ad) := by
  refine Met.ofW (cc := cX2_nightSize) (maxL := 2) (ret := (some .int)) (by decide) rfl ?_
  intro p e s m args below meth c s₁ B hml hv
  obtain ⟨rfl, hK, hP, hD⟩ := hv
  have hx := B.exec
  have hb := B.bytes
  have hr := B.returns
  have hts := atoms_spec (ws := (ws_ yX2_nightSize cX2_nightSize 2 (some .int))) B.pre
  have hts : ∀ w ∈ lw_all, w.before _ s = true := fun w h => hts w (List.mem_cons_of_mem _ h)
  have hown : s.vm.findClass RX2 = some m.cls := findClass_of_methodNamed B.named
  have hlocks := B.notSynchronized
  have S : CallFix p m c cX2_nightSize 2 s ([.ref h, .int (nI c1)] : List Value).toArray lw_all RX2 := ⟨hx, hb, hml, hown, hts⟩
  have X : mX p s m ([.ref h, .int (nI c1)] : List Value).toArray c cX2_nightSize 2 D cl dA := ⟨hx, hb, hml, hown, hts, hK, hcl⟩
  have M : mM D cl h ad dA (mN h ad) s F Rr s.heap [] := ⟨hP, mW_self hD, va_S.rf⟩
  have hl := lv_entry ([.ref h, .int (nI c1)]) (n := 2) (Nat.le_of_ble_eq_true rfl)
  rw [lg_entry_eq]
  generalize (lg_sl ([.ref h, .int (nI c1)]) ++ List.replicate (2 - (lg_sl ([.ref h, .int (nI c1)])).length) Slot.unset).toArray = ls at hl ⊢
  have hl : lv_has ls 2 [(0, .ref h), (1, .int (nI c1))] := hl
  refine lv_aload_n hx hb dX2_nightSize_0 rfl (lv_at hl 0 rfl) ?_
  refine lv_bipush (v := 14) hx hb dX2_nightSize_1 (by decide) ?_
  refine m_cUv (As := [.int 14]) (rest := []) X M (metX2_began l D cl hcl h ad dA F Rr 14 h60) (cwV 1 hts (lw_V q1938 q1940 qs54 q62 q1941) rfl rfl rfl (by decide +kernel) ⟨Nat.le_of_ble_eq_true rfl, Nat.le_of_ble_eq_true rfl⟩) rfl hl.1 rfl (Nat.le_of_ble_eq_true rfl) dX2_nightSize_3 ⟨Nat.zero_le _, Nat.zero_le _⟩ (fun F9 R9 hr9 H locs M => ?_)
  obtain ⟨Z_1, eZ_1⟩ : ∃ z, z = m_began F Rr 14 := ⟨_, rfl⟩
  rw [← eZ_1] at hr9
  obtain ⟨rfl, rfl⟩ : F9 = Z_1.1 ∧ R9 = Z_1.2 := ⟨congrArg Prod.fst hr9, congrArg Prod.snd hr9⟩
  have h60Z_1 : cnB (Z_1.1 60) 16 := by rw [eZ_1]; exact m_began_60 h60
  refine lv_aload_n hx hb dX2_nightSize_6 rfl (lv_at hl 0 rfl) ?_
  refine lv_bipush (v := 10) hx hb dX2_nightSize_7 (by decide) ?_
  refine m_cUv (As := [.int 10]) (rest := []) X M (metX2_began l D cl hcl h ad dA Z_1.1 Z_1.2 10 h60Z_1) (cwV 1 hts (lw_V q1938 q1940 qs54 q62 q1941) rfl rfl rfl (by decide +kernel) ⟨Nat.le_of_ble_eq_true rfl, Nat.le_of_ble_eq_true rfl⟩) rfl hl.1 rfl (Nat.le_of_ble_eq_true rfl) dX2_nightSize_9 ⟨Nat.zero_le _, Nat.zero_le _⟩ (fun F9 R9 hr9 H locs M => ?_)
  obtain ⟨Z_2, eZ_2⟩ : ∃ z, z = m_began Z_1.1 Z_1.2 10 := ⟨_, rfl⟩
  rw [← eZ_2] at hr9
  obtain ⟨rfl, rfl⟩ : F9 = Z_2.1 ∧ R9 = Z_2.2 := ⟨congrArg Prod.fst hr9, congrArg Prod.snd hr9⟩
  have h60Z_2 : cnB (Z_2.1 60) 16 := by rw [eZ_2]; exact m_began_60 h60Z_1
  refine lv_aload_n hx hb dX2_nightSize_12 rfl (lv_at hl 0 rfl) ?_
  refine lv_iload_n hx hb dX2_nightSize_13 rfl (lv_at hl 1 rfl) ?_
  refine lv_bipush (v := 6) hx hb dX2_nightSize_14 (by decide) ?_
  refine m_cQ (v := Z_2.2 43 (7 * c1 + 6)) (As := [.int (nI c1), .int 6]) (rest := []) X M (metX2_on l D cl hcl h ad dA Z_2.1 Z_2.2 c1 6 (by omega) (by omega)) (cwV 2 hts (lw_V q1832 q1834 qs45 q62 q1835) rfl rfl rfl (by decide +kernel) ⟨Nat.le_of_ble_eq_true rfl, Nat.le_of_ble_eq_true rfl⟩) rfl hl.1 rfl (Nat.le_of_ble_eq_true rfl) dX2_nightSize_16 ⟨Nat.zero_le _, Nat.zero_le _⟩ ?_
  refine lv_aload_n hx hb dX2_nightSize_19 rfl (lv_at hl 0 rfl) ?_
  refine lv_iload_n hx hb dX2_nightSize_20 rfl (lv_at hl 1 rfl) ?_
  refine lv_iconst (v := 5) hx hb dX2_nightSize_21 (by decide) ?_
  refine m_cQ (v := Z_2.2 43 (7 * c1 + 5)) (As := [.int (nI c1), .int 5]) (rest := [.int (Z_2.2 43 (7 * c1 + 6))]) X M (metX2_on l D cl hcl h ad dA Z_2.1 Z_2.2 c1 5 (by omega) (by omega)) (cwV 2 hts (lw_V q1832 q1834 qs45 q62 q1835) rfl rfl rfl (by decide +kernel) ⟨Nat.le_of_ble_eq_true rfl, Nat.le_of_ble_eq_true rfl⟩) rfl hl.1 rfl (Nat.le_of_ble_eq_true rfl) dX2_nightSize_22 ⟨Nat.zero_le _, Nat.zero_le _⟩ ?_
  refine lv_isub hx hb dX2_nightSize_25 ?_
  refine lv_aload_n hx hb dX2_nightSize_26 rfl (lv_at hl 0 rfl) ?_
  refine lv_iload_n hx hb dX2_nightSize_27 rfl (lv_at hl 1 rfl) ?_
  refine lv_iconst (v := 1) hx hb dX2_nightSize_28 (by decide) ?_
  refine m_cQ (v := Z_2.2 43 (7 * c1 + 1)) (As := [.int (nI c1), .int 1]) (rest := [.int ((Z_2.2 43 (7 * c1 + 6)) - (Z_2.2 43 (7 * c1 + 5)))]) X M (metX2_on l D cl hcl h ad dA Z_2.1 Z_2.2 c1 1 (by omega) (by omega)) (cwV 2 hts (lw_V q1832 q1834 qs45 q62 q1835) rfl rfl rfl (by decide +kernel) ⟨Nat.le_of_ble_eq_true rfl, Nat.le_of_ble_eq_true rfl⟩) rfl hl.1 rfl (Nat.le_of_ble_eq_true rfl) dX2_nightSize_29 ⟨Nat.zero_le _, Nat.zero_le _⟩ ?_
  refine lv_iadd hx hb dX2_nightSize_32 ?_
  exact W.iret (v := ((Z_2.2 43 (7 * c1 + 6)) - (Z_2.2 43 (7 * c1 + 5))) + (Z_2.2 43 (7 * c1 + 1))) hx hb hr (fun t9 ht9 hW9 => ⟨⟨_, (Z_2.1, Z_2.2), rfl, (by first | (simp [m_nightSize, ← eZ_1, ← eZ_2, up_s, up_n, nI_1, b2i]; done) | (simp [m_nightSize, eZ_1, eZ_2, up_s, up_n, nI_1, b2i]; done) | (simp_all [m_nightSize]; done) | grind [m_nightSize]), by show va_P _ _ _ t9.heap; rw [ht9]; exact M.1⟩, M.2.2.F ht9⟩) M.2.2.2.2 dX2_nightSize_33

def m_bgIf (c : Bool) (u : mST) (b : Int32) : mST := if c = true then m_began u.1 u.2 b else u
def m_markU (u : mST) (kind : Int32) : mST := m_began (m_bgIf (decide (kind = 4)) (m_bgIf (m_isOf kind 2) (m_bgIf (decide (kind = 3)) u 22) 21) 23).1 (m_bgIf (decide (kind = 4)) (m_bgIf (m_isOf kind 2) (m_bgIf (decide (kind = 3)) u 22) 21) 23).2 20
def m_markV (u : mST) (p : Nat) (kind : Int32) : Int32 := u.2 43 (7 * p + 2) + (if m_isOf kind 2 = true then 100 * u.2 43 (7 * p + 4) else 0)
def m_markOf (F : Nat → Int32) (Rr : Nat → Nat → Int32) (p : Nat) (kind : Int32) : Int32 × mST := if kind = 3 then (m_markV (m_markU (F, Rr) kind) p kind + (m_markU (F, Rr) kind).2 43 (7 * p + 3), m_markU (F, Rr) kind) else if kind = 4 then (m_markV (m_markU (F, Rr) kind) p kind + (m_nightSize (m_markU (F, Rr) kind).1 (m_markU (F, Rr) kind).2 p).1, (m_nightSize (m_markU (F, Rr) kind).1 (m_markU (F, Rr) kind).2 p).2) else (m_markV (m_markU (F, Rr) kind) p kind, m_markU (F, Rr) kind)
set_option maxHeartbeats 4000000 in
set_option maxRecDepth 100000 in
theorem metX2_markOf (l : Launch) (D : va_G) (cl : List vw_C) (hcl : cl[0]? = some (RX2, TX2, 61)) (h : Nat) (ad : Nat → Nat) (dA : ClassId) (F : Nat → Int32) (Rr : Nat → Nat → Int32) (c1 : Nat) (p2 : Int32) (hc1 : c1 < 16) (h60 : cnB (F 60) 16) : Met l yX2_markOf (ws_ yX2_markOf cX2_markOf 4 (some .int)) ({ frames := 2, cells := 0, slots := 0, locals := 43 } : Room) (va_Pc [.ref h, .int (nI c1), .int p2] (mPre D cl h ad dA F Rr)) (va_Qi (fun r u => (r, u) = m_markOf F Rr c1 p2) (mB D cl h ad dA) (mN h ad)) 0 0 (mN h ad) := by
  refine Met.ofW (cc := cX2_markOf) (maxL := 4) (ret := (some .int)) (by decide) rfl ?_
  intro p e s m args below meth c s₁ B hml hv
  obtain ⟨rfl, hK, hP, hD⟩ := hv
  have hx := B.exec
  have hb := B.bytes
  have hr := B.returns
  have hts := atoms_spec (ws := (ws_ yX2_markOf cX2_markOf 4 (some .int))) B.pre
  have hts : ∀ w ∈ lw_all, w.before _ s = true := fun w h => hts w (List.mem_cons_of_mem _ h)
  have hown : s.vm.findClass RX2 = some m.cls := findClass_of_methodNamed B.named
  have hlocks := B.notSynchronized
  have S : CallFix p m c cX2_markOf 4 s ([.ref h, .int (nI c1), .int p2] : List Value).toArray lw_all RX2 := ⟨hx, hb, hml, hown, hts⟩
  have X : mX p s m ([.ref h, .int (nI c1), .int p2] : List Value).toArray c cX2_markOf 4 D cl dA := ⟨hx, hb, hml, hown, hts, hK, hcl⟩
  have M : mM D cl h ad dA (mN h ad) s F Rr s.heap [] := ⟨hP, mW_self hD, va_S.rf⟩
  have hl := lv_entry ([.ref h, .int (nI c1), .int p2]) (n := 4) (Nat.le_of_ble_eq_true rfl)
  rw [lg_entry_eq]
  generalize (lg_sl ([.ref h, .int (nI c1), .int p2]) ++ List.replicate (4 - (lg_sl ([.ref h, .int (nI c1), .int p2])).length) Slot.unset).toArray = ls at hl ⊢
  have hl : lv_has ls 4 [(0, .ref h), (1, .int (nI c1)), (2, .int p2)] := hl
  refine lv_iload_n hx hb dX2_markOf_0 rfl (lv_at hl 2 rfl) ?_
  refine lv_iconst (v := 3) hx hb dX2_markOf_1 (by decide) ?_
  refine lv_icmp_ne (tgt := 11) hx hb dX2_markOf_2 (by decide) (fun c_1 => ?_) (fun c_1 => ?_)
  · -- c_1: p2 ≠ 3
    refine lv_iload_n hx hb dX2_markOf_11 rfl (lv_at hl 2 rfl) ?_
    refine lv_iconst (v := 2) hx hb dX2_markOf_12 (by decide) ?_
    refine s_cI (v := b2i (m_isOf p2 2)) (As := [.int p2, .int 2]) (rest := []) S (metX2_isOf l p2 2) (va_cwS 2 hts (lw_S q1923 q1924 q62 q1925) rfl rfl rfl (by decide +kernel) ⟨Nat.le_of_ble_eq_true rfl, Nat.le_of_ble_eq_true rfl⟩) rfl hl.1 rfl (Nat.le_of_ble_eq_true rfl) dX2_markOf_13 ⟨Nat.zero_le _, Nat.zero_le _⟩ ?_
    refine lz_if_eq (tgt := 25) hx hb dX2_markOf_16 (by decide) (fun c_2 => ?_) (fun c_2 => ?_)
    · -- c_2: m_isOf p2 2 = false
      refine lv_iload_n hx hb dX2_markOf_25 rfl (lv_at hl 2 rfl) ?_
      refine lv_iconst (v := 4) hx hb dX2_markOf_26 (by decide) ?_
      refine lv_icmp_ne (tgt := 36) hx hb dX2_markOf_27 (by decide) (fun c_3 => ?_) (fun c_3 => ?_)
      · -- c_3: p2 ≠ 4
        refine lv_aload_n hx hb dX2_markOf_36 rfl (lv_at hl 0 rfl) ?_
        refine lv_bipush (v := 20) hx hb dX2_markOf_37 (by decide) ?_
        refine m_cUv (As := [.int 20]) (rest := []) X M (metX2_began l D cl hcl h ad dA F Rr 20 h60) (cwV 1 hts (lw_V q1938 q1940 qs54 q62 q1941) rfl rfl rfl (by decide +kernel) ⟨Nat.le_of_ble_eq_true rfl, Nat.le_of_ble_eq_true rfl⟩) rfl hl.1 rfl (Nat.le_of_ble_eq_true rfl) dX2_markOf_39 ⟨Nat.zero_le _, Nat.zero_le _⟩ (fun F9 R9 hr9 H locs M => ?_)
        obtain ⟨Z_4, eZ_4⟩ : ∃ z, z = m_began F Rr 20 := ⟨_, rfl⟩
        rw [← eZ_4] at hr9
        obtain ⟨rfl, rfl⟩ : F9 = Z_4.1 ∧ R9 = Z_4.2 := ⟨congrArg Prod.fst hr9, congrArg Prod.snd hr9⟩
        have h60Z_4 : cnB (Z_4.1 60) 16 := by rw [eZ_4]; exact m_began_60 h60
        refine lv_aload_n hx hb dX2_markOf_42 rfl (lv_at hl 0 rfl) ?_
        refine lv_iload_n hx hb dX2_markOf_43 rfl (lv_at hl 1 rfl) ?_
        refine lv_iconst (v := 2) hx hb dX2_markOf_44 (by decide) ?_
        refine m_cQ (v := Z_4.2 43 (7 * c1 + 2)) (As := [.int (nI c1), .int 2]) (rest := []) X M (metX2_on l D cl hcl h ad dA Z_4.1 Z_4.2 c1 2 (by omega) (by omega)) (cwV 2 hts (lw_V q1832 q1834 qs45 q62 q1835) rfl rfl rfl (by decide +kernel) ⟨Nat.le_of_ble_eq_true rfl, Nat.le_of_ble_eq_true rfl⟩) rfl hl.1 rfl (Nat.le_of_ble_eq_true rfl) dX2_markOf_45 ⟨Nat.zero_le _, Nat.zero_le _⟩ ?_
        refine lv_iload_n hx hb dX2_markOf_48 rfl (lv_at hl 2 rfl) ?_
        refine lv_iconst (v := 2) hx hb dX2_markOf_49 (by decide) ?_
        refine s_cI (v := b2i (m_isOf p2 2)) (As := [.int p2, .int 2]) (rest := [.int (Z_4.2 43 (7 * c1 + 2))]) S (metX2_isOf l p2 2) (va_cwS 2 hts (lw_S q1923 q1924 q62 q1925) rfl rfl rfl (by decide +kernel) ⟨Nat.le_of_ble_eq_true rfl, Nat.le_of_ble_eq_true rfl⟩) rfl hl.1 rfl (Nat.le_of_ble_eq_true rfl) dX2_markOf_50 ⟨Nat.zero_le _, Nat.zero_le _⟩ ?_
        refine lz_if_eq (tgt := 68) hx hb dX2_markOf_53 (by decide) (fun c_5 => ?_) (fun c_5 => absurd (c_2.symm.trans c_5) (by decide))
        refine lv_iconst (v := 0) hx hb dX2_markOf_68 (by decide) ?_
        refine lv_iadd hx hb dX2_markOf_69 ?_
        refine lv_istore_n (lv' := [(3, .int ((Z_4.2 43 (7 * c1 + 2)) + 0)), (0, .ref h), (1, .int (nI c1)), (2, .int p2)]) hx hb dX2_markOf_70 rfl hl (by decide) rfl (fun ls hl => ?_)
        refine lv_iload_n hx hb dX2_markOf_71 rfl (lv_at hl 3 rfl) ?_
        refine lv_iconst (v := 3) hx hb dX2_markOf_72 (by decide) ?_
        refine lv_icmp_ne (tgt := 87) hx hb dX2_markOf_73 (by decide) (fun c_6 => ?_) (fun c_6 => absurd c_6 c_1)
        refine lv_iload_n hx hb dX2_markOf_87 rfl (lv_at hl 3 rfl) ?_
        refine lv_iconst (v := 4) hx hb dX2_markOf_88 (by decide) ?_
        refine lv_icmp_ne (tgt := 102) hx hb dX2_markOf_89 (by decide) (fun c_7 => ?_) (fun c_7 => absurd c_7 c_3)
        refine lv_iload_n hx hb dX2_markOf_102 rfl (lv_at hl 0 rfl) ?_
        exact W.iret (v := (Z_4.2 43 (7 * c1 + 2)) + 0) hx hb hr (fun t9 ht9 hW9 => ⟨⟨_, (Z_4.1, Z_4.2), rfl, (by first | (simp [m_markOf, m_markU, m_markV, m_bgIf, c_1, c_2, c_3, ← eZ_4, up_s, up_n, nI_1, b2i]; done) | (simp [m_markOf, m_markU, m_markV, m_bgIf, c_1, c_2, c_3, eZ_4, up_s, up_n, nI_1, b2i]; done) | (simp_all [m_markOf, m_markU, m_markV, m_bgIf]; done) | grind [m_markOf, m_markU, m_markV, m_bgIf]), by show va_P _ _ _ t9.heap; rw [ht9]; exact M.1⟩, M.2.2.F ht9⟩) M.2.2.2.2 dX2_markOf_103
      · -- c_3: p2 = 4
        refine lv_aload_n hx hb dX2_markOf_30 rfl (lv_at hl 0 rfl) ?_
        refine lv_bipush (v := 23) hx hb dX2_markOf_31 (by decide) ?_
        refine m_cUv (As := [.int 23]) (rest := []) X M (metX2_began l D cl hcl h ad dA F Rr 23 h60) (cwV 1 hts (lw_V q1938 q1940 qs54 q62 q1941) rfl rfl rfl (by decide +kernel) ⟨Nat.le_of_ble_eq_true rfl, Nat.le_of_ble_eq_true rfl⟩) rfl hl.1 rfl (Nat.le_of_ble_eq_true rfl) dX2_markOf_33 ⟨Nat.zero_le _, Nat.zero_le _⟩ (fun F9 R9 hr9 H locs M => ?_)
        obtain ⟨Z_8, eZ_8⟩ : ∃ z, z = m_began F Rr 23 := ⟨_, rfl⟩
        rw [← eZ_8] at hr9
        obtain ⟨rfl, rfl⟩ : F9 = Z_8.1 ∧ R9 = Z_8.2 := ⟨congrArg Prod.fst hr9, congrArg Prod.snd hr9⟩
        have h60Z_8 : cnB (Z_8.1 60) 16 := by rw [eZ_8]; exact m_began_60 h60
        refine lv_aload_n hx hb dX2_markOf_36 rfl (lv_at hl 0 rfl) ?_
        refine lv_bipush (v := 20) hx hb dX2_markOf_37 (by decide) ?_
        refine m_cUv (As := [.int 20]) (rest := []) X M (metX2_began l D cl hcl h ad dA Z_8.1 Z_8.2 20 h60Z_8) (cwV 1 hts (lw_V q1938 q1940 qs54 q62 q1941) rfl rfl rfl (by decide +kernel) ⟨Nat.le_of_ble_eq_true rfl, Nat.le_of_ble_eq_true rfl⟩) rfl hl.1 rfl (Nat.le_of_ble_eq_true rfl) dX2_markOf_39 ⟨Nat.zero_le _, Nat.zero_le _⟩ (fun F9 R9 hr9 H locs M => ?_)
        obtain ⟨Z_9, eZ_9⟩ : ∃ z, z = m_began Z_8.1 Z_8.2 20 := ⟨_, rfl⟩
        rw [← eZ_9] at hr9
        obtain ⟨rfl, rfl⟩ : F9 = Z_9.1 ∧ R9 = Z_9.2 := ⟨congrArg Prod.fst hr9, congrArg Prod.snd hr9⟩
        have h60Z_9 : cnB (Z_9.1 60) 16 := by rw [eZ_9]; exact m_began_60 h60Z_8
        refine lv_aload_n hx hb dX2_markOf_42 rfl (lv_at hl 0 rfl) ?_
        refine lv_iload_n hx hb dX2_markOf_43 rfl (lv_at hl 1 rfl) ?_
        refine lv_iconst (v := 2) hx hb dX2_markOf_44 (by decide) ?_
        refine m_cQ (v := Z_9.2 43 (7 * c1 + 2)) (As := [.int (nI c1), .int 2]) (rest := []) X M (metX2_on l D cl hcl h ad dA Z_9.1 Z_9.2 c1 2 (by omega) (by omega)) (cwV 2 hts (lw_V q1832 q1834 qs45 q62 q1835) rfl rfl rfl (by decide +kernel) ⟨Nat.le_of_ble_eq_true rfl, Nat.le_of_ble_eq_true rfl⟩) rfl hl.1 rfl (Nat.le_of_ble_eq_true rfl) dX2_markOf_45 ⟨Nat.zero_le _, Nat.zero_le _⟩ ?_
        refine lv_iload_n hx hb dX2_markOf_48 rfl (lv_at hl 2 rfl) ?_
        refine lv_iconst (v := 2) hx hb dX2_markOf_49 (by decide) ?_
        refine s_cI (v := b2i (m_isOf p2 2)) (As := [.int p2, .int 2]) (rest := [.int (Z_9.2 43 (7 * c1 + 2))]) S (metX2_isOf l p2 2) (va_cwS 2 hts (lw_S q1923 q1924 q62 q1925) rfl rfl rfl (by decide +kernel) ⟨Nat.le_of_ble_eq_true rfl, Nat.le_of_ble_eq_true rfl⟩) rfl hl.1 rfl (Nat.le_of_ble_eq_true rfl) dX2_markOf_50 ⟨Nat.zero_le _, Nat.zero_le _⟩ ?_
        refine lz_if_eq (tgt := 68) hx hb dX2_markOf_53 (by decide) (fun c_10 => ?_) (fun c_10 => absurd (c_2.symm.trans c_10) (by decide))
        refine lv_iconst (v := 0) hx hb dX2_markOf_68 (by decide) ?_
        refine lv_iadd hx hb dX2_markOf_69 ?_
        refine lv_istore_n (lv' := [(3, .int ((Z_9.2 43 (7 * c1 + 2)) + 0)), (0, .ref h), (1, .int (nI c1)), (2, .int p2)]) hx hb dX2_markOf_70 rfl hl (by decide) rfl (fun ls hl => ?_)
        refine lv_iload_n hx hb dX2_markOf_71 rfl (lv_at hl 3 rfl) ?_
        refine lv_iconst (v := 3) hx hb dX2_markOf_72 (by decide) ?_
        refine lv_icmp_ne (tgt := 87) hx hb dX2_markOf_73 (by decide) (fun c_11 => ?_) (fun c_11 => absurd c_11 c_1)
        refine lv_iload_n hx hb dX2_markOf_87 rfl (lv_at hl 3 rfl) ?_
        refine lv_iconst (v := 4) hx hb dX2_markOf_88 (by decide) ?_
        refine lv_icmp_ne (tgt := 102) hx hb dX2_markOf_89 (by decide) (fun c_12 => absurd c_3 c_12) (fun c_12 => ?_)
        refine lv_iload_n hx hb dX2_markOf_92 rfl (lv_at hl 0 rfl) ?_
        refine lv_aload_n hx hb dX2_markOf_93 rfl (lv_at hl 1 rfl) ?_
        refine lv_iload_n hx hb dX2_markOf_94 rfl (lv_at hl 2 rfl) ?_
        refine m_cU (As := [.int (nI c1)]) (rest := [.int ((Z_9.2 43 (7 * c1 + 2)) + 0)]) X M (metX2_nightSize l D cl hcl h ad dA Z_9.1 Z_9.2 c1 (by omega) h60Z_9) (cwV 1 hts (lw_V q1934 q1936 qs53 q62 q1937) rfl rfl rfl (by decide +kernel) ⟨Nat.le_of_ble_eq_true rfl, Nat.le_of_ble_eq_true rfl⟩) rfl hl.1 rfl (Nat.le_of_ble_eq_true rfl) dX2_markOf_95 ⟨Nat.zero_le _, Nat.zero_le _⟩ (fun r9 F9 R9 hr9 H locs M => ?_)
        obtain ⟨Z_13, eZ_13⟩ : ∃ z, z = m_nightSize Z_9.1 Z_9.2 c1 := ⟨_, rfl⟩
        rw [← eZ_13] at hr9
        obtain ⟨rfl, rfl, rfl⟩ : r9 = Z_13.1 ∧ F9 = Z_13.2.1 ∧ R9 = Z_13.2.2 := ⟨congrArg Prod.fst hr9, congrArg (fun z => z.2.1) hr9, congrArg (fun z => z.2.2) hr9⟩
        refine lv_iadd hx hb dX2_markOf_98 ?_
        refine lv_goto (tgt := 103) hx hb dX2_markOf_99 (by decide) ?_
        exact W.iret (v := ((Z_9.2 43 (7 * c1 + 2)) + 0) + Z_13.1) hx hb hr (fun t9 ht9 hW9 => ⟨⟨_, (Z_13.2.1, Z_13.2.2), rfl, (by first | (simp [m_markOf, m_markU, m_markV, m_bgIf, c_1, c_2, c_3, ← eZ_8, ← eZ_9, ← eZ_13, up_s, up_n, nI_1, b2i]; done) | (simp [m_markOf, m_markU, m_markV, m_bgIf, c_1, c_2, c_3, eZ_8, eZ_9, eZ_13, up_s, up_n, nI_1, b2i]; done) | (simp_all [m_markOf, m_markU, m_markV, m_bgIf]; done) | grind [m_markOf, m_markU, m_markV, m_bgIf]), by show va_P _ _ _ t9.heap; rw [ht9]; exact M.1⟩, M.2.2.F ht9⟩) M.2.2.2.2 dX2_markOf_103
    · -- c_2: m_isOf p2 2 = true
      refine lv_aload_n hx hb dX2_markOf_19 rfl (lv_at hl 0 rfl) ?_
      refine lv_bipush (v := 21) hx hb dX2_markOf_20 (by decide) ?_
      refine m_cUv (As := [.int 21]) (rest := []) X M (metX2_began l D cl hcl h ad dA F Rr 21 h60) (cwV 1 hts (lw_V q1938 q1940 qs54 q62 q1941) rfl rfl rfl (by decide +kernel) ⟨Nat.le_of_ble_eq_true rfl, Nat.le_of_ble_eq_true rfl⟩) rfl hl.1 rfl (Nat.le_of_ble_eq_true rfl) dX2_markOf_22 ⟨Nat.zero_le _, Nat.zero_le _⟩ (fun F9 R9 hr9 H locs M => ?_)
      obtain ⟨Z_14, eZ_14⟩ : ∃ z, z = m_began F Rr 21 := ⟨_, rfl⟩
      rw [← eZ_14] at hr9
      obtain ⟨rfl, rfl⟩ : F9 = Z_14.1 ∧ R9 = Z_14.2 := ⟨congrArg Prod.fst hr9, congrArg Prod.snd hr9⟩
      have h60Z_14 : cnB (Z_14.1 60) 16 := by rw [eZ_14]; exact m_began_60 h60
      refine lv_iload_n hx hb dX2_markOf_25 rfl (lv_at hl 2 rfl) ?_
      refine lv_iconst (v := 4) hx hb dX2_markOf_26 (by decide) ?_
      refine lv_icmp_ne (tgt := 36) hx hb dX2_markOf_27 (by decide) (fun c_15 => ?_) (fun c_15 => ?_)
      · -- c_15: p2 ≠ 4
        refine lv_aload_n hx hb dX2_markOf_36 rfl (lv_at hl 0 rfl) ?_
        refine lv_bipush (v := 20) hx hb dX2_markOf_37 (by decide) ?_
        refine m_cUv (As := [.int 20]) (rest := []) X M (metX2_began l D cl hcl h ad dA Z_14.1 Z_14.2 20 h60Z_14) (cwV 1 hts (lw_V q1938 q1940 qs54 q62 q1941) rfl rfl rfl (by decide +kernel) ⟨Nat.le_of_ble_eq_true rfl, Nat.le_of_ble_eq_true rfl⟩) rfl hl.1 rfl (Nat.le_of_ble_eq_true rfl) dX2_markOf_39 ⟨Nat.zero_le _, Nat.zero_le _⟩ (fun F9 R9 hr9 H locs M => ?_)
        obtain ⟨Z_16, eZ_16⟩ : ∃ z, z = m_began Z_14.1 Z_14.2 20 := ⟨_, rfl⟩
        rw [← eZ_16] at hr9
        obtain ⟨rfl, rfl⟩ : F9 = Z_16.1 ∧ R9 = Z_16.2 := ⟨congrArg Prod.fst hr9, congrArg Prod.snd hr9⟩
        have h60Z_16 : cnB (Z_16.1 60) 16 := by rw [eZ_16]; exact m_began_60 h60Z_14
        refine lv_aload_n hx hb dX2_markOf_42 rfl (lv_at hl 0 rfl) ?_
        refine lv_iload_n hx hb dX2_markOf_43 rfl (lv_at hl 1 rfl) ?_
        refine lv_iconst (v := 2) hx hb dX2_markOf_44 (by decide) ?_
        refine m_cQ (v := Z_16.2 43 (7 * c1 + 2)) (As := [.int (nI c1), .int 2]) (rest := []) X M (metX2_on l D cl hcl h ad dA Z_16.1 Z_16.2 c1 2 (by omega) (by omega)) (cwV 2 hts (lw_V q1832 q1834 qs45 q62 q1835) rfl rfl rfl (by decide +kernel) ⟨Nat.le_of_ble_eq_true rfl, Nat.le_of_ble_eq_true rfl⟩) rfl hl.1 rfl (Nat.le_of_ble_eq_true rfl) dX2_markOf_45 ⟨Nat.zero_le _, Nat.zero_le _⟩ ?_
        refine lv_iload_n hx hb dX2_markOf_48 rfl (lv_at hl 2 rfl) ?_
        refine lv_iconst (v := 2) hx hb dX2_markOf_49 (by decide) ?_
        refine s_cI (v := b2i (m_isOf p2 2)) (As := [.int p2, .int 2]) (rest := [.int (Z_16.2 43 (7 * c1 + 2))]) S (metX2_isOf l p2 2) (va_cwS 2 hts (lw_S q1923 q1924 q62 q1925) rfl rfl rfl (by decide +kernel) ⟨Nat.le_of_ble_eq_true rfl, Nat.le_of_ble_eq_true rfl⟩) rfl hl.1 rfl (Nat.le_of_ble_eq_true rfl) dX2_markOf_50 ⟨Nat.zero_le _, Nat.zero_le _⟩ ?_
        refine lz_if_eq (tgt := 68) hx hb dX2_markOf_53 (by decide) (fun c_17 => absurd (c_2.symm.trans c_17) (by decide)) (fun c_17 => ?_)
        refine lv_bipush (v := 100) hx hb dX2_markOf_56 (by decide) ?_
        refine lv_aload_n hx hb dX2_markOf_58 rfl (lv_at hl 0 rfl) ?_
        refine lv_iload_n hx hb dX2_markOf_59 rfl (lv_at hl 1 rfl) ?_
        refine lv_iconst (v := 4) hx hb dX2_markOf_60 (by decide) ?_
        refine m_cQ (v := Z_16.2 43 (7 * c1 + 4)) (As := [.int (nI c1), .int 4]) (rest := [.int 100, .int (Z_16.2 43 (7 * c1 + 2))]) X M (metX2_on l D cl hcl h ad dA Z_16.1 Z_16.2 c1 4 (by omega) (by omega)) (cwV 2 hts (lw_V q1832 q1834 qs45 q62 q1835) rfl rfl rfl (by decide +kernel) ⟨Nat.le_of_ble_eq_true rfl, Nat.le_of_ble_eq_true rfl⟩) rfl hl.1 rfl (Nat.le_of_ble_eq_true rfl) dX2_markOf_61 ⟨Nat.zero_le _, Nat.zero_le _⟩ ?_
        refine lv_imul hx hb dX2_markOf_64 ?_
        refine lv_goto (tgt := 69) hx hb dX2_markOf_65 (by decide) ?_
        refine lv_iadd hx hb dX2_markOf_69 ?_
        refine lv_istore_n (lv' := [(3, .int ((Z_16.2 43 (7 * c1 + 2)) + (100 * (Z_16.2 43 (7 * c1 + 4))))), (0, .ref h), (1, .int (nI c1)), (2, .int p2)]) hx hb dX2_markOf_70 rfl hl (by decide) rfl (fun ls hl => ?_)
        refine lv_iload_n hx hb dX2_markOf_71 rfl (lv_at hl 3 rfl) ?_
        refine lv_iconst (v := 3) hx hb dX2_markOf_72 (by decide) ?_
        refine lv_icmp_ne (tgt := 87) hx hb dX2_markOf_73 (by decide) (fun c_18 => ?_) (fun c_18 => absurd c_18 c_1)
        refine lv_iload_n hx hb dX2_markOf_87 rfl (lv_at hl 3 rfl) ?_
        refine lv_iconst (v := 4) hx hb dX2_markOf_88 (by decide) ?_
        refine lv_icmp_ne (tgt := 102) hx hb dX2_markOf_89 (by decide) (fun c_19 => ?_) (fun c_19 => absurd c_19 c_15)
        refine lv_iload_n hx hb dX2_markOf_102 rfl (lv_at hl 0 rfl) ?_
        exact W.iret (v := (Z_16.2 43 (7 * c1 + 2)) + (100 * (Z_16.2 43 (7 * c1 + 4)))) hx hb hr (fun t9 ht9 hW9 => ⟨⟨_, (Z_16.1, Z_16.2), rfl, (by first | (simp [m_markOf, m_markU, m_markV, m_bgIf, c_1, c_2, ← eZ_14, c_15, ← eZ_16, up_s, up_n, nI_1, b2i]; done) | (simp [m_markOf, m_markU, m_markV, m_bgIf, c_1, c_2, eZ_14, c_15, eZ_16, up_s, up_n, nI_1, b2i]; done) | (simp_all [m_markOf, m_markU, m_markV, m_bgIf]; done) | grind [m_markOf, m_markU, m_markV, m_bgIf]), by show va_P _ _ _ t9.heap; rw [ht9]; exact M.1⟩, M.2.2.F ht9⟩) M.2.2.2.2 dX2_markOf_103
      · -- c_15: p2 = 4
        refine lv_aload_n hx hb dX2_markOf_30 rfl (lv_at hl 0 rfl) ?_
        refine lv_bipush (v := 23) hx hb dX2_markOf_31 (by decide) ?_
        refine m_cUv (As := [.int 23]) (rest := []) X M (metX2_began l D cl hcl h ad dA Z_14.1 Z_14.2 23 h60Z_14) (cwV 1 hts (lw_V q1938 q1940 qs54 q62 q1941) rfl rfl rfl (by decide +kernel) ⟨Nat.le_of_ble_eq_true rfl, Nat.le_of_ble_eq_true rfl⟩) rfl hl.1 rfl (Nat.le_of_ble_eq_true rfl) dX2_markOf_33 ⟨Nat.zero_le _, Nat.zero_le _⟩ (fun F9 R9 hr9 H locs M => ?_)
        obtain ⟨Z_20, eZ_20⟩ : ∃ z, z = m_began Z_14.1 Z_14.2 23 := ⟨_, rfl⟩
        rw [← eZ_20] at hr9
        obtain ⟨rfl, rfl⟩ : F9 = Z_20.1 ∧ R9 = Z_20.2 := ⟨congrArg Prod.fst hr9, congrArg Prod.snd hr9⟩
        have h60Z_20 : cnB (Z_20.1 60) 16 := by rw [eZ_20]; exact m_began_60 h60Z_14
        refine lv_aload_n hx hb dX2_markOf_36 rfl (lv_at hl 0 rfl) ?_
        refine lv_bipush (v := 20) hx hb dX2_markOf_37 (by decide) ?_
        refine m_cUv (As := [.int 20]) (rest := []) X M (metX2_began l D cl hcl h ad dA Z_20.1 Z_20.2 20 h60Z_20) (cwV 1 hts (lw_V q1938 q1940 qs54 q62 q1941) rfl rfl rfl (by decide +kernel) ⟨Nat.le_of_ble_eq_true rfl, Nat.le_of_ble_eq_true rfl⟩) rfl hl.1 rfl (Nat.le_of_ble_eq_true rfl) dX2_markOf_39 ⟨Nat.zero_le _, Nat.zero_le _⟩ (fun F9 R9 hr9 H locs M => ?_)
        obtain ⟨Z_21, eZ_21⟩ : ∃ z, z = m_began Z_20.1 Z_20.2 20 := ⟨_, rfl⟩
        rw [← eZ_21] at hr9
        obtain ⟨rfl, rfl⟩ : F9 = Z_21.1 ∧ R9 = Z_21.2 := ⟨congrArg Prod.fst hr9, congrArg Prod.snd hr9⟩
        have h60Z_21 : cnB (Z_21.1 60) 16 := by rw [eZ_21]; exact m_began_60 h60Z_20
        refine lv_aload_n hx hb dX2_markOf_42 rfl (lv_at hl 0 rfl) ?_
        refine lv_iload_n hx hb dX2_markOf_43 rfl (lv_at hl 1 rfl) ?_
        refine lv_iconst (v := 2) hx hb dX2_markOf_44 (by decide) ?_
        refine m_cQ (v := Z_21.2 43 (7 * c1 + 2)) (As := [.int (nI c1), .int 2]) (rest := []) X M (metX2_on l D cl hcl h ad dA Z_21.1 Z_21.2 c1 2 (by omega) (by omega)) (cwV 2 hts (lw_V q1832 q1834 qs45 q62 q1835) rfl rfl rfl (by decide +kernel) ⟨Nat.le_of_ble_eq_true rfl, Nat.le_of_ble_eq_true rfl⟩) rfl hl.1 rfl (Nat.le_of_ble_eq_true rfl) dX2_markOf_45 ⟨Nat.zero_le _, Nat.zero_le _⟩ ?_
        refine lv_iload_n hx hb dX2_markOf_48 rfl (lv_at hl 2 rfl) ?_
        refine lv_iconst (v := 2) hx hb dX2_markOf_49 (by decide) ?_
        refine s_cI (v := b2i (m_isOf p2 2)) (As := [.int p2, .int 2]) (rest := [.int (Z_21.2 43 (7 * c1 + 2))]) S (metX2_isOf l p2 2) (va_cwS 2 hts (lw_S q1923 q1924 q62 q1925) rfl rfl rfl (by decide +kernel) ⟨Nat.le_of_ble_eq_true rfl, Nat.le_of_ble_eq_true rfl⟩) rfl hl.1 rfl (Nat.le_of_ble_eq_true rfl) dX2_markOf_50 ⟨Nat.zero_le _, Nat.zero_le _⟩ ?_
        refine lz_if_eq (tgt := 68) hx hb dX2_markOf_53 (by decide) (fun c_22 => absurd (c_2.symm.trans c_22) (by decide)) (fun c_22 => ?_)
        refine lv_bipush (v := 100) hx hb dX2_markOf_56 (by decide) ?_
        refine lv_aload_n hx hb dX2_markOf_58 rfl (lv_at hl 0 rfl) ?_
        refine lv_iload_n hx hb dX2_markOf_59 rfl (lv_at hl 1 rfl) ?_
        refine lv_iconst (v := 4) hx hb dX2_markOf_60 (by decide) ?_
        refine m_cQ (v := Z_21.2 43 (7 * c1 + 4)) (As := [.int (nI c1), .int 4]) (rest := [.int 100, .int (Z_21.2 43 (7 * c1 + 2))]) X M (metX2_on l D cl hcl h ad dA Z_21.1 Z_21.2 c1 4 (by omega) (by omega)) (cwV 2 hts (lw_V q1832 q1834 qs45 q62 q1835) rfl rfl rfl (by decide +kernel) ⟨Nat.le_of_ble_eq_true rfl, Nat.le_of_ble_eq_true rfl⟩) rfl hl.1 rfl (Nat.le_of_ble_eq_true rfl) dX2_markOf_61 ⟨Nat.zero_le _, Nat.zero_le _⟩ ?_
        refine lv_imul hx hb dX2_markOf_64 ?_
        refine lv_goto (tgt := 69) hx hb dX2_markOf_65 (by decide) ?_
        refine lv_iadd hx hb dX2_markOf_69 ?_
        refine lv_istore_n (lv' := [(3, .int ((Z_21.2 43 (7 * c1 + 2)) + (100 * (Z_21.2 43 (7 * c1 + 4))))), (0, .ref h), (1, .int (nI c1)), (2, .int p2)]) hx hb dX2_markOf_70 rfl hl (by decide) rfl (fun ls hl => ?_)
        refine lv_iload_n hx hb dX2_markOf_71 rfl (lv_at hl 3 rfl) ?_
        refine lv_iconst (v := 3) hx hb dX2_markOf_72 (by decide) ?_
        refine lv_icmp_ne (tgt := 87) hx hb dX2_markOf_73 (by decide) (fun c_23 => ?_) (fun c_23 => absurd c_23 c_1)
        refine lv_iload_n hx hb dX2_markOf_87 rfl (lv_at hl 3 rfl) ?_
        refine lv_iconst (v := 4) hx hb dX2_markOf_88 (by decide) ?_
        refine lv_icmp_ne (tgt := 102) hx hb dX2_markOf_89 (by decide) (fun c_24 => absurd c_15 c_24) (fun c_24 => ?_)
        refine lv_iload_n hx hb dX2_markOf_92 rfl (lv_at hl 0 rfl) ?_
        refine lv_aload_n hx hb dX2_markOf_93 rfl (lv_at hl 1 rfl) ?_
        refine lv_iload_n hx hb dX2_markOf_94 rfl (lv_at hl 2 rfl) ?_
        refine m_cU (As := [.int (nI c1)]) (rest := [.int ((Z_21.2 43 (7 * c1 + 2)) + (100 * (Z_21.2 43 (7 * c1 + 4))))]) X M (metX2_nightSize l D cl hcl h ad dA Z_21.1 Z_21.2 c1 (by omega) h60Z_21) (cwV 1 hts (lw_V q1934 q1936 qs53 q62 q1937) rfl rfl rfl (by decide +kernel) ⟨Nat.le_of_ble_eq_true rfl, Nat.le_of_ble_eq_true rfl⟩) rfl hl.1 rfl (Nat.le_of_ble_eq_true rfl) dX2_markOf_95 ⟨Nat.zero_le _, Nat.zero_le _⟩ (fun r9 F9 R9 hr9 H locs M => ?_)
        obtain ⟨Z_25, eZ_25⟩ : ∃ z, z = m_nightSize Z_21.1 Z_21.2 c1 := ⟨_, rfl⟩
        rw [← eZ_25] at hr9
        obtain ⟨rfl, rfl, rfl⟩ : r9 = Z_25.1 ∧ F9 = Z_25.2.1 ∧ R9 = Z_25.2.2 := ⟨congrArg Prod.fst hr9, congrArg (fun z => z.2.1) hr9, congrArg (fun z => z.2.2) hr9⟩
        refine lv_iadd hx hb dX2_markOf_98 ?_
        refine lv_goto (tgt := 103) hx hb dX2_markOf_99 (by decide) ?_
        exact W.iret (v := ((Z_21.2 43 (7 * c1 + 2)) + (100 * (Z_21.2 43 (7 * c1 + 4)))) + Z_25.1) hx hb hr (fun t9 ht9 hW9 => ⟨⟨_, (Z_25.2.1, Z_25.2.2), rfl, (by first | (simp [m_markOf, m_markU, m_markV, m_bgIf, c_1, c_2, ← eZ_14, c_15, ← eZ_20, ← eZ_21, ← eZ_25, up_s, up_n, nI_1, b2i]; done) | (simp [m_markOf, m_markU, m_markV, m_bgIf, c_1, c_2, eZ_14, c_15, eZ_20, eZ_21, eZ_25, up_s, up_n, nI_1, b2i]; done) | (simp_all [m_markOf, m_markU, m_markV, m_bgIf]; done) | grind [m_markOf, m_markU, m_markV, m_bgIf]), by show va_P _ _ _ t9.heap; rw [ht9]; exact M.1⟩, M.2.2.F ht9⟩) M.2.2.2.2 dX2_markOf_103
  · -- c_1: p2 = 3
    refine lv_aload_n hx hb dX2_markOf_5 rfl (lv_at hl 0 rfl) ?_
    refine lv_bipush (v := 22) hx hb dX2_markOf_6 (by decide) ?_
    refine m_cUv (As := [.int 22]) (rest := []) X M (metX2_began l D cl hcl h ad dA F Rr 22 h60) (cwV 1 hts (lw_V q1938 q1940 qs54 q62 q1941) rfl rfl rfl (by decide +kernel) ⟨Nat.le_of_ble_eq_true rfl, Nat.le_of_ble_eq_true rfl⟩) rfl hl.1 rfl (Nat.le_of_ble_eq_true rfl) dX2_markOf_8 ⟨Nat.zero_le _, Nat.zero_le _⟩ (fun F9 R9 hr9 H locs M => ?_)
    obtain ⟨Z_26, eZ_26⟩ : ∃ z, z = m_began F Rr 22 := ⟨_, rfl⟩
    rw [← eZ_26] at hr9
    obtain ⟨rfl, rfl⟩ : F9 = Z_26.1 ∧ R9 = Z_26.2 := ⟨congrArg Prod.fst hr9, congrArg Prod.snd hr9⟩
    have h60Z_26 : cnB (Z_26.1 60) 16 := by rw [eZ_26]; exact m_began_60 h60
    refine lv_iload_n hx hb dX2_markOf_11 rfl (lv_at hl 2 rfl) ?_
    refine lv_iconst (v := 2) hx hb dX2_markOf_12 (by decide) ?_
    refine s_cI (v := b2i (m_isOf p2 2)) (As := [.int p2, .int 2]) (rest := []) S (metX2_isOf l p2 2) (va_cwS 2 hts (lw_S q1923 q1924 q62 q1925) rfl rfl rfl (by decide +kernel) ⟨Nat.le_of_ble_eq_true rfl, Nat.le_of_ble_eq_true rfl⟩) rfl hl.1 rfl (Nat.le_of_ble_eq_true rfl) dX2_markOf_13 ⟨Nat.zero_le _, Nat.zero_le _⟩ ?_
    refine lz_if_eq (tgt := 25) hx hb dX2_markOf_16 (by decide) (fun c_27 => ?_) (fun c_27 => ?_)
    · -- c_27: m_isOf p2 2 = false
      refine lv_iload_n hx hb dX2_markOf_25 rfl (lv_at hl 2 rfl) ?_
      refine lv_iconst (v := 4) hx hb dX2_markOf_26 (by decide) ?_
      refine lv_icmp_ne (tgt := 36) hx hb dX2_markOf_27 (by decide) (fun c_28 => ?_) (fun c_28 => ?_)
      · -- c_28: p2 ≠ 4
        refine lv_aload_n hx hb dX2_markOf_36 rfl (lv_at hl 0 rfl) ?_
        refine lv_bipush (v := 20) hx hb dX2_markOf_37 (by decide) ?_
        refine m_cUv (As := [.int 20]) (rest := []) X M (metX2_began l D cl hcl h ad dA Z_26.1 Z_26.2 20 h60Z_26) (cwV 1 hts (lw_V q1938 q1940 qs54 q62 q1941) rfl rfl rfl (by decide +kernel) ⟨Nat.le_of_ble_eq_true rfl, Nat.le_of_ble_eq_true rfl⟩) rfl hl.1 rfl (Nat.le_of_ble_eq_true rfl) dX2_markOf_39 ⟨Nat.zero_le _, Nat.zero_le _⟩ (fun F9 R9 hr9 H locs M => ?_)
        obtain ⟨Z_29, eZ_29⟩ : ∃ z, z = m_began Z_26.1 Z_26.2 20 := ⟨_, rfl⟩
        rw [← eZ_29] at hr9
        obtain ⟨rfl, rfl⟩ : F9 = Z_29.1 ∧ R9 = Z_29.2 := ⟨congrArg Prod.fst hr9, congrArg Prod.snd hr9⟩
        have h60Z_29 : cnB (Z_29.1 60) 16 := by rw [eZ_29]; exact m_began_60 h60Z_26
        refine lv_aload_n hx hb dX2_markOf_42 rfl (lv_at hl 0 rfl) ?_
        refine lv_iload_n hx hb dX2_markOf_43 rfl (lv_at hl 1 rfl) ?_
        refine lv_iconst (v := 2) hx hb dX2_markOf_44 (by decide) ?_
        refine m_cQ (v := Z_29.2 43 (7 * c1 + 2)) (As := [.int (nI c1), .int 2]) (rest := []) X M (metX2_on l D cl hcl h ad dA Z_29.1 Z_29.2 c1 2 (by omega) (by omega)) (cwV 2 hts (lw_V q1832 q1834 qs45 q62 q1835) rfl rfl rfl (by decide +kernel) ⟨Nat.le_of_ble_eq_true rfl, Nat.le_of_ble_eq_true rfl⟩) rfl hl.1 rfl (Nat.le_of_ble_eq_true rfl) dX2_markOf_45 ⟨Nat.zero_le _, Nat.zero_le _⟩ ?_
        refine lv_iload_n hx hb dX2_markOf_48 rfl (lv_at hl 2 rfl) ?_
        refine lv_iconst (v := 2) hx hb dX2_markOf_49 (by decide) ?_
        refine s_cI (v := b2i (m_isOf p2 2)) (As := [.int p2, .int 2]) (rest := [.int (Z_29.2 43 (7 * c1 + 2))]) S (metX2_isOf l p2 2) (va_cwS 2 hts (lw_S q1923 q1924 q62 q1925) rfl rfl rfl (by decide +kernel) ⟨Nat.le_of_ble_eq_true rfl, Nat.le_of_ble_eq_true rfl⟩) rfl hl.1 rfl (Nat.le_of_ble_eq_true rfl) dX2_markOf_50 ⟨Nat.zero_le _, Nat.zero_le _⟩ ?_
        refine lz_if_eq (tgt := 68) hx hb dX2_markOf_53 (by decide) (fun c_30 => ?_) (fun c_30 => absurd (c_27.symm.trans c_30) (by decide))
        refine lv_iconst (v := 0) hx hb dX2_markOf_68 (by decide) ?_
        refine lv_iadd hx hb dX2_markOf_69 ?_
        refine lv_istore_n (lv' := [(3, .int ((Z_29.2 43 (7 * c1 + 2)) + 0)), (0, .ref h), (1, .int (nI c1)), (2, .int p2)]) hx hb dX2_markOf_70 rfl hl (by decide) rfl (fun ls hl => ?_)
        refine lv_iload_n hx hb dX2_markOf_71 rfl (lv_at hl 3 rfl) ?_
        refine lv_iconst (v := 3) hx hb dX2_markOf_72 (by decide) ?_
        refine lv_icmp_ne (tgt := 87) hx hb dX2_markOf_73 (by decide) (fun c_31 => absurd c_1 c_31) (fun c_31 => ?_)
        refine lv_iload_n hx hb dX2_markOf_76 rfl (lv_at hl 0 rfl) ?_
        refine lv_aload_n hx hb dX2_markOf_77 rfl (lv_at hl 1 rfl) ?_
        refine lv_iload_n hx hb dX2_markOf_78 rfl (lv_at hl 2 rfl) ?_
        refine lv_iconst (v := 3) hx hb dX2_markOf_79 (by decide) ?_
        refine m_cQ (v := Z_29.2 43 (7 * c1 + 3)) (As := [.int (nI c1), .int 3]) (rest := [.int ((Z_29.2 43 (7 * c1 + 2)) + 0)]) X M (metX2_on l D cl hcl h ad dA Z_29.1 Z_29.2 c1 3 (by omega) (by omega)) (cwV 2 hts (lw_V q1832 q1834 qs45 q62 q1835) rfl rfl rfl (by decide +kernel) ⟨Nat.le_of_ble_eq_true rfl, Nat.le_of_ble_eq_true rfl⟩) rfl hl.1 rfl (Nat.le_of_ble_eq_true rfl) dX2_markOf_80 ⟨Nat.zero_le _, Nat.zero_le _⟩ ?_
        refine lv_iadd hx hb dX2_markOf_83 ?_
        refine lv_goto (tgt := 103) hx hb dX2_markOf_84 (by decide) ?_
        exact W.iret (v := ((Z_29.2 43 (7 * c1 + 2)) + 0) + (Z_29.2 43 (7 * c1 + 3))) hx hb hr (fun t9 ht9 hW9 => ⟨⟨_, (Z_29.1, Z_29.2), rfl, (by first | (simp [m_markOf, m_markU, m_markV, m_bgIf, c_1, ← eZ_26, c_27, c_28, ← eZ_29, up_s, up_n, nI_1, b2i]; done) | (simp [m_markOf, m_markU, m_markV, m_bgIf, c_1, eZ_26, c_27, c_28, eZ_29, up_s, up_n, nI_1, b2i]; done) | (simp_all [m_markOf, m_markU, m_markV, m_bgIf]; done) | grind [m_markOf, m_markU, m_markV, m_bgIf]), by show va_P _ _ _ t9.heap; rw [ht9]; exact M.1⟩, M.2.2.F ht9⟩) M.2.2.2.2 dX2_markOf_103
      · -- c_28: p2 = 4
        refine lv_aload_n hx hb dX2_markOf_30 rfl (lv_at hl 0 rfl) ?_
        refine lv_bipush (v := 23) hx hb dX2_markOf_31 (by decide) ?_
        refine m_cUv (As := [.int 23]) (rest := []) X M (metX2_began l D cl hcl h ad dA Z_26.1 Z_26.2 23 h60Z_26) (cwV 1 hts (lw_V q1938 q1940 qs54 q62 q1941) rfl rfl rfl (by decide +kernel) ⟨Nat.le_of_ble_eq_true rfl, Nat.le_of_ble_eq_true rfl⟩) rfl hl.1 rfl (Nat.le_of_ble_eq_true rfl) dX2_markOf_33 ⟨Nat.zero_le _, Nat.zero_le _⟩ (fun F9 R9 hr9 H locs M => ?_)
        obtain ⟨Z_32, eZ_32⟩ : ∃ z, z = m_began Z_26.1 Z_26.2 23 := ⟨_, rfl⟩
        rw [← eZ_32] at hr9
        obtain ⟨rfl, rfl⟩ : F9 = Z_32.1 ∧ R9 = Z_32.2 := ⟨congrArg Prod.fst hr9, congrArg Prod.snd hr9⟩
        have h60Z_32 : cnB (Z_32.1 60) 16 := by rw [eZ_32]; exact m_began_60 h60Z_26
        refine lv_aload_n hx hb dX2_markOf_36 rfl (lv_at hl 0 rfl) ?_
        refine lv_bipush (v := 20) hx hb dX2_markOf_37 (by decide) ?_
        refine m_cUv (As := [.int 20]) (rest := []) X M (metX2_began l D cl hcl h ad dA Z_32.1 Z_32.2 20 h60Z_32) (cwV 1 hts (lw_V q1938 q1940 qs54 q62 q1941) rfl rfl rfl (by decide +kernel) ⟨Nat.le_of_ble_eq_true rfl, Nat.le_of_ble_eq_true rfl⟩) rfl hl.1 rfl (Nat.le_of_ble_eq_true rfl) dX2_markOf_39 ⟨Nat.zero_le _, Nat.zero_le _⟩ (fun F9 R9 hr9 H locs M => ?_)
        obtain ⟨Z_33, eZ_33⟩ : ∃ z, z = m_began Z_32.1 Z_32.2 20 := ⟨_, rfl⟩
        rw [← eZ_33] at hr9
        obtain ⟨rfl, rfl⟩ : F9 = Z_33.1 ∧ R9 = Z_33.2 := ⟨congrArg Prod.fst hr9, congrArg Prod.snd hr9⟩
        have h60Z_33 : cnB (Z_33.1 60) 16 := by rw [eZ_33]; exact m_began_60 h60Z_32
        refine lv_aload_n hx hb dX2_markOf_42 rfl (lv_at hl 0 rfl) ?_
        refine lv_iload_n hx hb dX2_markOf_43 rfl (lv_at hl 1 rfl) ?_
        refine lv_iconst (v := 2) hx hb dX2_markOf_44 (by decide) ?_
        refine m_cQ (v := Z_33.2 43 (7 * c1 + 2)) (As := [.int (nI c1), .int 2]) (rest := []) X M (metX2_on l D cl hcl h ad dA Z_33.1 Z_33.2 c1 2 (by omega) (by omega)) (cwV 2 hts (lw_V q1832 q1834 qs45 q62 q1835) rfl rfl rfl (by decide +kernel) ⟨Nat.le_of_ble_eq_true rfl, Nat.le_of_ble_eq_true rfl⟩) rfl hl.1 rfl (Nat.le_of_ble_eq_true rfl) dX2_markOf_45 ⟨Nat.zero_le _, Nat.zero_le _⟩ ?_
        refine lv_iload_n hx hb dX2_markOf_48 rfl (lv_at hl 2 rfl) ?_
        refine lv_iconst (v := 2) hx hb dX2_markOf_49 (by decide) ?_
        refine s_cI (v := b2i (m_isOf p2 2)) (As := [.int p2, .int 2]) (rest := [.int (Z_33.2 43 (7 * c1 + 2))]) S (metX2_isOf l p2 2) (va_cwS 2 hts (lw_S q1923 q1924 q62 q1925) rfl rfl rfl (by decide +kernel) ⟨Nat.le_of_ble_eq_true rfl, Nat.le_of_ble_eq_true rfl⟩) rfl hl.1 rfl (Nat.le_of_ble_eq_true rfl) dX2_markOf_50 ⟨Nat.zero_le _, Nat.zero_le _⟩ ?_
        refine lz_if_eq (tgt := 68) hx hb dX2_markOf_53 (by decide) (fun c_34 => ?_) (fun c_34 => absurd (c_27.symm.trans c_34) (by decide))
        refine lv_iconst (v := 0) hx hb dX2_markOf_68 (by decide) ?_
        refine lv_iadd hx hb dX2_markOf_69 ?_
        refine lv_istore_n (lv' := [(3, .int ((Z_33.2 43 (7 * c1 + 2)) + 0)), (0, .ref h), (1, .int (nI c1)), (2, .int p2)]) hx hb dX2_markOf_70 rfl hl (by decide) rfl (fun ls hl => ?_)
        refine lv_iload_n hx hb dX2_markOf_71 rfl (lv_at hl 3 rfl) ?_
        refine lv_iconst (v := 3) hx hb dX2_markOf_72 (by decide) ?_
        refine lv_icmp_ne (tgt := 87) hx hb dX2_markOf_73 (by decide) (fun c_35 => absurd c_1 c_35) (fun c_35 => ?_)
        refine lv_iload_n hx hb dX2_markOf_76 rfl (lv_at hl 0 rfl) ?_
        refine lv_aload_n hx hb dX2_markOf_77 rfl (lv_at hl 1 rfl) ?_
        refine lv_iload_n hx hb dX2_markOf_78 rfl (lv_at hl 2 rfl) ?_
        refine lv_iconst (v := 3) hx hb dX2_markOf_79 (by decide) ?_
        refine m_cQ (v := Z_33.2 43 (7 * c1 + 3)) (As := [.int (nI c1), .int 3]) (rest := [.int ((Z_33.2 43 (7 * c1 + 2)) + 0)]) X M (metX2_on l D cl hcl h ad dA Z_33.1 Z_33.2 c1 3 (by omega) (by omega)) (cwV 2 hts (lw_V q1832 q1834 qs45 q62 q1835) rfl rfl rfl (by decide +kernel) ⟨Nat.le_of_ble_eq_true rfl, Nat.le_of_ble_eq_true rfl⟩) rfl hl.1 rfl (Nat.le_of_ble_eq_true rfl) dX2_markOf_80 ⟨Nat.zero_le _, Nat.zero_le _⟩ ?_
        refine lv_iadd hx hb dX2_markOf_83 ?_
        refine lv_goto (tgt := 103) hx hb dX2_markOf_84 (by decide) ?_
        exact W.iret (v := ((Z_33.2 43 (7 * c1 + 2)) + 0) + (Z_33.2 43 (7 * c1 + 3))) hx hb hr (fun t9 ht9 hW9 => ⟨⟨_, (Z_33.1, Z_33.2), rfl, (by first | (simp [m_markOf, m_markU, m_markV, m_bgIf, c_1, ← eZ_26, c_27, c_28, ← eZ_32, ← eZ_33, up_s, up_n, nI_1, b2i]; done) | (simp [m_markOf, m_markU, m_markV, m_bgIf, c_1, eZ_26, c_27, c_28, eZ_32, eZ_33, up_s, up_n, nI_1, b2i]; done) | (simp_all [m_markOf, m_markU, m_markV, m_bgIf]; done) | grind [m_markOf, m_markU, m_markV, m_bgIf]), by show va_P _ _ _ t9.heap; rw [ht9]; exact M.1⟩, M.2.2.F ht9⟩) M.2.2.2.2 dX2_markOf_103
    · -- c_27: m_isOf p2 2 = true
      refine lv_aload_n hx hb dX2_markOf_19 rfl (lv_at hl 0 rfl) ?_
      refine lv_bipush (v := 21) hx hb dX2_markOf_20 (by decide) ?_
      refine m_cUv (As := [.int 21]) (rest := []) X M (metX2_began l D cl hcl h ad dA Z_26.1 Z_26.2 21 h60Z_26) (cwV 1 hts (lw_V q1938 q1940 qs54 q62 q1941) rfl rfl rfl (by decide +kernel) ⟨Nat.le_of_ble_eq_true rfl, Nat.le_of_ble_eq_true rfl⟩) rfl hl.1 rfl (Nat.le_of_ble_eq_true rfl) dX2_markOf_22 ⟨Nat.zero_le _, Nat.zero_le _⟩ (fun F9 R9 hr9 H locs M => ?_)
      obtain ⟨Z_36, eZ_36⟩ : ∃ z, z = m_began Z_26.1 Z_26.2 21 := ⟨_, rfl⟩
      rw [← eZ_36] at hr9
      obtain ⟨rfl, rfl⟩ : F9 = Z_36.1 ∧ R9 = Z_36.2 := ⟨congrArg Prod.fst hr9, congrArg Prod.snd hr9⟩
      have h60Z_36 : cnB (Z_36.1 60) 16 := by rw [eZ_36]; exact m_began_60 h60Z_26
      refine lv_iload_n hx hb dX2_markOf_25 rfl (lv_at hl 2 rfl) ?_
      refine lv_iconst (v := 4) hx hb dX2_markOf_26 (by decide) ?_
      refine lv_icmp_ne (tgt := 36) hx hb dX2_markOf_27 (by decide) (fun c_37 => ?_) (fun c_37 => ?_)
      · -- c_37: p2 ≠ 4
        refine lv_aload_n hx hb dX2_markOf_36 rfl (lv_at hl 0 rfl) ?_
        refine lv_bipush (v := 20) hx hb dX2_markOf_37 (by decide) ?_
        refine m_cUv (As := [.int 20]) (rest := []) X M (metX2_began l D cl hcl h ad dA Z_36.1 Z_36.2 20 h60Z_36) (cwV 1 hts (lw_V q1938 q1940 qs54 q62 q1941) rfl rfl rfl (by decide +kernel) ⟨Nat.le_of_ble_eq_true rfl, Nat.le_of_ble_eq_true rfl⟩) rfl hl.1 rfl (Nat.le_of_ble_eq_true rfl) dX2_markOf_39 ⟨Nat.zero_le _, Nat.zero_le _⟩ (fun F9 R9 hr9 H locs M => ?_)
        obtain ⟨Z_38, eZ_38⟩ : ∃ z, z = m_began Z_36.1 Z_36.2 20 := ⟨_, rfl⟩
        rw [← eZ_38] at hr9
        obtain ⟨rfl, rfl⟩ : F9 = Z_38.1 ∧ R9 = Z_38.2 := ⟨congrArg Prod.fst hr9, congrArg Prod.snd hr9⟩
        have h60Z_38 : cnB (Z_38.1 60) 16 := by rw [eZ_38]; exact m_began_60 h60Z_36
        refine lv_aload_n hx hb dX2_markOf_42 rfl (lv_at hl 0 rfl) ?_
        refine lv_iload_n hx hb dX2_markOf_43 rfl (lv_at hl 1 rfl) ?_
        refine lv_iconst (v := 2) hx hb dX2_markOf_44 (by decide) ?_
        refine m_cQ (v := Z_38.2 43 (7 * c1 + 2)) (As := [.int (nI c1), .int 2]) (rest := []) X M (metX2_on l D cl hcl h ad dA Z_38.1 Z_38.2 c1 2 (by omega) (by omega)) (cwV 2 hts (lw_V q1832 q1834 qs45 q62 q1835) rfl rfl rfl (by decide +kernel) ⟨Nat.le_of_ble_eq_true rfl, Nat.le_of_ble_eq_true rfl⟩) rfl hl.1 rfl (Nat.le_of_ble_eq_true rfl) dX2_markOf_45 ⟨Nat.zero_le _, Nat.zero_le _⟩ ?_
        refine lv_iload_n hx hb dX2_markOf_48 rfl (lv_at hl 2 rfl) ?_
        refine lv_iconst (v := 2) hx hb dX2_markOf_49 (by decide) ?_
        refine s_cI (v := b2i (m_isOf p2 2)) (As := [.int p2, .int 2]) (rest := [.int (Z_38.2 43 (7 * c1 + 2))]) S (metX2_isOf l p2 2) (va_cwS 2 hts (lw_S q1923 q1924 q62 q1925) rfl rfl rfl (by decide +kernel) ⟨Nat.le_of_ble_eq_true rfl, Nat.le_of_ble_eq_true rfl⟩) rfl hl.1 rfl (Nat.le_of_ble_eq_true rfl) dX2_markOf_50 ⟨Nat.zero_le _, Nat.zero_le _⟩ ?_
        refine lz_if_eq (tgt := 68) hx hb dX2_markOf_53 (by decide) (fun c_39 => absurd (c_27.symm.trans c_39) (by decide)) (fun c_39 => ?_)
        refine lv_bipush (v := 100) hx hb dX2_markOf_56 (by decide) ?_
        refine lv_aload_n hx hb dX2_markOf_58 rfl (lv_at hl 0 rfl) ?_
        refine lv_iload_n hx hb dX2_markOf_59 rfl (lv_at hl 1 rfl) ?_
        refine lv_iconst (v := 4) hx hb dX2_markOf_60 (by decide) ?_
        refine m_cQ (v := Z_38.2 43 (7 * c1 + 4)) (As := [.int (nI c1), .int 4]) (rest := [.int 100, .int (Z_38.2 43 (7 * c1 + 2))]) X M (metX2_on l D cl hcl h ad dA Z_38.1 Z_38.2 c1 4 (by omega) (by omega)) (cwV 2 hts (lw_V q1832 q1834 qs45 q62 q1835) rfl rfl rfl (by decide +kernel) ⟨Nat.le_of_ble_eq_true rfl, Nat.le_of_ble_eq_true rfl⟩) rfl hl.1 rfl (Nat.le_of_ble_eq_true rfl) dX2_markOf_61 ⟨Nat.zero_le _, Nat.zero_le _⟩ ?_
        refine lv_imul hx hb dX2_markOf_64 ?_
        refine lv_goto (tgt := 69) hx hb dX2_markOf_65 (by decide) ?_
        refine lv_iadd hx hb dX2_markOf_69 ?_
        refine lv_istore_n (lv' := [(3, .int ((Z_38.2 43 (7 * c1 + 2)) + (100 * (Z_38.2 43 (7 * c1 + 4))))), (0, .ref h), (1, .int (nI c1)), (2, .int p2)]) hx hb dX2_markOf_70 rfl hl (by decide) rfl (fun ls hl => ?_)
        refine lv_iload_n hx hb dX2_markOf_71 rfl (lv_at hl 3 rfl) ?_
        refine lv_iconst (v := 3) hx hb dX2_markOf_72 (by decide) ?_
        refine lv_icmp_ne (tgt := 87) hx hb dX2_markOf_73 (by decide) (fun c_40 => absurd c_1 c_40) (fun c_40 => ?_)
        refine lv_iload_n hx hb dX2_markOf_76 rfl (lv_at hl 0 rfl) ?_
        refine lv_aload_n hx hb dX2_markOf_77 rfl (lv_at hl 1 rfl) ?_
        refine lv_iload_n hx hb dX2_markOf_78 rfl (lv_at hl 2 rfl) ?_
        refine lv_iconst (v := 3) hx hb dX2_markOf_79 (by decide) ?_
        refine m_cQ (v := Z_38.2 43 (7 * c1 + 3)) (As := [.int (nI c1), .int 3]) (rest := [.int ((Z_38.2 43 (7 * c1 + 2)) + (100 * (Z_38.2 43 (7 * c1 + 4))))]) X M (metX2_on l D cl hcl h ad dA Z_38.1 Z_38.2 c1 3 (by omega) (by omega)) (cwV 2 hts (lw_V q1832 q1834 qs45 q62 q1835) rfl rfl rfl (by decide +kernel) ⟨Nat.le_of_ble_eq_true rfl, Nat.le_of_ble_eq_true rfl⟩) rfl hl.1 rfl (Nat.le_of_ble_eq_true rfl) dX2_markOf_80 ⟨Nat.zero_le _, Nat.zero_le _⟩ ?_
        refine lv_iadd hx hb dX2_markOf_83 ?_
        refine lv_goto (tgt := 103) hx hb dX2_markOf_84 (by decide) ?_
        exact W.iret (v := ((Z_38.2 43 (7 * c1 + 2)) + (100 * (Z_38.2 43 (7 * c1 + 4)))) + (Z_38.2 43 (7 * c1 + 3))) hx hb hr (fun t9 ht9 hW9 => ⟨⟨_, (Z_38.1, Z_38.2), rfl, (by first | (simp [m_markOf, m_markU, m_markV, m_bgIf, c_1, ← eZ_26, c_27, ← eZ_36, c_37, ← eZ_38, up_s, up_n, nI_1, b2i]; done) | (simp [m_markOf, m_markU, m_markV, m_bgIf, c_1, eZ_26, c_27, eZ_36, c_37, eZ_38, up_s, up_n, nI_1, b2i]; done) | (simp_all [m_markOf, m_markU, m_markV, m_bgIf]; done) | grind [m_markOf, m_markU, m_markV, m_bgIf]), by show va_P _ _ _ t9.heap; rw [ht9]; exact M.1⟩, M.2.2.F ht9⟩) M.2.2.2.2 dX2_markOf_103
      · -- c_37: p2 = 4
        refine lv_aload_n hx hb dX2_markOf_30 rfl (lv_at hl 0 rfl) ?_
        refine lv_bipush (v := 23) hx hb dX2_markOf_31 (by decide) ?_
        refine m_cUv (As := [.int 23]) (rest := []) X M (metX2_began l D cl hcl h ad dA Z_36.1 Z_36.2 23 h60Z_36) (cwV 1 hts (lw_V q1938 q1940 qs54 q62 q1941) rfl rfl rfl (by decide +kernel) ⟨Nat.le_of_ble_eq_true rfl, Nat.le_of_ble_eq_true rfl⟩) rfl hl.1 rfl (Nat.le_of_ble_eq_true rfl) dX2_markOf_33 ⟨Nat.zero_le _, Nat.zero_le _⟩ (fun F9 R9 hr9 H locs M => ?_)
        obtain ⟨Z_41, eZ_41⟩ : ∃ z, z = m_began Z_36.1 Z_36.2 23 := ⟨_, rfl⟩
        rw [← eZ_41] at hr9
        obtain ⟨rfl, rfl⟩ : F9 = Z_41.1 ∧ R9 = Z_41.2 := ⟨congrArg Prod.fst hr9, congrArg Prod.snd hr9⟩
        have h60Z_41 : cnB (Z_41.1 60) 16 := by rw [eZ_41]; exact m_began_60 h60Z_36
        refine lv_aload_n hx hb dX2_markOf_36 rfl (lv_at hl 0 rfl) ?_
        refine lv_bipush (v := 20) hx hb dX2_markOf_37 (by decide) ?_
        refine m_cUv (As := [.int 20]) (rest := []) X M (metX2_began l D cl hcl h ad dA Z_41.1 Z_41.2 20 h60Z_41) (cwV 1 hts (lw_V q1938 q1940 qs54 q62 q1941) rfl rfl rfl (by decide +kernel) ⟨Nat.le_of_ble_eq_true rfl, Nat.le_of_ble_eq_true rfl⟩) rfl hl.1 rfl (Nat.le_of_ble_eq_true rfl) dX2_markOf_39 ⟨Nat.zero_le _, Nat.zero_le _⟩ (fun F9 R9 hr9 H locs M => ?_)
        obtain ⟨Z_42, eZ_42⟩ : ∃ z, z = m_began Z_41.1 Z_41.2 20 := ⟨_, rfl⟩
        rw [← eZ_42] at hr9
        obtain ⟨rfl, rfl⟩ : F9 = Z_42.1 ∧ R9 = Z_42.2 := ⟨congrArg Prod.fst hr9, congrArg Prod.snd hr9⟩
        have h60Z_42 : cnB (Z_42.1 60) 16 := by rw [eZ_42]; exact m_began_60 h60Z_41
        refine lv_aload_n hx hb dX2_markOf_42 rfl (lv_at hl 0 rfl) ?_
        refine lv_iload_n hx hb dX2_markOf_43 rfl (lv_at hl 1 rfl) ?_
        refine lv_iconst (v := 2) hx hb dX2_markOf_44 (by decide) ?_
        refine m_cQ (v := Z_42.2 43 (7 * c1 + 2)) (As := [.int (nI c1), .int 2]) (rest := []) X M (metX2_on l D cl hcl h ad dA Z_42.1 Z_42.2 c1 2 (by omega) (by omega)) (cwV 2 hts (lw_V q1832 q1834 qs45 q62 q1835) rfl rfl rfl (by decide +kernel) ⟨Nat.le_of_ble_eq_true rfl, Nat.le_of_ble_eq_true rfl⟩) rfl hl.1 rfl (Nat.le_of_ble_eq_true rfl) dX2_markOf_45 ⟨Nat.zero_le _, Nat.zero_le _⟩ ?_
        refine lv_iload_n hx hb dX2_markOf_48 rfl (lv_at hl 2 rfl) ?_
        refine lv_iconst (v := 2) hx hb dX2_markOf_49 (by decide) ?_
        refine s_cI (v := b2i (m_isOf p2 2)) (As := [.int p2, .int 2]) (rest := [.int (Z_42.2 43 (7 * c1 + 2))]) S (metX2_isOf l p2 2) (va_cwS 2 hts (lw_S q1923 q1924 q62 q1925) rfl rfl rfl (by decide +kernel) ⟨Nat.le_of_ble_eq_true rfl, Nat.le_of_ble_eq_true rfl⟩) rfl hl.1 rfl (Nat.le_of_ble_eq_true rfl) dX2_markOf_50 ⟨Nat.zero_le _, Nat.zero_le _⟩ ?_
        refine lz_if_eq (tgt := 68) hx hb dX2_markOf_53 (by decide) (fun c_43 => absurd (c_27.symm.trans c_43) (by decide)) (fun c_43 => ?_)
        refine lv_bipush (v := 100) hx hb dX2_markOf_56 (by decide) ?_
        refine lv_aload_n hx hb dX2_markOf_58 rfl (lv_at hl 0 rfl) ?_
        refine lv_iload_n hx hb dX2_markOf_59 rfl (lv_at hl 1 rfl) ?_
        refine lv_iconst (v := 4) hx hb dX2_markOf_60 (by decide) ?_
        refine m_cQ (v := Z_42.2 43 (7 * c1 + 4)) (As := [.int (nI c1), .int 4]) (rest := [.int 100, .int (Z_42.2 43 (7 * c1 + 2))]) X M (metX2_on l D cl hcl h ad dA Z_42.1 Z_42.2 c1 4 (by omega) (by omega)) (cwV 2 hts (lw_V q1832 q1834 qs45 q62 q1835) rfl rfl rfl (by decide +kernel) ⟨Nat.le_of_ble_eq_true rfl, Nat.le_of_ble_eq_true rfl⟩) rfl hl.1 rfl (Nat.le_of_ble_eq_true rfl) dX2_markOf_61 ⟨Nat.zero_le _, Nat.zero_le _⟩ ?_
        refine lv_imul hx hb dX2_markOf_64 ?_
        refine lv_goto (tgt := 69) hx hb dX2_markOf_65 (by decide) ?_
        refine lv_iadd hx hb dX2_markOf_69 ?_
        refine lv_istore_n (lv' := [(3, .int ((Z_42.2 43 (7 * c1 + 2)) + (100 * (Z_42.2 43 (7 * c1 + 4))))), (0, .ref h), (1, .int (nI c1)), (2, .int p2)]) hx hb dX2_markOf_70 rfl hl (by decide) rfl (fun ls hl => ?_)
        refine lv_iload_n hx hb dX2_markOf_71 rfl (lv_at hl 3 rfl) ?_
        refine lv_iconst (v := 3) hx hb dX2_markOf_72 (by decide) ?_
        refine lv_icmp_ne (tgt := 87) hx hb dX2_markOf_73 (by decide) (fun c_44 => absurd c_1 c_44) (fun c_44 => ?_)
        refine lv_iload_n hx hb dX2_markOf_76 rfl (lv_at hl 0 rfl) ?_
        refine lv_aload_n hx hb dX2_markOf_77 rfl (lv_at hl 1 rfl) ?_
        refine lv_iload_n hx hb dX2_markOf_78 rfl (lv_at hl 2 rfl) ?_
        refine lv_iconst (v := 3) hx hb dX2_markOf_79 (by decide) ?_
        refine m_cQ (v := Z_42.2 43 (7 * c1 + 3)) (As := [.int (nI c1), .int 3]) (rest := [.int ((Z_42.2 43 (7 * c1 + 2)) + (100 * (Z_42.2 43 (7 * c1 + 4))))]) X M (metX2_on l D cl hcl h ad dA Z_42.1 Z_42.2 c1 3 (by omega) (by omega)) (cwV 2 hts (lw_V q1832 q1834 qs45 q62 q1835) rfl rfl rfl (by decide +kernel) ⟨Nat.le_of_ble_eq_true rfl, Nat.le_of_ble_eq_true rfl⟩) rfl hl.1 rfl (Nat.le_of_ble_eq_true rfl) dX2_markOf_80 ⟨Nat.zero_le _, Nat.zero_le _⟩ ?_
        refine lv_iadd hx hb dX2_markOf_83 ?_
        refine lv_goto (tgt := 103) hx hb dX2_markOf_84 (by decide) ?_
        exact W.iret (v := ((Z_42.2 43 (7 * c1 + 2)) + (100 * (Z_42.2 43 (7 * c1 + 4)))) + (Z_42.2 43 (7 * c1 + 3))) hx hb hr (fun t9 ht9 hW9 => ⟨⟨_, (Z_42.1, Z_42.2), rfl, (by first | (simp [m_markOf, m_markU, m_markV, m_bgIf, c_1, ← eZ_26, c_27, ← eZ_36, c_37, ← eZ_41, ← eZ_42, up_s, up_n, nI_1, b2i]; done) | (simp [m_markOf, m_markU, m_markV, m_bgIf, c_1, eZ_26, c_27, eZ_36, c_37, eZ_41, eZ_42, up_s, up_n, nI_1, b2i]; done) | (simp_all [m_markOf, m_markU, m_markV, m_bgIf]; done) | grind [m_markOf, m_markU, m_markV, m_bgIf]), by show va_P _ _ _ t9.heap; rw [ht9]; exact M.1⟩, M.2.2.F ht9⟩) M.2.2.2.2 dX2_markOf_103

def m_sizeU (u : mST) (kind : Int32) : mST := m_began (m_bgIf (decide (kind = 1)) (m_bgIf (m_isOf kind 2) (m_bgIf (decide (kind = 3)) u 13) 12) 11).1 (m_bgIf (decide (kind = 1)) (m_bgIf (m_isOf kind 2) (m_bgIf (decide (kind = 3)) u 13) 12) 11).2 10
def m_sizeW (u : mST) (p : Nat) (kind : Int32) : Int32 × mST := if kind = 1 then (2 * (u.2 43 (7 * p + 6) - u.2 43 (7 * p + 5)), u) else if m_isOf kind 2 = true then ((u.2 43 (7 * p + 6) - u.2 43 (7 * p + 5)) + (m_markOf u.1 u.2 p kind).1, (m_markOf u.1 u.2 p kind).2) else (u.2 43 (7 * p + 6) - u.2 43 (7 * p + 5), u)
def m_sizeOf (F : Nat → Int32) (Rr : Nat → Nat → Int32) (p : Nat) (kind : Int32) : Int32 × mST := if kind = 4 then m_nightSize F Rr p else if kind = 3 then (-(m_sizeW (m_sizeU (F, Rr) kind) p kind).1, (m_sizeW (m_sizeU (F, Rr) kind) p kind).2) else m_sizeW (m_sizeU (F, Rr) kind) p kind
set_option maxHeartbeats 4000000 in
set_option maxRecDepth 100000 in
theorem metX2_sizeOf (l : Launch) (D : va_G) (cl : List vw_C) (hcl : cl[0]? = some (RX2, TX2, 61)) (h : Nat) (ad : Nat → Nat) (dA : ClassId) (F : Nat → Int32) (Rr : Nat → Nat → Int32) (c1 : Nat) (p2 : Int32) (hc1 : c1 < 16) (h60 : cnB (F 60) 16) : Met l yX2_sizeOf (ws_ yX2_sizeOf cX2_sizeOf 4 (some .int)) ({ frames := 3, cells := 0, slots := 0, locals := 66 } : Room) (va_Pc [.ref h, .int (nI c1), .int p2] (mPre D cl h ad dA F Rr)) (va_Qi (fun r u => (r, u) = m_sizeOf F Rr c1 p2) (mB D cl h ad dA) (mN h ad)) 0 0 (mN h ad) := by
  refine Met.ofW (cc := cX2_sizeOf) (maxL := 4) (ret := (some .int)) (by decide) rfl ?_
  intro p e s m args below meth c s₁ B hml hv
  obtain ⟨rfl, hK, hP, hD⟩ := hv
  have hx := B.exec
  have hb := B.bytes
  have hr := B.returns
  have hts := atoms_spec (ws := (ws_ yX2_sizeOf cX2_sizeOf 4 (some .int))) B.pre
  have hts : ∀ w ∈ lw_all, w.before _ s = true := fun w h => hts w (List.mem_cons_of_mem _ h)
  have hown : s.vm.findClass RX2 = some m.cls := findClass_of_methodNamed B.named
  have hlocks := B.notSynchronized
  have S : CallFix p m c cX2_sizeOf 4 s ([.ref h, .int (nI c1), .int p2] : List Value).toArray lw_all RX2 := ⟨hx, hb, hml, hown, hts⟩
  have X : mX p s m ([.ref h, .int (nI c1), .int p2] : List Value).toArray c cX2_sizeOf 4 D cl dA := ⟨hx, hb, hml, hown, hts, hK, hcl⟩
  have M : mM D cl h ad dA (mN h ad) s F Rr s.heap [] := ⟨hP, mW_self hD, va_S.rf⟩
  have hl := lv_entry ([.ref h, .int (nI c1), .int p2]) (n := 4) (Nat.le_of_ble_eq_true rfl)
  rw [lg_entry_eq]
  generalize (lg_sl ([.ref h, .int (nI c1), .int p2]) ++ List.replicate (4 - (lg_sl ([.ref h, .int (nI c1), .int p2])).length) Slot.unset).toArray = ls at hl ⊢
  have hl : lv_has ls 4 [(0, .ref h), (1, .int (nI c1)), (2, .int p2)] := hl
  refine lv_iload_n hx hb dX2_sizeOf_0 rfl (lv_at hl 2 rfl) ?_
  refine lv_iconst (v := 4) hx hb dX2_sizeOf_1 (by decide) ?_
  refine lv_icmp_ne (tgt := 11) hx hb dX2_sizeOf_2 (by decide) (fun c_1 => ?_) (fun c_1 => ?_)
  · -- c_1: p2 ≠ 4
    refine lv_iload_n hx hb dX2_sizeOf_11 rfl (lv_at hl 2 rfl) ?_
    refine lv_iconst (v := 3) hx hb dX2_sizeOf_12 (by decide) ?_
    refine lv_icmp_ne (tgt := 22) hx hb dX2_sizeOf_13 (by decide) (fun c_2 => ?_) (fun c_2 => ?_)
    · -- c_2: p2 ≠ 3
      refine lv_iload_n hx hb dX2_sizeOf_22 rfl (lv_at hl 2 rfl) ?_
      refine lv_iconst (v := 2) hx hb dX2_sizeOf_23 (by decide) ?_
      refine s_cI (v := b2i (m_isOf p2 2)) (As := [.int p2, .int 2]) (rest := []) S (metX2_isOf l p2 2) (va_cwS 2 hts (lw_S q1923 q1924 q62 q1925) rfl rfl rfl (by decide +kernel) ⟨Nat.le_of_ble_eq_true rfl, Nat.le_of_ble_eq_true rfl⟩) rfl hl.1 rfl (Nat.le_of_ble_eq_true rfl) dX2_sizeOf_24 ⟨Nat.zero_le _, Nat.zero_le _⟩ ?_
      refine lz_if_eq (tgt := 36) hx hb dX2_sizeOf_27 (by decide) (fun c_3 => ?_) (fun c_3 => ?_)
      · -- c_3: m_isOf p2 2 = false
        refine lv_iload_n hx hb dX2_sizeOf_36 rfl (lv_at hl 2 rfl) ?_
        refine lv_iconst (v := 1) hx hb dX2_sizeOf_37 (by decide) ?_
        refine lv_icmp_ne (tgt := 47) hx hb dX2_sizeOf_38 (by decide) (fun c_4 => ?_) (fun c_4 => ?_)
        · -- c_4: p2 ≠ 1
          refine lv_aload_n hx hb dX2_sizeOf_47 rfl (lv_at hl 0 rfl) ?_
          refine lv_bipush (v := 10) hx hb dX2_sizeOf_48 (by decide) ?_
          refine m_cUv (As := [.int 10]) (rest := []) X M (metX2_began l D cl hcl h ad dA F Rr 10 h60) (cwV 1 hts (lw_V q1938 q1940 qs54 q62 q1941) rfl rfl rfl (by decide +kernel) ⟨Nat.le_of_ble_eq_true rfl, Nat.le_of_ble_eq_true rfl⟩) rfl hl.1 rfl (Nat.le_of_ble_eq_true rfl) dX2_sizeOf_50 ⟨Nat.zero_le _, Nat.zero_le _⟩ (fun F9 R9 hr9 H locs M => ?_)
          obtain ⟨Z_5, eZ_5⟩ : ∃ z, z = m_began F Rr 10 := ⟨_, rfl⟩
          rw [← eZ_5] at hr9
          obtain ⟨rfl, rfl⟩ : F9 = Z_5.1 ∧ R9 = Z_5.2 := ⟨congrArg Prod.fst hr9, congrArg Prod.snd hr9⟩
          have h60Z_5 : cnB (Z_5.1 60) 16 := by rw [eZ_5]; exact m_began_60 h60
          refine lv_aload_n hx hb dX2_sizeOf_53 rfl (lv_at hl 0 rfl) ?_
          refine lv_iload_n hx hb dX2_sizeOf_54 rfl (lv_at hl 1 rfl) ?_
          refine lv_bipush (v := 6) hx hb dX2_sizeOf_55 (by decide) ?_
          refine m_cQ (v := Z_5.2 43 (7 * c1 + 6)) (As := [.int (nI c1), .int 6]) (rest := []) X M (metX2_on l D cl hcl h ad dA Z_5.1 Z_5.2 c1 6 (by omega) (by omega)) (cwV 2 hts (lw_V q1832 q1834 qs45 q62 q1835) rfl rfl rfl (by decide +kernel) ⟨Nat.le_of_ble_eq_true rfl, Nat.le_of_ble_eq_true rfl⟩) rfl hl.1 rfl (Nat.le_of_ble_eq_true rfl) dX2_sizeOf_57 ⟨Nat.zero_le _, Nat.zero_le _⟩ ?_
          refine lv_aload_n hx hb dX2_sizeOf_60 rfl (lv_at hl 0 rfl) ?_
          refine lv_iload_n hx hb dX2_sizeOf_61 rfl (lv_at hl 1 rfl) ?_
          refine lv_iconst (v := 5) hx hb dX2_sizeOf_62 (by decide) ?_
          refine m_cQ (v := Z_5.2 43 (7 * c1 + 5)) (As := [.int (nI c1), .int 5]) (rest := [.int (Z_5.2 43 (7 * c1 + 6))]) X M (metX2_on l D cl hcl h ad dA Z_5.1 Z_5.2 c1 5 (by omega) (by omega)) (cwV 2 hts (lw_V q1832 q1834 qs45 q62 q1835) rfl rfl rfl (by decide +kernel) ⟨Nat.le_of_ble_eq_true rfl, Nat.le_of_ble_eq_true rfl⟩) rfl hl.1 rfl (Nat.le_of_ble_eq_true rfl) dX2_sizeOf_63 ⟨Nat.zero_le _, Nat.zero_le _⟩ ?_
          refine lv_isub hx hb dX2_sizeOf_66 ?_
          refine lv_istore_n (lv' := [(3, .int ((Z_5.2 43 (7 * c1 + 6)) - (Z_5.2 43 (7 * c1 + 5)))), (0, .ref h), (1, .int (nI c1)), (2, .int p2)]) hx hb dX2_sizeOf_67 rfl hl (by decide) rfl (fun ls hl => ?_)
          refine lv_iload_n hx hb dX2_sizeOf_68 rfl (lv_at hl 3 rfl) ?_
          refine lv_iconst (v := 1) hx hb dX2_sizeOf_69 (by decide) ?_
          refine lv_icmp_ne (tgt := 79) hx hb dX2_sizeOf_70 (by decide) (fun c_6 => ?_) (fun c_6 => absurd c_6 c_4)
          refine lv_iload_n hx hb dX2_sizeOf_79 rfl (lv_at hl 3 rfl) ?_
          refine lv_iconst (v := 2) hx hb dX2_sizeOf_80 (by decide) ?_
          refine s_cI (v := b2i (m_isOf p2 2)) (As := [.int p2, .int 2]) (rest := []) S (metX2_isOf l p2 2) (va_cwS 2 hts (lw_S q1923 q1924 q62 q1925) rfl rfl rfl (by decide +kernel) ⟨Nat.le_of_ble_eq_true rfl, Nat.le_of_ble_eq_true rfl⟩) rfl hl.1 rfl (Nat.le_of_ble_eq_true rfl) dX2_sizeOf_81 ⟨Nat.zero_le _, Nat.zero_le _⟩ ?_
          refine lz_if_eq (tgt := 98) hx hb dX2_sizeOf_84 (by decide) (fun c_7 => ?_) (fun c_7 => absurd (c_3.symm.trans c_7) (by decide))
          refine lv_iload_n hx hb dX2_sizeOf_98 rfl (lv_at hl 0 rfl) ?_
          refine lv_istore_n (lv' := [(3, .int ((Z_5.2 43 (7 * c1 + 6)) - (Z_5.2 43 (7 * c1 + 5)))), (0, .ref h), (1, .int (nI c1)), (2, .int p2)]) hx hb dX2_sizeOf_99 rfl hl (by decide) rfl (fun ls hl => ?_)
          refine lv_iload_n hx hb dX2_sizeOf_100 rfl (lv_at hl 3 rfl) ?_
          refine lv_iconst (v := 3) hx hb dX2_sizeOf_101 (by decide) ?_
          refine lv_icmp_ne (tgt := 110) hx hb dX2_sizeOf_102 (by decide) (fun c_8 => ?_) (fun c_8 => absurd c_8 c_2)
          refine lv_iload_n hx hb dX2_sizeOf_110 rfl (lv_at hl 0 rfl) ?_
          exact W.iret (v := (Z_5.2 43 (7 * c1 + 6)) - (Z_5.2 43 (7 * c1 + 5))) hx hb hr (fun t9 ht9 hW9 => ⟨⟨_, (Z_5.1, Z_5.2), rfl, (by first | (simp [m_sizeOf, m_sizeU, m_sizeW, m_bgIf, c_1, c_2, c_3, c_4, ← eZ_5, up_s, up_n, nI_1, b2i]; done) | (simp [m_sizeOf, m_sizeU, m_sizeW, m_bgIf, c_1, c_2, c_3, c_4, eZ_5, up_s, up_n, nI_1, b2i]; done) | (simp_all [m_sizeOf, m_sizeU, m_sizeW, m_bgIf]; done) | grind [m_sizeOf, m_sizeU, m_sizeW, m_bgIf]), by show va_P _ _ _ t9.heap; rw [ht9]; exact M.1⟩, M.2.2.F ht9⟩) M.2.2.2.2 dX2_sizeOf_111
        · -- c_4: p2 = 1
          refine lv_aload_n hx hb dX2_sizeOf_41 rfl (lv_at hl 0 rfl) ?_
          refine lv_bipush (v := 11) hx hb dX2_sizeOf_42 (by decide) ?_
          refine m_cUv (As := [.int 11]) (rest := []) X M (metX2_began l D cl hcl h ad dA F Rr 11 h60) (cwV 1 hts (lw_V q1938 q1940 qs54 q62 q1941) rfl rfl rfl (by decide +kernel) ⟨Nat.le_of_ble_eq_true rfl, Nat.le_of_ble_eq_true rfl⟩) rfl hl.1 rfl (Nat.le_of_ble_eq_true rfl) dX2_sizeOf_44 ⟨Nat.zero_le _, Nat.zero_le _⟩ (fun F9 R9 hr9 H locs M => ?_)
          obtain ⟨Z_9, eZ_9⟩ : ∃ z, z = m_began F Rr 11 := ⟨_, rfl⟩
          rw [← eZ_9] at hr9
          obtain ⟨rfl, rfl⟩ : F9 = Z_9.1 ∧ R9 = Z_9.2 := ⟨congrArg Prod.fst hr9, congrArg Prod.snd hr9⟩
          have h60Z_9 : cnB (Z_9.1 60) 16 := by rw [eZ_9]; exact m_began_60 h60
          refine lv_aload_n hx hb dX2_sizeOf_47 rfl (lv_at hl 0 rfl) ?_
          refine lv_bipush (v := 10) hx hb dX2_sizeOf_48 (by decide) ?_
          refine m_cUv (As := [.int 10]) (rest := []) X M (metX2_began l D cl hcl h ad dA Z_9.1 Z_9.2 10 h60Z_9) (cwV 1 hts (lw_V q1938 q1940 qs54 q62 q1941) rfl rfl rfl (by decide +kernel) ⟨Nat.le_of_ble_eq_true rfl, Nat.le_of_ble_eq_true rfl⟩) rfl hl.1 rfl (Nat.le_of_ble_eq_true rfl) dX2_sizeOf_50 ⟨Nat.zero_le _, Nat.zero_le _⟩ (fun F9 R9 hr9 H locs M => ?_)
          obtain ⟨Z_10, eZ_10⟩ : ∃ z, z = m_began Z_9.1 Z_9.2 10 := ⟨_, rfl⟩
          rw [← eZ_10] at hr9
          obtain ⟨rfl, rfl⟩ : F9 = Z_10.1 ∧ R9 = Z_10.2 := ⟨congrArg Prod.fst hr9, congrArg Prod.snd hr9⟩
          have h60Z_10 : cnB (Z_10.1 60) 16 := by rw [eZ_10]; exact m_began_60 h60Z_9
          refine lv_aload_n hx hb dX2_sizeOf_53 rfl (lv_at hl 0 rfl) ?_
          refine lv_iload_n hx hb dX2_sizeOf_54 rfl (lv_at hl 1 rfl) ?_
          refine lv_bipush (v := 6) hx hb dX2_sizeOf_55 (by decide) ?_
          refine m_cQ (v := Z_10.2 43 (7 * c1 + 6)) (As := [.int (nI c1), .int 6]) (rest := []) X M (metX2_on l D cl hcl h ad dA Z_10.1 Z_10.2 c1 6 (by omega) (by omega)) (cwV 2 hts (lw_V q1832 q1834 qs45 q62 q1835) rfl rfl rfl (by decide +kernel) ⟨Nat.le_of_ble_eq_true rfl, Nat.le_of_ble_eq_true rfl⟩) rfl hl.1 rfl (Nat.le_of_ble_eq_true rfl) dX2_sizeOf_57 ⟨Nat.zero_le _, Nat.zero_le _⟩ ?_
          refine lv_aload_n hx hb dX2_sizeOf_60 rfl (lv_at hl 0 rfl) ?_
          refine lv_iload_n hx hb dX2_sizeOf_61 rfl (lv_at hl 1 rfl) ?_
          refine lv_iconst (v := 5) hx hb dX2_sizeOf_62 (by decide) ?_
          refine m_cQ (v := Z_10.2 43 (7 * c1 + 5)) (As := [.int (nI c1), .int 5]) (rest := [.int (Z_10.2 43 (7 * c1 + 6))]) X M (metX2_on l D cl hcl h ad dA Z_10.1 Z_10.2 c1 5 (by omega) (by omega)) (cwV 2 hts (lw_V q1832 q1834 qs45 q62 q1835) rfl rfl rfl (by decide +kernel) ⟨Nat.le_of_ble_eq_true rfl, Nat.le_of_ble_eq_true rfl⟩) rfl hl.1 rfl (Nat.le_of_ble_eq_true rfl) dX2_sizeOf_63 ⟨Nat.zero_le _, Nat.zero_le _⟩ ?_
          refine lv_isub hx hb dX2_sizeOf_66 ?_
          refine lv_istore_n (lv' := [(3, .int ((Z_10.2 43 (7 * c1 + 6)) - (Z_10.2 43 (7 * c1 + 5)))), (0, .ref h), (1, .int (nI c1)), (2, .int p2)]) hx hb dX2_sizeOf_67 rfl hl (by decide) rfl (fun ls hl => ?_)
          refine lv_iload_n hx hb dX2_sizeOf_68 rfl (lv_at hl 3 rfl) ?_
          refine lv_iconst (v := 1) hx hb dX2_sizeOf_69 (by decide) ?_
          refine lv_icmp_ne (tgt := 79) hx hb dX2_sizeOf_70 (by decide) (fun c_11 => absurd c_4 c_11) (fun c_11 => ?_)
          refine lv_iconst (v := 2) hx hb dX2_sizeOf_73 (by decide) ?_
          refine lv_iload_n hx hb dX2_sizeOf_74 rfl (lv_at hl 0 rfl) ?_
          refine lv_imul hx hb dX2_sizeOf_75 ?_
          refine lv_goto (tgt := 99) hx hb dX2_sizeOf_76 (by decide) ?_
          refine lv_istore_n (lv' := [(3, .int (2 * ((Z_10.2 43 (7 * c1 + 6)) - (Z_10.2 43 (7 * c1 + 5))))), (0, .ref h), (1, .int (nI c1)), (2, .int p2)]) hx hb dX2_sizeOf_99 rfl hl (by decide) rfl (fun ls hl => ?_)
          refine lv_iload_n hx hb dX2_sizeOf_100 rfl (lv_at hl 3 rfl) ?_
          refine lv_iconst (v := 3) hx hb dX2_sizeOf_101 (by decide) ?_
          refine lv_icmp_ne (tgt := 110) hx hb dX2_sizeOf_102 (by decide) (fun c_12 => ?_) (fun c_12 => absurd c_12 c_2)
          refine lv_iload_n hx hb dX2_sizeOf_110 rfl (lv_at hl 0 rfl) ?_
          exact W.iret (v := 2 * ((Z_10.2 43 (7 * c1 + 6)) - (Z_10.2 43 (7 * c1 + 5)))) hx hb hr (fun t9 ht9 hW9 => ⟨⟨_, (Z_10.1, Z_10.2), rfl, (by first | (simp [m_sizeOf, m_sizeU, m_sizeW, m_bgIf, c_1, c_2, c_3, c_4, ← eZ_9, ← eZ_10, up_s, up_n, nI_1, b2i]; done) | (simp [m_sizeOf, m_sizeU, m_sizeW, m_bgIf, c_1, c_2, c_3, c_4, eZ_9, eZ_10, up_s, up_n, nI_1, b2i]; done) | (simp_all [m_sizeOf, m_sizeU, m_sizeW, m_bgIf]; done) | grind [m_sizeOf, m_sizeU, m_sizeW, m_bgIf]), by show va_P _ _ _ t9.heap; rw [ht9]; exact M.1⟩, M.2.2.F ht9⟩) M.2.2.2.2 dX2_sizeOf_111
      · -- c_3: m_isOf p2 2 = true
        refine lv_aload_n hx hb dX2_sizeOf_30 rfl (lv_at hl 0 rfl) ?_
        refine lv_bipush (v := 12) hx hb dX2_sizeOf_31 (by decide) ?_
        refine m_cUv (As := [.int 12]) (rest := []) X M (metX2_began l D cl hcl h ad dA F Rr 12 h60) (cwV 1 hts (lw_V q1938 q1940 qs54 q62 q1941) rfl rfl rfl (by decide +kernel) ⟨Nat.le_of_ble_eq_true rfl, Nat.le_of_ble_eq_true rfl⟩) rfl hl.1 rfl (Nat.le_of_ble_eq_true rfl) dX2_sizeOf_33 ⟨Nat.zero_le _, Nat.zero_le _⟩ (fun F9 R9 hr9 H locs M => ?_)
        obtain ⟨Z_13, eZ_13⟩ : ∃ z, z = m_began F Rr 12 := ⟨_, rfl⟩
        rw [← eZ_13] at hr9
        obtain ⟨rfl, rfl⟩ : F9 = Z_13.1 ∧ R9 = Z_13.2 := ⟨congrArg Prod.fst hr9, congrArg Prod.snd hr9⟩
        have h60Z_13 : cnB (Z_13.1 60) 16 := by rw [eZ_13]; exact m_began_60 h60
        refine lv_iload_n hx hb dX2_sizeOf_36 rfl (lv_at hl 2 rfl) ?_
        refine lv_iconst (v := 1) hx hb dX2_sizeOf_37 (by decide) ?_
        refine lv_icmp_ne (tgt := 47) hx hb dX2_sizeOf_38 (by decide) (fun c_14 => ?_) (fun c_14 => ?_)
        · -- c_14: p2 ≠ 1
          refine lv_aload_n hx hb dX2_sizeOf_47 rfl (lv_at hl 0 rfl) ?_
          refine lv_bipush (v := 10) hx hb dX2_sizeOf_48 (by decide) ?_
          refine m_cUv (As := [.int 10]) (rest := []) X M (metX2_began l D cl hcl h ad dA Z_13.1 Z_13.2 10 h60Z_13) (cwV 1 hts (lw_V q1938 q1940 qs54 q62 q1941) rfl rfl rfl (by decide +kernel) ⟨Nat.le_of_ble_eq_true rfl, Nat.le_of_ble_eq_true rfl⟩) rfl hl.1 rfl (Nat.le_of_ble_eq_true rfl) dX2_sizeOf_50 ⟨Nat.zero_le _, Nat.zero_le _⟩ (fun F9 R9 hr9 H locs M => ?_)
          obtain ⟨Z_15, eZ_15⟩ : ∃ z, z = m_began Z_13.1 Z_13.2 10 := ⟨_, rfl⟩
          rw [← eZ_15] at hr9
          obtain ⟨rfl, rfl⟩ : F9 = Z_15.1 ∧ R9 = Z_15.2 := ⟨congrArg Prod.fst hr9, congrArg Prod.snd hr9⟩
          have h60Z_15 : cnB (Z_15.1 60) 16 := by rw [eZ_15]; exact m_began_60 h60Z_13
          refine lv_aload_n hx hb dX2_sizeOf_53 rfl (lv_at hl 0 rfl) ?_
          refine lv_iload_n hx hb dX2_sizeOf_54 rfl (lv_at hl 1 rfl) ?_
          refine lv_bipush (v := 6) hx hb dX2_sizeOf_55 (by decide) ?_
          refine m_cQ (v := Z_15.2 43 (7 * c1 + 6)) (As := [.int (nI c1), .int 6]) (rest := []) X M (metX2_on l D cl hcl h ad dA Z_15.1 Z_15.2 c1 6 (by omega) (by omega)) (cwV 2 hts (lw_V q1832 q1834 qs45 q62 q1835) rfl rfl rfl (by decide +kernel) ⟨Nat.le_of_ble_eq_true rfl, Nat.le_of_ble_eq_true rfl⟩) rfl hl.1 rfl (Nat.le_of_ble_eq_true rfl) dX2_sizeOf_57 ⟨Nat.zero_le _, Nat.zero_le _⟩ ?_
          refine lv_aload_n hx hb dX2_sizeOf_60 rfl (lv_at hl 0 rfl) ?_
          refine lv_iload_n hx hb dX2_sizeOf_61 rfl (lv_at hl 1 rfl) ?_
          refine lv_iconst (v := 5) hx hb dX2_sizeOf_62 (by decide) ?_
          refine m_cQ (v := Z_15.2 43 (7 * c1 + 5)) (As := [.int (nI c1), .int 5]) (rest := [.int (Z_15.2 43 (7 * c1 + 6))]) X M (metX2_on l D cl hcl h ad dA Z_15.1 Z_15.2 c1 5 (by omega) (by omega)) (cwV 2 hts (lw_V q1832 q1834 qs45 q62 q1835) rfl rfl rfl (by decide +kernel) ⟨Nat.le_of_ble_eq_true rfl, Nat.le_of_ble_eq_true rfl⟩) rfl hl.1 rfl (Nat.le_of_ble_eq_true rfl) dX2_sizeOf_63 ⟨Nat.zero_le _, Nat.zero_le _⟩ ?_
          refine lv_isub hx hb dX2_sizeOf_66 ?_
          refine lv_istore_n (lv' := [(3, .int ((Z_15.2 43 (7 * c1 + 6)) - (Z_15.2 43 (7 * c1 + 5)))), (0, .ref h), (1, .int (nI c1)), (2, .int p2)]) hx hb dX2_sizeOf_67 rfl hl (by decide) rfl (fun ls hl => ?_)
          refine lv_iload_n hx hb dX2_sizeOf_68 rfl (lv_at hl 3 rfl) ?_
          refine lv_iconst (v := 1) hx hb dX2_sizeOf_69 (by decide) ?_
          refine lv_icmp_ne (tgt := 79) hx hb dX2_sizeOf_70 (by decide) (fun c_16 => ?_) (fun c_16 => absurd c_16 c_14)
          refine lv_iload_n hx hb dX2_sizeOf_79 rfl (lv_at hl 3 rfl) ?_
          refine lv_iconst (v := 2) hx hb dX2_sizeOf_80 (by decide) ?_
          refine s_cI (v := b2i (m_isOf p2 2)) (As := [.int p2, .int 2]) (rest := []) S (metX2_isOf l p2 2) (va_cwS 2 hts (lw_S q1923 q1924 q62 q1925) rfl rfl rfl (by decide +kernel) ⟨Nat.le_of_ble_eq_true rfl, Nat.le_of_ble_eq_true rfl⟩) rfl hl.1 rfl (Nat.le_of_ble_eq_true rfl) dX2_sizeOf_81 ⟨Nat.zero_le _, Nat.zero_le _⟩ ?_
          refine lz_if_eq (tgt := 98) hx hb dX2_sizeOf_84 (by decide) (fun c_17 => absurd (c_3.symm.trans c_17) (by decide)) (fun c_17 => ?_)
          refine lv_iload_n hx hb dX2_sizeOf_87 rfl (lv_at hl 0 rfl) ?_
          refine lv_aload_n hx hb dX2_sizeOf_88 rfl (lv_at hl 1 rfl) ?_
          refine lv_iload_n hx hb dX2_sizeOf_89 rfl (lv_at hl 2 rfl) ?_
          refine lv_iload_n hx hb dX2_sizeOf_90 rfl (lv_at hl 3 rfl) ?_
          refine m_cU (As := [.int (nI c1), .int p2]) (rest := [.int ((Z_15.2 43 (7 * c1 + 6)) - (Z_15.2 43 (7 * c1 + 5)))]) X M (metX2_markOf l D cl hcl h ad dA Z_15.1 Z_15.2 c1 p2 (by omega) h60Z_15) (cwV 2 hts (lw_V q1942 q1944 qs55 q62 q1945) rfl rfl rfl (by decide +kernel) ⟨Nat.le_of_ble_eq_true rfl, Nat.le_of_ble_eq_true rfl⟩) rfl hl.1 rfl (Nat.le_of_ble_eq_true rfl) dX2_sizeOf_91 ⟨Nat.zero_le _, Nat.zero_le _⟩ (fun r9 F9 R9 hr9 H locs M => ?_)
          obtain ⟨Z_18, eZ_18⟩ : ∃ z, z = m_markOf Z_15.1 Z_15.2 c1 p2 := ⟨_, rfl⟩
          rw [← eZ_18] at hr9
          obtain ⟨rfl, rfl, rfl⟩ : r9 = Z_18.1 ∧ F9 = Z_18.2.1 ∧ R9 = Z_18.2.2 := ⟨congrArg Prod.fst hr9, congrArg (fun z => z.2.1) hr9, congrArg (fun z => z.2.2) hr9⟩
          refine lv_iadd hx hb dX2_sizeOf_94 ?_
          refine lv_goto (tgt := 99) hx hb dX2_sizeOf_95 (by decide) ?_
          refine lv_istore_n (lv' := [(3, .int (((Z_15.2 43 (7 * c1 + 6)) - (Z_15.2 43 (7 * c1 + 5))) + Z_18.1)), (0, .ref h), (1, .int (nI c1)), (2, .int p2)]) hx hb dX2_sizeOf_99 rfl hl (by decide) rfl (fun ls hl => ?_)
          refine lv_iload_n hx hb dX2_sizeOf_100 rfl (lv_at hl 3 rfl) ?_
          refine lv_iconst (v := 3) hx hb dX2_sizeOf_101 (by decide) ?_
          refine lv_icmp_ne (tgt := 110) hx hb dX2_sizeOf_102 (by decide) (fun c_19 => ?_) (fun c_19 => absurd c_19 c_2)
          refine lv_iload_n hx hb dX2_sizeOf_110 rfl (lv_at hl 0 rfl) ?_
          exact W.iret (v := ((Z_15.2 43 (7 * c1 + 6)) - (Z_15.2 43 (7 * c1 + 5))) + Z_18.1) hx hb hr (fun t9 ht9 hW9 => ⟨⟨_, (Z_18.2.1, Z_18.2.2), rfl, (by first | (simp [m_sizeOf, m_sizeU, m_sizeW, m_bgIf, c_1, c_2, c_3, ← eZ_13, c_14, ← eZ_15, ← eZ_18, up_s, up_n, nI_1, b2i]; done) | (simp [m_sizeOf, m_sizeU, m_sizeW, m_bgIf, c_1, c_2, c_3, eZ_13, c_14, eZ_15, eZ_18, up_s, up_n, nI_1, b2i]; done) | (simp_all [m_sizeOf, m_sizeU, m_sizeW, m_bgIf]; done) | grind [m_sizeOf, m_sizeU, m_sizeW, m_bgIf]), by show va_P _ _ _ t9.heap; rw [ht9]; exact M.1⟩, M.2.2.F ht9⟩) M.2.2.2.2 dX2_sizeOf_111
        · -- c_14: p2 = 1
          refine lv_aload_n hx hb dX2_sizeOf_41 rfl (lv_at hl 0 rfl) ?_
          refine lv_bipush (v := 11) hx hb dX2_sizeOf_42 (by decide) ?_
          refine m_cUv (As := [.int 11]) (rest := []) X M (metX2_began l D cl hcl h ad dA Z_13.1 Z_13.2 11 h60Z_13) (cwV 1 hts (lw_V q1938 q1940 qs54 q62 q1941) rfl rfl rfl (by decide +kernel) ⟨Nat.le_of_ble_eq_true rfl, Nat.le_of_ble_eq_true rfl⟩) rfl hl.1 rfl (Nat.le_of_ble_eq_true rfl) dX2_sizeOf_44 ⟨Nat.zero_le _, Nat.zero_le _⟩ (fun F9 R9 hr9 H locs M => ?_)
          obtain ⟨Z_20, eZ_20⟩ : ∃ z, z = m_began Z_13.1 Z_13.2 11 := ⟨_, rfl⟩
          rw [← eZ_20] at hr9
          obtain ⟨rfl, rfl⟩ : F9 = Z_20.1 ∧ R9 = Z_20.2 := ⟨congrArg Prod.fst hr9, congrArg Prod.snd hr9⟩
          have h60Z_20 : cnB (Z_20.1 60) 16 := by rw [eZ_20]; exact m_began_60 h60Z_13
          refine lv_aload_n hx hb dX2_sizeOf_47 rfl (lv_at hl 0 rfl) ?_
          refine lv_bipush (v := 10) hx hb dX2_sizeOf_48 (by decide) ?_
          refine m_cUv (As := [.int 10]) (rest := []) X M (metX2_began l D cl hcl h ad dA Z_20.1 Z_20.2 10 h60Z_20) (cwV 1 hts (lw_V q1938 q1940 qs54 q62 q1941) rfl rfl rfl (by decide +kernel) ⟨Nat.le_of_ble_eq_true rfl, Nat.le_of_ble_eq_true rfl⟩) rfl hl.1 rfl (Nat.le_of_ble_eq_true rfl) dX2_sizeOf_50 ⟨Nat.zero_le _, Nat.zero_le _⟩ (fun F9 R9 hr9 H locs M => ?_)
          obtain ⟨Z_21, eZ_21⟩ : ∃ z, z = m_began Z_20.1 Z_20.2 10 := ⟨_, rfl⟩
          rw [← eZ_21] at hr9
          obtain ⟨rfl, rfl⟩ : F9 = Z_21.1 ∧ R9 = Z_21.2 := ⟨congrArg Prod.fst hr9, congrArg Prod.snd hr9⟩
          have h60Z_21 : cnB (Z_21.1 60) 16 := by rw [eZ_21]; exact m_began_60 h60Z_20
          refine lv_aload_n hx hb dX2_sizeOf_53 rfl (lv_at hl 0 rfl) ?_
          refine lv_iload_n hx hb dX2_sizeOf_54 rfl (lv_at hl 1 rfl) ?_
          refine lv_bipush (v := 6) hx hb dX2_sizeOf_55 (by decide) ?_
          refine m_cQ (v := Z_21.2 43 (7 * c1 + 6)) (As := [.int (nI c1), .int 6]) (rest := []) X M (metX2_on l D cl hcl h ad dA Z_21.1 Z_21.2 c1 6 (by omega) (by omega)) (cwV 2 hts (lw_V q1832 q1834 qs45 q62 q1835) rfl rfl rfl (by decide +kernel) ⟨Nat.le_of_ble_eq_true rfl, Nat.le_of_ble_eq_true rfl⟩) rfl hl.1 rfl (Nat.le_of_ble_eq_true rfl) dX2_sizeOf_57 ⟨Nat.zero_le _, Nat.zero_le _⟩ ?_
          refine lv_aload_n hx hb dX2_sizeOf_60 rfl (lv_at hl 0 rfl) ?_
          refine lv_iload_n hx hb dX2_sizeOf_61 rfl (lv_at hl 1 rfl) ?_
          refine lv_iconst (v := 5) hx hb dX2_sizeOf_62 (by decide) ?_
          refine m_cQ (v := Z_21.2 43 (7 * c1 + 5)) (As := [.int (nI c1), .int 5]) (rest := [.int (Z_21.2 43 (7 * c1 + 6))]) X M (metX2_on l D cl hcl h ad dA Z_21.1 Z_21.2 c1 5 (by omega) (by omega)) (cwV 2 hts (lw_V q1832 q1834 qs45 q62 q1835) rfl rfl rfl (by decide +kernel) ⟨Nat.le_of_ble_eq_true rfl, Nat.le_of_ble_eq_true rfl⟩) rfl hl.1 rfl (Nat.le_of_ble_eq_true rfl) dX2_sizeOf_63 ⟨Nat.zero_le _, Nat.zero_le _⟩ ?_
          refine lv_isub hx hb dX2_sizeOf_66 ?_
          refine lv_istore_n (lv' := [(3, .int ((Z_21.2 43 (7 * c1 + 6)) - (Z_21.2 43 (7 * c1 + 5)))), (0, .ref h), (1, .int (nI c1)), (2, .int p2)]) hx hb dX2_sizeOf_67 rfl hl (by decide) rfl (fun ls hl => ?_)
          refine lv_iload_n hx hb dX2_sizeOf_68 rfl (lv_at hl 3 rfl) ?_
          refine lv_iconst (v := 1) hx hb dX2_sizeOf_69 (by decide) ?_
          refine lv_icmp_ne (tgt := 79) hx hb dX2_sizeOf_70 (by decide) (fun c_22 => absurd c_14 c_22) (fun c_22 => ?_)
          refine lv_iconst (v := 2) hx hb dX2_sizeOf_73 (by decide) ?_
          refine lv_iload_n hx hb dX2_sizeOf_74 rfl (lv_at hl 0 rfl) ?_
          refine lv_imul hx hb dX2_sizeOf_75 ?_
          refine lv_goto (tgt := 99) hx hb dX2_sizeOf_76 (by decide) ?_
          refine lv_istore_n (lv' := [(3, .int (2 * ((Z_21.2 43 (7 * c1 + 6)) - (Z_21.2 43 (7 * c1 + 5))))), (0, .ref h), (1, .int (nI c1)), (2, .int p2)]) hx hb dX2_sizeOf_99 rfl hl (by decide) rfl (fun ls hl => ?_)
          refine lv_iload_n hx hb dX2_sizeOf_100 rfl (lv_at hl 3 rfl) ?_
          refine lv_iconst (v := 3) hx hb dX2_sizeOf_101 (by decide) ?_
          refine lv_icmp_ne (tgt := 110) hx hb dX2_sizeOf_102 (by decide) (fun c_23 => ?_) (fun c_23 => absurd c_23 c_2)
          refine lv_iload_n hx hb dX2_sizeOf_110 rfl (lv_at hl 0 rfl) ?_
          exact W.iret (v := 2 * ((Z_21.2 43 (7 * c1 + 6)) - (Z_21.2 43 (7 * c1 + 5)))) hx hb hr (fun t9 ht9 hW9 => ⟨⟨_, (Z_21.1, Z_21.2), rfl, (by first | (simp [m_sizeOf, m_sizeU, m_sizeW, m_bgIf, c_1, c_2, c_3, ← eZ_13, c_14, ← eZ_20, ← eZ_21, up_s, up_n, nI_1, b2i]; done) | (simp [m_sizeOf, m_sizeU, m_sizeW, m_bgIf, c_1, c_2, c_3, eZ_13, c_14, eZ_20, eZ_21, up_s, up_n, nI_1, b2i]; done) | (simp_all [m_sizeOf, m_sizeU, m_sizeW, m_bgIf]; done) | grind [m_sizeOf, m_sizeU, m_sizeW, m_bgIf]), by show va_P _ _ _ t9.heap; rw [ht9]; exact M.1⟩, M.2.2.F ht9⟩) M.2.2.2.2 dX2_sizeOf_111
    · -- c_2: p2 = 3
      refine lv_aload_n hx hb dX2_sizeOf_16 rfl (lv_at hl 0 rfl) ?_
      refine lv_bipush (v := 13) hx hb dX2_sizeOf_17 (by decide) ?_
      refine m_cUv (As := [.int 13]) (rest := []) X M (metX2_began l D cl hcl h ad dA F Rr 13 h60) (cwV 1 hts (lw_V q1938 q1940 qs54 q62 q1941) rfl rfl rfl (by decide +kernel) ⟨Nat.le_of_ble_eq_true rfl, Nat.le_of_ble_eq_true rfl⟩) rfl hl.1 rfl (Nat.le_of_ble_eq_true rfl) dX2_sizeOf_19 ⟨Nat.zero_le _, Nat.zero_le _⟩ (fun F9 R9 hr9 H locs M => ?_)
      obtain ⟨Z_24, eZ_24⟩ : ∃ z, z = m_began F Rr 13 := ⟨_, rfl⟩
      rw [← eZ_24] at hr9
      obtain ⟨rfl, rfl⟩ : F9 = Z_24.1 ∧ R9 = Z_24.2 := ⟨congrArg Prod.fst hr9, congrArg Prod.snd hr9⟩
      have h60Z_24 : cnB (Z_24.1 60) 16 := by rw [eZ_24]; exact m_began_60 h60
      refine lv_iload_n hx hb dX2_sizeOf_22 rfl (lv_at hl 2 rfl) ?_
      refine lv_iconst (v := 2) hx hb dX2_sizeOf_23 (by decide) ?_
      refine s_cI (v := b2i (m_isOf p2 2)) (As := [.int p2, .int 2]) (rest := []) S (metX2_isOf l p2 2) (va_cwS 2 hts (lw_S q1923 q1924 q62 q1925) rfl rfl rfl (by decide +kernel) ⟨Nat.le_of_ble_eq_true rfl, Nat.le_of_ble_eq_true rfl⟩) rfl hl.1 rfl (Nat.le_of_ble_eq_true rfl) dX2_sizeOf_24 ⟨Nat.zero_le _, Nat.zero_le _⟩ ?_
      refine lz_if_eq (tgt := 36) hx hb dX2_sizeOf_27 (by decide) (fun c_25 => ?_) (fun c_25 => ?_)
      · -- c_25: m_isOf p2 2 = false
        refine lv_iload_n hx hb dX2_sizeOf_36 rfl (lv_at hl 2 rfl) ?_
        refine lv_iconst (v := 1) hx hb dX2_sizeOf_37 (by decide) ?_
        refine lv_icmp_ne (tgt := 47) hx hb dX2_sizeOf_38 (by decide) (fun c_26 => ?_) (fun c_26 => ?_)
        · -- c_26: p2 ≠ 1
          refine lv_aload_n hx hb dX2_sizeOf_47 rfl (lv_at hl 0 rfl) ?_
          refine lv_bipush (v := 10) hx hb dX2_sizeOf_48 (by decide) ?_
          refine m_cUv (As := [.int 10]) (rest := []) X M (metX2_began l D cl hcl h ad dA Z_24.1 Z_24.2 10 h60Z_24) (cwV 1 hts (lw_V q1938 q1940 qs54 q62 q1941) rfl rfl rfl (by decide +kernel) ⟨Nat.le_of_ble_eq_true rfl, Nat.le_of_ble_eq_true rfl⟩) rfl hl.1 rfl (Nat.le_of_ble_eq_true rfl) dX2_sizeOf_50 ⟨Nat.zero_le _, Nat.zero_le _⟩ (fun F9 R9 hr9 H locs M => ?_)
          obtain ⟨Z_27, eZ_27⟩ : ∃ z, z = m_began Z_24.1 Z_24.2 10 := ⟨_, rfl⟩
          rw [← eZ_27] at hr9
          obtain ⟨rfl, rfl⟩ : F9 = Z_27.1 ∧ R9 = Z_27.2 := ⟨congrArg Prod.fst hr9, congrArg Prod.snd hr9⟩
          have h60Z_27 : cnB (Z_27.1 60) 16 := by rw [eZ_27]; exact m_began_60 h60Z_24
          refine lv_aload_n hx hb dX2_sizeOf_53 rfl (lv_at hl 0 rfl) ?_
          refine lv_iload_n hx hb dX2_sizeOf_54 rfl (lv_at hl 1 rfl) ?_
          refine lv_bipush (v := 6) hx hb dX2_sizeOf_55 (by decide) ?_
          refine m_cQ (v := Z_27.2 43 (7 * c1 + 6)) (As := [.int (nI c1), .int 6]) (rest := []) X M (metX2_on l D cl hcl h ad dA Z_27.1 Z_27.2 c1 6 (by omega) (by omega)) (cwV 2 hts (lw_V q1832 q1834 qs45 q62 q1835) rfl rfl rfl (by decide +kernel) ⟨Nat.le_of_ble_eq_true rfl, Nat.le_of_ble_eq_true rfl⟩) rfl hl.1 rfl (Nat.le_of_ble_eq_true rfl) dX2_sizeOf_57 ⟨Nat.zero_le _, Nat.zero_le _⟩ ?_
          refine lv_aload_n hx hb dX2_sizeOf_60 rfl (lv_at hl 0 rfl) ?_
          refine lv_iload_n hx hb dX2_sizeOf_61 rfl (lv_at hl 1 rfl) ?_
          refine lv_iconst (v := 5) hx hb dX2_sizeOf_62 (by decide) ?_
          refine m_cQ (v := Z_27.2 43 (7 * c1 + 5)) (As := [.int (nI c1), .int 5]) (rest := [.int (Z_27.2 43 (7 * c1 + 6))]) X M (metX2_on l D cl hcl h ad dA Z_27.1 Z_27.2 c1 5 (by omega) (by omega)) (cwV 2 hts (lw_V q1832 q1834 qs45 q62 q1835) rfl rfl rfl (by decide +kernel) ⟨Nat.le_of_ble_eq_true rfl, Nat.le_of_ble_eq_true rfl⟩) rfl hl.1 rfl (Nat.le_of_ble_eq_true rfl) dX2_sizeOf_63 ⟨Nat.zero_le _, Nat.zero_le _⟩ ?_
          refine lv_isub hx hb dX2_sizeOf_66 ?_
          refine lv_istore_n (lv' := [(3, .int ((Z_27.2 43 (7 * c1 + 6)) - (Z_27.2 43 (7 * c1 + 5)))), (0, .ref h), (1, .int (nI c1)), (2, .int p2)]) hx hb dX2_sizeOf_67 rfl hl (by decide) rfl (fun ls hl => ?_)
          refine lv_iload_n hx hb dX2_sizeOf_68 rfl (lv_at hl 3 rfl) ?_
          refine lv_iconst (v := 1) hx hb dX2_sizeOf_69 (by decide) ?_
          refine lv_icmp_ne (tgt := 79) hx hb dX2_sizeOf_70 (by decide) (fun c_28 => ?_) (fun c_28 => absurd c_28 c_26)
          refine lv_iload_n hx hb dX2_sizeOf_79 rfl (lv_at hl 3 rfl) ?_
          refine lv_iconst (v := 2) hx hb dX2_sizeOf_80 (by decide) ?_
          refine s_cI (v := b2i (m_isOf p2 2)) (As := [.int p2, .int 2]) (rest := []) S (metX2_isOf l p2 2) (va_cwS 2 hts (lw_S q1923 q1924 q62 q1925) rfl rfl rfl (by decide +kernel) ⟨Nat.le_of_ble_eq_true rfl, Nat.le_of_ble_eq_true rfl⟩) rfl hl.1 rfl (Nat.le_of_ble_eq_true rfl) dX2_sizeOf_81 ⟨Nat.zero_le _, Nat.zero_le _⟩ ?_
          refine lz_if_eq (tgt := 98) hx hb dX2_sizeOf_84 (by decide) (fun c_29 => ?_) (fun c_29 => absurd (c_25.symm.trans c_29) (by decide))
          refine lv_iload_n hx hb dX2_sizeOf_98 rfl (lv_at hl 0 rfl) ?_
          refine lv_istore_n (lv' := [(3, .int ((Z_27.2 43 (7 * c1 + 6)) - (Z_27.2 43 (7 * c1 + 5)))), (0, .ref h), (1, .int (nI c1)), (2, .int p2)]) hx hb dX2_sizeOf_99 rfl hl (by decide) rfl (fun ls hl => ?_)
          refine lv_iload_n hx hb dX2_sizeOf_100 rfl (lv_at hl 3 rfl) ?_
          refine lv_iconst (v := 3) hx hb dX2_sizeOf_101 (by decide) ?_
          refine lv_icmp_ne (tgt := 110) hx hb dX2_sizeOf_102 (by decide) (fun c_30 => absurd c_2 c_30) (fun c_30 => ?_)
          refine lv_iload_n hx hb dX2_sizeOf_105 rfl (lv_at hl 0 rfl) ?_
          refine lv_ineg hx hb dX2_sizeOf_106 ?_
          refine lv_goto (tgt := 111) hx hb dX2_sizeOf_107 (by decide) ?_
          exact W.iret (v := -((Z_27.2 43 (7 * c1 + 6)) - (Z_27.2 43 (7 * c1 + 5)))) hx hb hr (fun t9 ht9 hW9 => ⟨⟨_, (Z_27.1, Z_27.2), rfl, (by first | (simp [m_sizeOf, m_sizeU, m_sizeW, m_bgIf, c_1, c_2, ← eZ_24, c_25, c_26, ← eZ_27, up_s, up_n, nI_1, b2i]; done) | (simp [m_sizeOf, m_sizeU, m_sizeW, m_bgIf, c_1, c_2, eZ_24, c_25, c_26, eZ_27, up_s, up_n, nI_1, b2i]; done) | (simp_all [m_sizeOf, m_sizeU, m_sizeW, m_bgIf]; done) | grind [m_sizeOf, m_sizeU, m_sizeW, m_bgIf]), by show va_P _ _ _ t9.heap; rw [ht9]; exact M.1⟩, M.2.2.F ht9⟩) M.2.2.2.2 dX2_sizeOf_111
        · -- c_26: p2 = 1
          refine lv_aload_n hx hb dX2_sizeOf_41 rfl (lv_at hl 0 rfl) ?_
          refine lv_bipush (v := 11) hx hb dX2_sizeOf_42 (by decide) ?_
          refine m_cUv (As := [.int 11]) (rest := []) X M (metX2_began l D cl hcl h ad dA Z_24.1 Z_24.2 11 h60Z_24) (cwV 1 hts (lw_V q1938 q1940 qs54 q62 q1941) rfl rfl rfl (by decide +kernel) ⟨Nat.le_of_ble_eq_true rfl, Nat.le_of_ble_eq_true rfl⟩) rfl hl.1 rfl (Nat.le_of_ble_eq_true rfl) dX2_sizeOf_44 ⟨Nat.zero_le _, Nat.zero_le _⟩ (fun F9 R9 hr9 H locs M => ?_)
          obtain ⟨Z_31, eZ_31⟩ : ∃ z, z = m_began Z_24.1 Z_24.2 11 := ⟨_, rfl⟩
          rw [← eZ_31] at hr9
          obtain ⟨rfl, rfl⟩ : F9 = Z_31.1 ∧ R9 = Z_31.2 := ⟨congrArg Prod.fst hr9, congrArg Prod.snd hr9⟩
          have h60Z_31 : cnB (Z_31.1 60) 16 := by rw [eZ_31]; exact m_began_60 h60Z_24
          refine lv_aload_n hx hb dX2_sizeOf_47 rfl (lv_at hl 0 rfl) ?_
          refine lv_bipush (v := 10) hx hb dX2_sizeOf_48 (by decide) ?_
          refine m_cUv (As := [.int 10]) (rest := []) X M (metX2_began l D cl hcl h ad dA Z_31.1 Z_31.2 10 h60Z_31) (cwV 1 hts (lw_V q1938 q1940 qs54 q62 q1941) rfl rfl rfl (by decide +kernel) ⟨Nat.le_of_ble_eq_true rfl, Nat.le_of_ble_eq_true rfl⟩) rfl hl.1 rfl (Nat.le_of_ble_eq_true rfl) dX2_sizeOf_50 ⟨Nat.zero_le _, Nat.zero_le _⟩ (fun F9 R9 hr9 H locs M => ?_)
          obtain ⟨Z_32, eZ_32⟩ : ∃ z, z = m_began Z_31.1 Z_31.2 10 := ⟨_, rfl⟩
          rw [← eZ_32] at hr9
          obtain ⟨rfl, rfl⟩ : F9 = Z_32.1 ∧ R9 = Z_32.2 := ⟨congrArg Prod.fst hr9, congrArg Prod.snd hr9⟩
          have h60Z_32 : cnB (Z_32.1 60) 16 := by rw [eZ_32]; exact m_began_60 h60Z_31
          refine lv_aload_n hx hb dX2_sizeOf_53 rfl (lv_at hl 0 rfl) ?_
          refine lv_iload_n hx hb dX2_sizeOf_54 rfl (lv_at hl 1 rfl) ?_
          refine lv_bipush (v := 6) hx hb dX2_sizeOf_55 (by decide) ?_
          refine m_cQ (v := Z_32.2 43 (7 * c1 + 6)) (As := [.int (nI c1), .int 6]) (rest := []) X M (metX2_on l D cl hcl h ad dA Z_32.1 Z_32.2 c1 6 (by omega) (by omega)) (cwV 2 hts (lw_V q1832 q1834 qs45 q62 q1835) rfl rfl rfl (by decide +kernel) ⟨Nat.le_of_ble_eq_true rfl, Nat.le_of_ble_eq_true rfl⟩) rfl hl.1 rfl (Nat.le_of_ble_eq_true rfl) dX2_sizeOf_57 ⟨Nat.zero_le _, Nat.zero_le _⟩ ?_
          refine lv_aload_n hx hb dX2_sizeOf_60 rfl (lv_at hl 0 rfl) ?_
          refine lv_iload_n hx hb dX2_sizeOf_61 rfl (lv_at hl 1 rfl) ?_
          refine lv_iconst (v := 5) hx hb dX2_sizeOf_62 (by decide) ?_
          refine m_cQ (v := Z_32.2 43 (7 * c1 + 5)) (As := [.int (nI c1), .int 5]) (rest := [.int (Z_32.2 43 (7 * c1 + 6))]) X M (metX2_on l D cl hcl h ad dA Z_32.1 Z_32.2 c1 5 (by omega) (by omega)) (cwV 2 hts (lw_V q1832 q1834 qs45 q62 q1835) rfl rfl rfl (by decide +kernel) ⟨Nat.le_of_ble_eq_true rfl, Nat.le_of_ble_eq_true rfl⟩) rfl hl.1 rfl (Nat.le_of_ble_eq_true rfl) dX2_sizeOf_63 ⟨Nat.zero_le _, Nat.zero_le _⟩ ?_
          refine lv_isub hx hb dX2_sizeOf_66 ?_
          refine lv_istore_n (lv' := [(3, .int ((Z_32.2 43 (7 * c1 + 6)) - (Z_32.2 43 (7 * c1 + 5)))), (0, .ref h), (1, .int (nI c1)), (2, .int p2)]) hx hb dX2_sizeOf_67 rfl hl (by decide) rfl (fun ls hl => ?_)
          refine lv_iload_n hx hb dX2_sizeOf_68 rfl (lv_at hl 3 rfl) ?_
          refine lv_iconst (v := 1) hx hb dX2_sizeOf_69 (by decide) ?_
          refine lv_icmp_ne (tgt := 79) hx hb dX2_sizeOf_70 (by decide) (fun c_33 => absurd c_26 c_33) (fun c_33 => ?_)
          refine lv_iconst (v := 2) hx hb dX2_sizeOf_73 (by decide) ?_
          refine lv_iload_n hx hb dX2_sizeOf_74 rfl (lv_at hl 0 rfl) ?_
          refine lv_imul hx hb dX2_sizeOf_75 ?_
          refine lv_goto (tgt := 99) hx hb dX2_sizeOf_76 (by decide) ?_
          refine lv_istore_n (lv' := [(3, .int (2 * ((Z_32.2 43 (7 * c1 + 6)) - (Z_32.2 43 (7 * c1 + 5))))), (0, .ref h), (1, .int (nI c1)), (2, .int p2)]) hx hb dX2_sizeOf_99 rfl hl (by decide) rfl (fun ls hl => ?_)
          refine lv_iload_n hx hb dX2_sizeOf_100 rfl (lv_at hl 3 rfl) ?_
          refine lv_iconst (v := 3) hx hb dX2_sizeOf_101 (by decide) ?_
          refine lv_icmp_ne (tgt := 110) hx hb dX2_sizeOf_102 (by decide) (fun c_34 => absurd c_2 c_34) (fun c_34 => ?_)
          refine lv_iload_n hx hb dX2_sizeOf_105 rfl (lv_at hl 0 rfl) ?_
          refine lv_ineg hx hb dX2_sizeOf_106 ?_
          refine lv_goto (tgt := 111) hx hb dX2_sizeOf_107 (by decide) ?_
          exact W.iret (v := -(2 * ((Z_32.2 43 (7 * c1 + 6)) - (Z_32.2 43 (7 * c1 + 5))))) hx hb hr (fun t9 ht9 hW9 => ⟨⟨_, (Z_32.1, Z_32.2), rfl, (by first | (simp [m_sizeOf, m_sizeU, m_sizeW, m_bgIf, c_1, c_2, ← eZ_24, c_25, c_26, ← eZ_31, ← eZ_32, up_s, up_n, nI_1, b2i]; done) | (simp [m_sizeOf, m_sizeU, m_sizeW, m_bgIf, c_1, c_2, eZ_24, c_25, c_26, eZ_31, eZ_32, up_s, up_n, nI_1, b2i]; done) | (simp_all [m_sizeOf, m_sizeU, m_sizeW, m_bgIf]; done) | grind [m_sizeOf, m_sizeU, m_sizeW, m_bgIf]), by show va_P _ _ _ t9.heap; rw [ht9]; exact M.1⟩, M.2.2.F ht9⟩) M.2.2.2.2 dX2_sizeOf_111
      · -- c_25: m_isOf p2 2 = true
        refine lv_aload_n hx hb dX2_sizeOf_30 rfl (lv_at hl 0 rfl) ?_
        refine lv_bipush (v := 12) hx hb dX2_sizeOf_31 (by decide) ?_
        refine m_cUv (As := [.int 12]) (rest := []) X M (metX2_began l D cl hcl h ad dA Z_24.1 Z_24.2 12 h60Z_24) (cwV 1 hts (lw_V q1938 q1940 qs54 q62 q1941) rfl rfl rfl (by decide +kernel) ⟨Nat.le_of_ble_eq_true rfl, Nat.le_of_ble_eq_true rfl⟩) rfl hl.1 rfl (Nat.le_of_ble_eq_true rfl) dX2_sizeOf_33 ⟨Nat.zero_le _, Nat.zero_le _⟩ (fun F9 R9 hr9 H locs M => ?_)
        obtain ⟨Z_35, eZ_35⟩ : ∃ z, z = m_began Z_24.1 Z_24.2 12 := ⟨_, rfl⟩
        rw [← eZ_35] at hr9
        obtain ⟨rfl, rfl⟩ : F9 = Z_35.1 ∧ R9 = Z_35.2 := ⟨congrArg Prod.fst hr9, congrArg Prod.snd hr9⟩
        have h60Z_35 : cnB (Z_35.1 60) 16 := by rw [eZ_35]; exact m_began_60 h60Z_24
        refine lv_iload_n hx hb dX2_sizeOf_36 rfl (lv_at hl 2 rfl) ?_
        refine lv_iconst (v := 1) hx hb dX2_sizeOf_37 (by decide) ?_
        refine lv_icmp_ne (tgt := 47) hx hb dX2_sizeOf_38 (by decide) (fun c_36 => ?_) (fun c_36 => ?_)
        · -- c_36: p2 ≠ 1
          refine lv_aload_n hx hb dX2_sizeOf_47 rfl (lv_at hl 0 rfl) ?_
          refine lv_bipush (v := 10) hx hb dX2_sizeOf_48 (by decide) ?_
          refine m_cUv (As := [.int 10]) (rest := []) X M (metX2_began l D cl hcl h ad dA Z_35.1 Z_35.2 10 h60Z_35) (cwV 1 hts (lw_V q1938 q1940 qs54 q62 q1941) rfl rfl rfl (by decide +kernel) ⟨Nat.le_of_ble_eq_true rfl, Nat.le_of_ble_eq_true rfl⟩) rfl hl.1 rfl (Nat.le_of_ble_eq_true rfl) dX2_sizeOf_50 ⟨Nat.zero_le _, Nat.zero_le _⟩ (fun F9 R9 hr9 H locs M => ?_)
          obtain ⟨Z_37, eZ_37⟩ : ∃ z, z = m_began Z_35.1 Z_35.2 10 := ⟨_, rfl⟩
          rw [← eZ_37] at hr9
          obtain ⟨rfl, rfl⟩ : F9 = Z_37.1 ∧ R9 = Z_37.2 := ⟨congrArg Prod.fst hr9, congrArg Prod.snd hr9⟩
          have h60Z_37 : cnB (Z_37.1 60) 16 := by rw [eZ_37]; exact m_began_60 h60Z_35
          refine lv_aload_n hx hb dX2_sizeOf_53 rfl (lv_at hl 0 rfl) ?_
          refine lv_iload_n hx hb dX2_sizeOf_54 rfl (lv_at hl 1 rfl) ?_
          refine lv_bipush (v := 6) hx hb dX2_sizeOf_55 (by decide) ?_
          refine m_cQ (v := Z_37.2 43 (7 * c1 + 6)) (As := [.int (nI c1), .int 6]) (rest := []) X M (metX2_on l D cl hcl h ad dA Z_37.1 Z_37.2 c1 6 (by omega) (by omega)) (cwV 2 hts (lw_V q1832 q1834 qs45 q62 q1835) rfl rfl rfl (by decide +kernel) ⟨Nat.le_of_ble_eq_true rfl, Nat.le_of_ble_eq_true rfl⟩) rfl hl.1 rfl (Nat.le_of_ble_eq_true rfl) dX2_sizeOf_57 ⟨Nat.zero_le _, Nat.zero_le _⟩ ?_
          refine lv_aload_n hx hb dX2_sizeOf_60 rfl (lv_at hl 0 rfl) ?_
          refine lv_iload_n hx hb dX2_sizeOf_61 rfl (lv_at hl 1 rfl) ?_
          refine lv_iconst (v := 5) hx hb dX2_sizeOf_62 (by decide) ?_
          refine m_cQ (v := Z_37.2 43 (7 * c1 + 5)) (As := [.int (nI c1), .int 5]) (rest := [.int (Z_37.2 43 (7 * c1 + 6))]) X M (metX2_on l D cl hcl h ad dA Z_37.1 Z_37.2 c1 5 (by omega) (by omega)) (cwV 2 hts (lw_V q1832 q1834 qs45 q62 q1835) rfl rfl rfl (by decide +kernel) ⟨Nat.le_of_ble_eq_true rfl, Nat.le_of_ble_eq_true rfl⟩) rfl hl.1 rfl (Nat.le_of_ble_eq_true rfl) dX2_sizeOf_63 ⟨Nat.zero_le _, Nat.zero_le _⟩ ?_
          refine lv_isub hx hb dX2_sizeOf_66 ?_
          refine lv_istore_n (lv' := [(3, .int ((Z_37.2 43 (7 * c1 + 6)) - (Z_37.2 43 (7 * c1 + 5)))), (0, .ref h), (1, .int (nI c1)), (2, .int p2)]) hx hb dX2_sizeOf_67 rfl hl (by decide) rfl (fun ls hl => ?_)
          refine lv_iload_n hx hb dX2_sizeOf_68 rfl (lv_at hl 3 rfl) ?_
          refine lv_iconst (v := 1) hx hb dX2_sizeOf_69 (by decide) ?_
          refine lv_icmp_ne (tgt := 79) hx hb dX2_sizeOf_70 (by decide) (fun c_38 => ?_) (fun c_38 => absurd c_38 c_36)
          refine lv_iload_n hx hb dX2_sizeOf_79 rfl (lv_at hl 3 rfl) ?_
          refine lv_iconst (v := 2) hx hb dX2_sizeOf_80 (by decide) ?_
          refine s_cI (v := b2i (m_isOf p2 2)) (As := [.int p2, .int 2]) (rest := []) S (metX2_isOf l p2 2) (va_cwS 2 hts (lw_S q1923 q1924 q62 q1925) rfl rfl rfl (by decide +kernel) ⟨Nat.le_of_ble_eq_true rfl, Nat.le_of_ble_eq_true rfl⟩) rfl hl.1 rfl (Nat.le_of_ble_eq_true rfl) dX2_sizeOf_81 ⟨Nat.zero_le _, Nat.zero_le _⟩ ?_
          refine lz_if_eq (tgt := 98) hx hb dX2_sizeOf_84 (by decide) (fun c_39 => absurd (c_25.symm.trans c_39) (by decide)) (fun c_39 => ?_)
          refine lv_iload_n hx hb dX2_sizeOf_87 rfl (lv_at hl 0 rfl) ?_
          refine lv_aload_n hx hb dX2_sizeOf_88 rfl (lv_at hl 1 rfl) ?_
          refine lv_iload_n hx hb dX2_sizeOf_89 rfl (lv_at hl 2 rfl) ?_
          refine lv_iload_n hx hb dX2_sizeOf_90 rfl (lv_at hl 3 rfl) ?_
          refine m_cU (As := [.int (nI c1), .int p2]) (rest := [.int ((Z_37.2 43 (7 * c1 + 6)) - (Z_37.2 43 (7 * c1 + 5)))]) X M (metX2_markOf l D cl hcl h ad dA Z_37.1 Z_37.2 c1 p2 (by omega) h60Z_37) (cwV 2 hts (lw_V q1942 q1944 qs55 q62 q1945) rfl rfl rfl (by decide +kernel) ⟨Nat.le_of_ble_eq_true rfl, Nat.le_of_ble_eq_true rfl⟩) rfl hl.1 rfl (Nat.le_of_ble_eq_true rfl) dX2_sizeOf_91 ⟨Nat.zero_le _, Nat.zero_le _⟩ (fun r9 F9 R9 hr9 H locs M => ?_)
          obtain ⟨Z_40, eZ_40⟩ : ∃ z, z = m_markOf Z_37.1 Z_37.2 c1 p2 := ⟨_, rfl⟩
          rw [← eZ_40] at hr9
          obtain ⟨rfl, rfl, rfl⟩ : r9 = Z_40.1 ∧ F9 = Z_40.2.1 ∧ R9 = Z_40.2.2 := ⟨congrArg Prod.fst hr9, congrArg (fun z => z.2.1) hr9, congrArg (fun z => z.2.2) hr9⟩
          refine lv_iadd hx hb dX2_sizeOf_94 ?_
          refine lv_goto (tgt := 99) hx hb dX2_sizeOf_95 (by decide) ?_
          refine lv_istore_n (lv' := [(3, .int (((Z_37.2 43 (7 * c1 + 6)) - (Z_37.2 43 (7 * c1 + 5))) + Z_40.1)), (0, .ref h), (1, .int (nI c1)), (2, .int p2)]) hx hb dX2_sizeOf_99 rfl hl (by decide) rfl (fun ls hl => ?_)
          refine lv_iload_n hx hb dX2_sizeOf_100 rfl (lv_at hl 3 rfl) ?_
          refine lv_iconst (v := 3) hx hb dX2_sizeOf_101 (by decide) ?_
          refine lv_icmp_ne (tgt := 110) hx hb dX2_sizeOf_102 (by decide) (fun c_41 => absurd c_2 c_41) (fun c_41 => ?_)
          refine lv_iload_n hx hb dX2_sizeOf_105 rfl (lv_at hl 0 rfl) ?_
          refine lv_ineg hx hb dX2_sizeOf_106 ?_
          refine lv_goto (tgt := 111) hx hb dX2_sizeOf_107 (by decide) ?_
          exact W.iret (v := -(((Z_37.2 43 (7 * c1 + 6)) - (Z_37.2 43 (7 * c1 + 5))) + Z_40.1)) hx hb hr (fun t9 ht9 hW9 => ⟨⟨_, (Z_40.2.1, Z_40.2.2), rfl, (by first | (simp [m_sizeOf, m_sizeU, m_sizeW, m_bgIf, c_1, c_2, ← eZ_24, c_25, ← eZ_35, c_36, ← eZ_37, ← eZ_40, up_s, up_n, nI_1, b2i]; done) | (simp [m_sizeOf, m_sizeU, m_sizeW, m_bgIf, c_1, c_2, eZ_24, c_25, eZ_35, c_36, eZ_37, eZ_40, up_s, up_n, nI_1, b2i]; done) | (simp_all [m_sizeOf, m_sizeU, m_sizeW, m_bgIf]; done) | grind [m_sizeOf, m_sizeU, m_sizeW, m_bgIf]), by show va_P _ _ _ t9.heap; rw [ht9]; exact M.1⟩, M.2.2.F ht9⟩) M.2.2.2.2 dX2_sizeOf_111
        · -- c_36: p2 = 1
          refine lv_aload_n hx hb dX2_sizeOf_41 rfl (lv_at hl 0 rfl) ?_
          refine lv_bipush (v := 11) hx hb dX2_sizeOf_42 (by decide) ?_
          refine m_cUv (As := [.int 11]) (rest := []) X M (metX2_began l D cl hcl h ad dA Z_35.1 Z_35.2 11 h60Z_35) (cwV 1 hts (lw_V q1938 q1940 qs54 q62 q1941) rfl rfl rfl (by decide +kernel) ⟨Nat.le_of_ble_eq_true rfl, Nat.le_of_ble_eq_true rfl⟩) rfl hl.1 rfl (Nat.le_of_ble_eq_true rfl) dX2_sizeOf_44 ⟨Nat.zero_le _, Nat.zero_le _⟩ (fun F9 R9 hr9 H locs M => ?_)
          obtain ⟨Z_42, eZ_42⟩ : ∃ z, z = m_began Z_35.1 Z_35.2 11 := ⟨_, rfl⟩
          rw [← eZ_42] at hr9
          obtain ⟨rfl, rfl⟩ : F9 = Z_42.1 ∧ R9 = Z_42.2 := ⟨congrArg Prod.fst hr9, congrArg Prod.snd hr9⟩
          have h60Z_42 : cnB (Z_42.1 60) 16 := by rw [eZ_42]; exact m_began_60 h60Z_35
          refine lv_aload_n hx hb dX2_sizeOf_47 rfl (lv_at hl 0 rfl) ?_
          refine lv_bipush (v := 10) hx hb dX2_sizeOf_48 (by decide) ?_
          refine m_cUv (As := [.int 10]) (rest := []) X M (metX2_began l D cl hcl h ad dA Z_42.1 Z_42.2 10 h60Z_42) (cwV 1 hts (lw_V q1938 q1940 qs54 q62 q1941) rfl rfl rfl (by decide +kernel) ⟨Nat.le_of_ble_eq_true rfl, Nat.le_of_ble_eq_true rfl⟩) rfl hl.1 rfl (Nat.le_of_ble_eq_true rfl) dX2_sizeOf_50 ⟨Nat.zero_le _, Nat.zero_le _⟩ (fun F9 R9 hr9 H locs M => ?_)
          obtain ⟨Z_43, eZ_43⟩ : ∃ z, z = m_began Z_42.1 Z_42.2 10 := ⟨_, rfl⟩
          rw [← eZ_43] at hr9
          obtain ⟨rfl, rfl⟩ : F9 = Z_43.1 ∧ R9 = Z_43.2 := ⟨congrArg Prod.fst hr9, congrArg Prod.snd hr9⟩
          have h60Z_43 : cnB (Z_43.1 60) 16 := by rw [eZ_43]; exact m_began_60 h60Z_42
          refine lv_aload_n hx hb dX2_sizeOf_53 rfl (lv_at hl 0 rfl) ?_
          refine lv_iload_n hx hb dX2_sizeOf_54 rfl (lv_at hl 1 rfl) ?_
          refine lv_bipush (v := 6) hx hb dX2_sizeOf_55 (by decide) ?_
          refine m_cQ (v := Z_43.2 43 (7 * c1 + 6)) (As := [.int (nI c1), .int 6]) (rest := []) X M (metX2_on l D cl hcl h ad dA Z_43.1 Z_43.2 c1 6 (by omega) (by omega)) (cwV 2 hts (lw_V q1832 q1834 qs45 q62 q1835) rfl rfl rfl (by decide +kernel) ⟨Nat.le_of_ble_eq_true rfl, Nat.le_of_ble_eq_true rfl⟩) rfl hl.1 rfl (Nat.le_of_ble_eq_true rfl) dX2_sizeOf_57 ⟨Nat.zero_le _, Nat.zero_le _⟩ ?_
          refine lv_aload_n hx hb dX2_sizeOf_60 rfl (lv_at hl 0 rfl) ?_
          refine lv_iload_n hx hb dX2_sizeOf_61 rfl (lv_at hl 1 rfl) ?_
          refine lv_iconst (v := 5) hx hb dX2_sizeOf_62 (by decide) ?_
          refine m_cQ (v := Z_43.2 43 (7 * c1 + 5)) (As := [.int (nI c1), .int 5]) (rest := [.int (Z_43.2 43 (7 * c1 + 6))]) X M (metX2_on l D cl hcl h ad dA Z_43.1 Z_43.2 c1 5 (by omega) (by omega)) (cwV 2 hts (lw_V q1832 q1834 qs45 q62 q1835) rfl rfl rfl (by decide +kernel) ⟨Nat.le_of_ble_eq_true rfl, Nat.le_of_ble_eq_true rfl⟩) rfl hl.1 rfl (Nat.le_of_ble_eq_true rfl) dX2_sizeOf_63 ⟨Nat.zero_le _, Nat.zero_le _⟩ ?_
          refine lv_isub hx hb dX2_sizeOf_66 ?_
          refine lv_istore_n (lv' := [(3, .int ((Z_43.2 43 (7 * c1 + 6)) - (Z_43.2 43 (7 * c1 + 5)))), (0, .ref h), (1, .int (nI c1)), (2, .int p2)]) hx hb dX2_sizeOf_67 rfl hl (by decide) rfl (fun ls hl => ?_)
          refine lv_iload_n hx hb dX2_sizeOf_68 rfl (lv_at hl 3 rfl) ?_
          refine lv_iconst (v := 1) hx hb dX2_sizeOf_69 (by decide) ?_
          refine lv_icmp_ne (tgt := 79) hx hb dX2_sizeOf_70 (by decide) (fun c_44 => absurd c_36 c_44) (fun c_44 => ?_)
          refine lv_iconst (v := 2) hx hb dX2_sizeOf_73 (by decide) ?_
          refine lv_iload_n hx hb dX2_sizeOf_74 rfl (lv_at hl 0 rfl) ?_
          refine lv_imul hx hb dX2_sizeOf_75 ?_
          refine lv_goto (tgt := 99) hx hb dX2_sizeOf_76 (by decide) ?_
          refine lv_istore_n (lv' := [(3, .int (2 * ((Z_43.2 43 (7 * c1 + 6)) - (Z_43.2 43 (7 * c1 + 5))))), (0, .ref h), (1, .int (nI c1)), (2, .int p2)]) hx hb dX2_sizeOf_99 rfl hl (by decide) rfl (fun ls hl => ?_)
          refine lv_iload_n hx hb dX2_sizeOf_100 rfl (lv_at hl 3 rfl) ?_
          refine lv_iconst (v := 3) hx hb dX2_sizeOf_101 (by decide) ?_
          refine lv_icmp_ne (tgt := 110) hx hb dX2_sizeOf_102 (by decide) (fun c_45 => absurd c_2 c_45) (fun c_45 => ?_)
          refine lv_iload_n hx hb dX2_sizeOf_105 rfl (lv_at hl 0 rfl) ?_
          refine lv_ineg hx hb dX2_sizeOf_106 ?_
          refine lv_goto (tgt := 111) hx hb dX2_sizeOf_107 (by decide) ?_
          exact W.iret (v := -(2 * ((Z_43.2 43 (7 * c1 + 6)) - (Z_43.2 43 (7 * c1 + 5))))) hx hb hr (fun t9 ht9 hW9 => ⟨⟨_, (Z_43.1, Z_43.2), rfl, (by first | (simp [m_sizeOf, m_sizeU, m_sizeW, m_bgIf, c_1, c_2, ← eZ_24, c_25, ← eZ_35, c_36, ← eZ_42, ← eZ_43, up_s, up_n, nI_1, b2i]; done) | (simp [m_sizeOf, m_sizeU, m_sizeW, m_bgIf, c_1, c_2, eZ_24, c_25, eZ_35, c_36, eZ_42, eZ_43, up_s, up_n, nI_1, b2i]; done) | (simp_all [m_sizeOf, m_sizeU, m_sizeW, m_bgIf]; done) | grind [m_sizeOf, m_sizeU, m_sizeW, m_bgIf]), by show va_P _ _ _ t9.heap; rw [ht9]; exact M.1⟩, M.2.2.F ht9⟩) M.2.2.2.2 dX2_sizeOf_111
  · -- c_1: p2 = 4
    refine lv_aload_n hx hb dX2_sizeOf_5 rfl (lv_at hl 0 rfl) ?_
    refine lv_iload_n hx hb dX2_sizeOf_6 rfl (lv_at hl 1 rfl) ?_
    refine m_cU (As := [.int (nI c1)]) (rest := []) X M (metX2_nightSize l D cl hcl h ad dA F Rr c1 (by omega) h60) (cwV 1 hts (lw_V q1934 q1936 qs53 q62 q1937) rfl rfl rfl (by decide +kernel) ⟨Nat.le_of_ble_eq_true rfl, Nat.le_of_ble_eq_true rfl⟩) rfl hl.1 rfl (Nat.le_of_ble_eq_true rfl) dX2_sizeOf_7 ⟨Nat.zero_le _, Nat.zero_le _⟩ (fun r9 F9 R9 hr9 H locs M => ?_)
    obtain ⟨Z_46, eZ_46⟩ : ∃ z, z = m_nightSize F Rr c1 := ⟨_, rfl⟩
    rw [← eZ_46] at hr9
    obtain ⟨rfl, rfl, rfl⟩ : r9 = Z_46.1 ∧ F9 = Z_46.2.1 ∧ R9 = Z_46.2.2 := ⟨congrArg Prod.fst hr9, congrArg (fun z => z.2.1) hr9, congrArg (fun z => z.2.2) hr9⟩
    exact W.iret (v := Z_46.1) hx hb hr (fun t9 ht9 hW9 => ⟨⟨_, (Z_46.2.1, Z_46.2.2), rfl, (by first | (simp [m_sizeOf, m_sizeU, m_sizeW, m_bgIf, c_1, ← eZ_46, up_s, up_n, nI_1, b2i]; done) | (simp [m_sizeOf, m_sizeU, m_sizeW, m_bgIf, c_1, eZ_46, up_s, up_n, nI_1, b2i]; done) | (simp_all [m_sizeOf, m_sizeU, m_sizeW, m_bgIf]; done) | grind [m_sizeOf, m_sizeU, m_sizeW, m_bgIf]), by show va_P _ _ _ t9.heap; rw [ht9]; exact M.1⟩, M.2.2.F ht9⟩) M.2.2.2.2 dX2_sizeOf_10

def m_ask (F : Nat → Int32) (Rr : Nat → Nat → Int32) (p what : Int32) : Int32 × mST := if inB 0 (F 42 - 1) p = false ∨ inB 0 1 what = false then ((-1000001), F, Rr) else if what = 0 then m_sizeOf (va_up F 60 0) Rr p.toNatClampNeg (m_kindOf (F 10) (F 38) (F 44) Rr p.toNatClampNeg) else m_markOf (va_up F 60 0) Rr p.toNatClampNeg (m_kindOf (F 10) (F 38) (F 44) Rr p.toNatClampNeg)
set_option maxHeartbeats 4000000 in
set_option maxRecDepth 100000 in
theorem metX2_ask (l : Launch) (D : va_G) (cl : List vw_C) (hcl : cl[0]? = some (RX2, TX2, 61)) (h : Nat) (ad : Nat → Nat) (dA : ClassId) (F : Nat → Int32) (Rr : Nat → Nat → Int32) (p1 : Int32) (p2 : Int32) (h10 : cnB (F 10) 30) (h38 : cnB (F 38) 20) (h42 : cnB (F 42) 16) : Met l yX2_ask (ws_ yX2_ask cX2_ask 4 (some .int)) ({ frames := 4, cells := 0, slots := 0, locals := 96 } : Room) (va_Pc [.ref h, .int p1, .int p2] (mPre D cl h ad dA F Rr)) (va_Qi (fun r u => (r, u) = m_ask (va_up F 0 0) Rr p1 p2) (mB D cl h ad dA) (mN h ad)) 0 0 (mN h ad) := by
  refine Met.ofW (cc := cX2_ask) (maxL := 4) (ret := (some .int)) (by decide) rfl ?_
  intro p e s m args below meth c s₁ B hml hv
  obtain ⟨rfl, hK, hP, hD⟩ := hv
  have hx := B.exec
  have hb := B.bytes
  have hr := B.returns
  have hts := atoms_spec (ws := (ws_ yX2_ask cX2_ask 4 (some .int))) B.pre
  have hts : ∀ w ∈ lw_all, w.before _ s = true := fun w h => hts w (List.mem_cons_of_mem _ h)
  have hown : s.vm.findClass RX2 = some m.cls := findClass_of_methodNamed B.named
  have hlocks := B.notSynchronized
  have S : CallFix p m c cX2_ask 4 s ([.ref h, .int p1, .int p2] : List Value).toArray lw_all RX2 := ⟨hx, hb, hml, hown, hts⟩
  have X : mX p s m ([.ref h, .int p1, .int p2] : List Value).toArray c cX2_ask 4 D cl dA := ⟨hx, hb, hml, hown, hts, hK, hcl⟩
  have M : mM D cl h ad dA (mN h ad) s F Rr s.heap [] := ⟨hP, mW_self hD, va_S.rf⟩
  have hl := lv_entry ([.ref h, .int p1, .int p2]) (n := 4) (Nat.le_of_ble_eq_true rfl)
  rw [lg_entry_eq]
  generalize (lg_sl ([.ref h, .int p1, .int p2]) ++ List.replicate (4 - (lg_sl ([.ref h, .int p1, .int p2])).length) Slot.unset).toArray = ls at hl ⊢
  have hl : lv_has ls 4 [(0, .ref h), (1, .int p1), (2, .int p2)] := hl
  refine lv_aload_n hx hb dX2_ask_0 rfl (lv_at hl 0 rfl) ?_
  refine lv_iconst (v := 0) hx hb dX2_ask_1 (by decide) ?_
  refine mp_0 X M dX2_ask_2 (fun H locs M => ?_)
  refine lv_aload_n hx hb dX2_ask_5 rfl (lv_at hl 0 rfl) ?_
  refine lv_iload_n hx hb dX2_ask_6 rfl (lv_at hl 1 rfl) ?_
  refine m_cQ (v := b2i (inB 0 ((F 42) - 1) p1)) (As := [.int p1]) (rest := []) X M (metX2_isPass l D cl hcl h ad dA (va_up F 0 0) Rr p1) (cwV 1 hts (lw_V q1840 q1842 qs46 q62 q1843) rfl rfl rfl (by decide +kernel) ⟨Nat.le_of_ble_eq_true rfl, Nat.le_of_ble_eq_true rfl⟩) rfl hl.1 rfl (Nat.le_of_ble_eq_true rfl) dX2_ask_7 ⟨Nat.zero_le _, Nat.zero_le _⟩ ?_
  refine lz_if_eq (tgt := 23) hx hb dX2_ask_10 (by decide) (fun c_1 => ?_) (fun c_1 => ?_)
  · -- c_1: inB 0 ((F 42) - 1) p1 = false
    refine lv_ldc (v := (-1000001)) hx hb hown (hts _ q1627) dX2_ask_23 ?_
    exact W.iret (v := (-1000001)) hx hb hr (fun t9 ht9 hW9 => ⟨⟨_, (va_up F 0 0, Rr), rfl, (by first | (simp [m_ask, show inB 0 1 0 = true from rfl, c_1, up_s, up_n, nI_1, b2i]; done) | (simp_all [m_ask, show inB 0 1 0 = true from rfl]; done) | grind [m_ask]), by show va_P _ _ _ t9.heap; rw [ht9]; exact M.1⟩, M.2.2.F ht9⟩) M.2.2.2.2 dX2_ask_25
  · -- c_1: inB 0 ((F 42) - 1) p1 = true
    obtain ⟨c1, hc1, rfl⟩ := at_ex c_1 h42 (m := 16) rfl
    have ec1 : (nI c1).toNatClampNeg = c1 := nI_clamp (by omega)
    refine lv_iload_n hx hb dX2_ask_13 rfl (lv_at hl 2 rfl) ?_
    refine lv_i2l (v := p2.toInt64) hx hb dX2_ask_14 rfl ?_
    refine lv_lconst (v := 0) hx hb dX2_ask_15 (by decide) ?_
    refine lv_lconst (v := 1) hx hb dX2_ask_16 (by decide) ?_
    refine s_cI (v := b2i (inB 0 1 p2)) (As := [.long p2.toInt64, .long 0, .long 1]) (rest := []) S (metX2_inI l p2 0 1 p2.toInt64 0 1 rfl rfl rfl) (va_cwS 3 hts (lw_S q1623 q1624 q62 q1625) rfl rfl rfl (by decide +kernel) ⟨Nat.le_of_ble_eq_true rfl, Nat.le_of_ble_eq_true rfl⟩) rfl hl.1 rfl (Nat.le_of_ble_eq_true rfl) dX2_ask_17 ⟨Nat.zero_le _, Nat.zero_le _⟩ ?_
    refine lz_if_ne (tgt := 26) hx hb dX2_ask_20 (by decide) (fun c_2 => ?_) (fun c_2 => ?_)
    · -- c_2: inB 0 1 p2 = true
      refine lv_aload_n hx hb dX2_ask_26 rfl (lv_at hl 0 rfl) ?_
      refine lv_iconst (v := 0) hx hb dX2_ask_27 (by decide) ?_
      refine mp_60 X M dX2_ask_28 (fun H locs M => ?_)
      refine lv_aload_n hx hb dX2_ask_31 rfl (lv_at hl 0 rfl) ?_
      refine lv_iload_n hx hb dX2_ask_32 rfl (lv_at hl 1 rfl) ?_
      refine m_cQ (v := m_kindOf (F 10) (F 38) (F 44) Rr c1) (As := [.int (nI c1)]) (rest := []) X M (metX2_kindOf l D cl hcl h ad dA (va_up (va_up F 0 0) 60 0) Rr c1 (by omega) h10 h38) (cwV 1 hts (lw_V q1915 q1917 qs51 q62 q1918) rfl rfl rfl (by decide +kernel) ⟨Nat.le_of_ble_eq_true rfl, Nat.le_of_ble_eq_true rfl⟩) rfl hl.1 rfl (Nat.le_of_ble_eq_true rfl) dX2_ask_33 ⟨Nat.zero_le _, Nat.zero_le _⟩ ?_
      refine lv_istore_n (lv' := [(3, .int (m_kindOf (F 10) (F 38) (F 44) Rr c1)), (0, .ref h), (1, .int (nI c1)), (2, .int p2)]) hx hb dX2_ask_36 rfl hl (by decide) rfl (fun ls hl => ?_)
      refine lv_iload_n hx hb dX2_ask_37 rfl (lv_at hl 3 rfl) ?_
      refine lv_if_ne (tgt := 50) hx hb dX2_ask_38 (by decide) (fun c_3 => ?_) (fun c_3 => ?_)
      · -- c_3: p2 ≠ 0
        refine lv_aload_n hx hb dX2_ask_50 rfl (lv_at hl 1 rfl) ?_
        refine lv_iload_n hx hb dX2_ask_51 rfl (lv_at hl 2 rfl) ?_
        refine lv_iload_n hx hb dX2_ask_52 rfl (lv_at hl 0 rfl) ?_
        refine m_cU (As := [.int (nI c1), .int (m_kindOf (F 10) (F 38) (F 44) Rr c1)]) (rest := []) X M (metX2_markOf l D cl hcl h ad dA (va_up (va_up F 0 0) 60 0) Rr c1 (m_kindOf (F 10) (F 38) (F 44) Rr c1) (by omega) (show cnB (0 : Int32) 16 from ⟨by decide, by decide⟩)) (cwV 2 hts (lw_V q1942 q1944 qs55 q62 q1945) rfl rfl rfl (by decide +kernel) ⟨Nat.le_of_ble_eq_true rfl, Nat.le_of_ble_eq_true rfl⟩) rfl hl.1 rfl (Nat.le_of_ble_eq_true rfl) dX2_ask_53 ⟨Nat.zero_le _, Nat.zero_le _⟩ (fun r9 F9 R9 hr9 H locs M => ?_)
        obtain ⟨Z_4, eZ_4⟩ : ∃ z, z = m_markOf (va_up (va_up F 0 0) 60 0) Rr c1 (m_kindOf (F 10) (F 38) (F 44) Rr c1) := ⟨_, rfl⟩
        rw [← eZ_4] at hr9
        obtain ⟨rfl, rfl, rfl⟩ : r9 = Z_4.1 ∧ F9 = Z_4.2.1 ∧ R9 = Z_4.2.2 := ⟨congrArg Prod.fst hr9, congrArg (fun z => z.2.1) hr9, congrArg (fun z => z.2.2) hr9⟩
        exact W.iret (v := Z_4.1) hx hb hr (fun t9 ht9 hW9 => ⟨⟨_, (Z_4.2.1, Z_4.2.2), rfl, (by first | (simp [m_ask, show inB 0 1 0 = true from rfl, c_1, ec1, c_2, c_3, ← eZ_4, up_s, up_n, nI_1, b2i]; done) | (simp [m_ask, show inB 0 1 0 = true from rfl, c_1, ec1, c_2, c_3, eZ_4, up_s, up_n, nI_1, b2i]; done) | (simp_all [m_ask, show inB 0 1 0 = true from rfl]; done) | grind [m_ask]), by show va_P _ _ _ t9.heap; rw [ht9]; exact M.1⟩, M.2.2.F ht9⟩) M.2.2.2.2 dX2_ask_56
      · -- c_3: p2 = 0
        refine lv_aload_n hx hb dX2_ask_41 rfl (lv_at hl 1 rfl) ?_
        refine lv_iload_n hx hb dX2_ask_42 rfl (lv_at hl 2 rfl) ?_
        refine lv_iload_n hx hb dX2_ask_43 rfl (lv_at hl 0 rfl) ?_
        refine m_cU (As := [.int (nI c1), .int (m_kindOf (F 10) (F 38) (F 44) Rr c1)]) (rest := []) X M (metX2_sizeOf l D cl hcl h ad dA (va_up (va_up F 0 0) 60 0) Rr c1 (m_kindOf (F 10) (F 38) (F 44) Rr c1) (by omega) (show cnB (0 : Int32) 16 from ⟨by decide, by decide⟩)) (cwV 2 hts (lw_V q1930 q1932 qs52 q62 q1933) rfl rfl rfl (by decide +kernel) ⟨Nat.le_of_ble_eq_true rfl, Nat.le_of_ble_eq_true rfl⟩) rfl hl.1 rfl (Nat.le_of_ble_eq_true rfl) dX2_ask_44 ⟨Nat.zero_le _, Nat.zero_le _⟩ (fun r9 F9 R9 hr9 H locs M => ?_)
        obtain ⟨Z_5, eZ_5⟩ : ∃ z, z = m_sizeOf (va_up (va_up F 0 0) 60 0) Rr c1 (m_kindOf (F 10) (F 38) (F 44) Rr c1) := ⟨_, rfl⟩
        rw [← eZ_5] at hr9
        obtain ⟨rfl, rfl, rfl⟩ : r9 = Z_5.1 ∧ F9 = Z_5.2.1 ∧ R9 = Z_5.2.2 := ⟨congrArg Prod.fst hr9, congrArg (fun z => z.2.1) hr9, congrArg (fun z => z.2.2) hr9⟩
        refine lv_goto (tgt := 56) hx hb dX2_ask_47 (by decide) ?_
        exact W.iret (v := Z_5.1) hx hb hr (fun t9 ht9 hW9 => ⟨⟨_, (Z_5.2.1, Z_5.2.2), rfl, (by first | (simp [m_ask, show inB 0 1 0 = true from rfl, c_1, ec1, c_2, c_3, ← eZ_5, up_s, up_n, nI_1, b2i]; done) | (simp [m_ask, show inB 0 1 0 = true from rfl, c_1, ec1, c_2, c_3, eZ_5, up_s, up_n, nI_1, b2i]; done) | (simp_all [m_ask, show inB 0 1 0 = true from rfl]; done) | grind [m_ask]), by show va_P _ _ _ t9.heap; rw [ht9]; exact M.1⟩, M.2.2.F ht9⟩) M.2.2.2.2 dX2_ask_56
    · -- c_2: inB 0 1 p2 = false
      refine lv_ldc (v := (-1000001)) hx hb hown (hts _ q1627) dX2_ask_23 ?_
      exact W.iret (v := (-1000001)) hx hb hr (fun t9 ht9 hW9 => ⟨⟨_, (va_up F 0 0, Rr), rfl, (by first | (simp [m_ask, show inB 0 1 0 = true from rfl, c_1, ec1, c_2, up_s, up_n, nI_1, b2i]; done) | (simp_all [m_ask, show inB 0 1 0 = true from rfl]; done) | grind [m_ask]), by show va_P _ _ _ t9.heap; rw [ht9]; exact M.1⟩, M.2.2.F ht9⟩) M.2.2.2.2 dX2_ask_25

def m_cntS (Rr : Nat → Nat → Int32) (n10 n38 n44 : Int32) (f : Int32) (k : Nat) (n : Int32) : Int32 := n + (if m_isOf (m_kindOf n10 n38 n44 Rr k) f = true then 1 else 0)
def m_count (F : Nat → Int32) (Rr : Nat → Nat → Int32) (what : Int32) : Int32 × mST := if what = 0 then (itr (fun k n => n + (if 0 ≤ Rr 2 k then 1 else 0)) 8 0, F, Rr) else if what = 1 then (F 10, F, Rr) else if what = 2 then (F 26, F, Rr) else if what = 3 then (F 28, F, Rr) else if what = 4 then (F 42, F, Rr) else if what = 5 then (itr (m_cntS Rr (F 10) (F 38) (F 44) 2) (F 42).toNatClampNeg 0, F, Rr) else if what = 6 then (itr (m_cntS Rr (F 10) (F 38) (F 44) 3) (F 42).toNatClampNeg 0, F, Rr) else if what = 7 then (itr (fun k n => n + (if Rr 53 k = (-1000000) then 0 else 1)) 8 0, F, Rr) else if what = 8 then (F 17, F, Rr) else ((-1000001), F, Rr)
set_option maxHeartbeats 4000000 in
set_option maxRecDepth 100000 in
theorem metX2_count (l : Launch) (D : va_G) (cl : List vw_C) (hcl : cl[0]? = some (RX2, TX2, 61)) (h : Nat) (ad : Nat → Nat) (dA : ClassId) (F : Nat → Int32) (Rr : Nat → Nat → Int32) (p1 : Int32) (h10 : cnB (F 10) 30) (h38 : cnB (F 38) 20) (h42 : cnB (F 42) 16) : Met l yX2_count (ws_ yX2_count cX2_count 4 (some .int)) ({ frames := 4, cells := 0, slots := 0, locals := 96 } : Room) (va_Pc [.ref h, .int p1] (mPre D cl h ad dA F Rr)) (va_Qi (fun r u => (r, u) = m_count (va_up F 0 0) Rr p1) (mB D cl h ad dA) (mN h ad)) 0 0 (mN h ad) := by
  refine Met.ofW (cc := cX2_count) (maxL := 4) (ret := (some .int)) (by decide) rfl ?_
  intro p e s m args below meth c s₁ B hml hv
  obtain ⟨rfl, hK, hP, hD⟩ := hv
  have hx := B.exec
  have hb := B.bytes
  have hr := B.returns
  have hts := atoms_spec (ws := (ws_ yX2_count cX2_count 4 (some .int))) B.pre
  have hts : ∀ w ∈ lw_all, w.before _ s = true := fun w h => hts w (List.mem_cons_of_mem _ h)
  have hown : s.vm.findClass RX2 = some m.cls := findClass_of_methodNamed B.named
  have hlocks := B.notSynchronized
  have S : CallFix p m c cX2_count 4 s ([.ref h, .int p1] : List Value).toArray lw_all RX2 := ⟨hx, hb, hml, hown, hts⟩
  have X : mX p s m ([.ref h, .int p1] : List Value).toArray c cX2_count 4 D cl dA := ⟨hx, hb, hml, hown, hts, hK, hcl⟩
  have M : mM D cl h ad dA (mN h ad) s F Rr s.heap [] := ⟨hP, mW_self hD, va_S.rf⟩
  have hl := lv_entry ([.ref h, .int p1]) (n := 4) (Nat.le_of_ble_eq_true rfl)
  rw [lg_entry_eq]
  generalize (lg_sl ([.ref h, .int p1]) ++ List.replicate (4 - (lg_sl ([.ref h, .int p1])).length) Slot.unset).toArray = ls at hl ⊢
  have hl : lv_has ls 4 [(0, .ref h), (1, .int p1)] := hl
  obtain ⟨n42, hn42, en42⟩ := cnB_ex h42 (n := 16) rfl
  have em42 : (F 42).toNatClampNeg = n42 := by rw [en42]; exact nI_clamp (by omega)
  have ec42 : (nI n42).toNatClampNeg = n42 := nI_clamp (by omega)
  refine lv_aload_n hx hb dX2_count_0 rfl (lv_at hl 0 rfl) ?_
  refine lv_iconst (v := 0) hx hb dX2_count_1 (by decide) ?_
  refine mp_0 X M dX2_count_2 (fun H locs M => ?_)
  refine lv_iconst (v := 0) hx hb dX2_count_5 (by decide) ?_
  refine lv_istore_n (lv' := [(2, .int 0), (0, .ref h), (1, .int p1)]) hx hb dX2_count_6 rfl hl (by decide) rfl (fun ls hl => ?_)
  refine lv_iload_n hx hb dX2_count_7 rfl (lv_at hl 2 rfl) ?_
  by_cases c_1 : p1 = 0
  · -- case 0
    refine lv_tableIn (x := p1) (off := 52) (tgt := 60) hx hb dX2_count_8 (by rw [c_1]; decide) (by rw [c_1]; decide) (by rw [c_1]; rfl) (by decide) ?_
    refine lv_iconst (v := 0) hx hb dX2_count_60 (by decide) ?_
    refine lv_istore_n (lv' := [(3, .int 0), (2, .int 0), (0, .ref h), (1, .int p1)]) hx hb dX2_count_61 rfl hl (by decide) rfl (fun ls hl => ?_)
    have L_2 : ∀ (fuL_2 : Nat) (i : Nat) (x : Int32), (i ≤ 8) → (x = itr (fun k n => n + (if 0 ≤ Rr 2 k then 1 else 0)) i 0) → 8 - i < fuL_2 → ∀ (H : Heap) (locs : List Loc), mM D cl h ad dA (mN h ad) s (va_up F 0 0) Rr H locs → ∀ ls, lv_has ls 4 [(0, .ref h), (1, .int p1), (2, .int x), (3, .int (nI i))] → W p l e ({ frames := 4, cells := 0, slots := 0, locals := 96 } : Room) s m ([.ref h, .int p1] : List Value).toArray below meth c H locs 0 0 (MQ below (va_Qi (fun r u => (r, u) = m_count (va_up F 0 0) Rr p1) (mB D cl h ad dA) (mN h ad)) ([.ref h, .int p1] : List Value).toArray s 0 0 (mN h ad)) (F0 m 62 ls []) := by
      intro fuL_2
      induction fuL_2 with
      | zero => intro i x hi qx hfuL_2; exact absurd hfuL_2 (Nat.not_lt_zero _)
      | succ fuL_2 L_2ih =>
        intro i x hi qx hfuL_2 H locs M ls hl
        refine lv_iload_n hx hb dX2_count_62 rfl (lv_at hl 3 rfl) ?_
        refine lv_bipush (v := 8) hx hb dX2_count_63 (by decide) ?_
        refine ln_icmp_ge (tgt := 91) hx hb (a := i) (b := 8) (by omega) (by omega) dX2_count_65 (by decide) (fun c_3 => ?_) (fun c_3 => ?_)
        · -- c_3: nI i ≥ 8
          have ei : i = 8 := by omega
          rw [ei] at qx
          refine lv_iload_n hx hb dX2_count_91 rfl (lv_at hl 2 rfl) ?_
          exact W.iret (v := x) hx hb hr (fun t9 ht9 hW9 => ⟨⟨_, (va_up F 0 0, Rr), rfl, (by simp [m_count, up_s, up_n, en42, ec42, qx, c_1, c_3]), by show va_P _ _ _ t9.heap; rw [ht9]; exact M.1⟩, M.2.2.F ht9⟩) M.2.2.2.2 dX2_count_92
        · -- c_3: nI i < 8
          refine lv_iload_n hx hb dX2_count_68 rfl (lv_at hl 2 rfl) ?_
          refine lv_aload_n hx hb dX2_count_69 rfl (lv_at hl 0 rfl) ?_
          refine mg_2 X M dX2_count_70 ?_
          refine lv_iload_n hx hb dX2_count_73 rfl (lv_at hl 3 rfl) ?_
          refine mr_2 X M (f := Rr 2) rfl (j := i) (vp_in_nI (by omega) (by omega)) (nI_clamp (by omega)) dX2_count_74 ?_
          refine lb_if_lt (tgt := 82) hx hb dX2_count_75 (by decide) (fun c_4 c_4' => ?_) (fun c_4 c_4' => ?_)
          · -- c_4: Rr 2 i < 0
            refine lv_iconst (v := 0) hx hb dX2_count_82 (by decide) ?_
            refine lv_iadd hx hb dX2_count_83 ?_
            refine lv_istore_n (lv' := [(2, .int (x + 0)), (0, .ref h), (1, .int p1), (3, .int (nI i))]) hx hb dX2_count_84 rfl hl (by decide) rfl (fun ls hl => ?_)
            refine lv_iinc (v := nI (i + 1)) (lv' := [(3, .int (nI (i + 1))), (2, .int (x + 0)), (0, .ref h), (1, .int p1)]) hx hb dX2_count_85 hl (k := 3) rfl (mk_inc _) (by decide) rfl (fun ls hl => ?_)
            refine lv_goto (tgt := 62) hx hb dX2_count_88 (by decide) ?_
            exact L_2ih  (i + 1) (x + 0) (by omega) (by first | (rw [itr_s, ← qx]; done) | (rw [itr_s, ← qx]; first | (simp [c_1, c_3, c_4, c_4', up_s, up_n, nI_1, b2i]; done) | (simp_all []; done) | grind [])) (by omega) _ _ M ls (lv_sub hl [2, 3, 1, 0] rfl)
          · -- c_4: Rr 2 i ≥ 0
            refine lv_iconst (v := 1) hx hb dX2_count_78 (by decide) ?_
            refine lv_goto (tgt := 83) hx hb dX2_count_79 (by decide) ?_
            refine lv_iadd hx hb dX2_count_83 ?_
            refine lv_istore_n (lv' := [(2, .int (x + 1)), (0, .ref h), (1, .int p1), (3, .int (nI i))]) hx hb dX2_count_84 rfl hl (by decide) rfl (fun ls hl => ?_)
            refine lv_iinc (v := nI (i + 1)) (lv' := [(3, .int (nI (i + 1))), (2, .int (x + 1)), (0, .ref h), (1, .int p1)]) hx hb dX2_count_85 hl (k := 3) rfl (mk_inc _) (by decide) rfl (fun ls hl => ?_)
            refine lv_goto (tgt := 62) hx hb dX2_count_88 (by decide) ?_
            exact L_2ih  (i + 1) (x + 1) (by omega) (by first | (rw [itr_s, ← qx]; done) | (rw [itr_s, ← qx]; first | (simp [c_1, c_3, c_4, c_4', up_s, up_n, nI_1, b2i]; done) | (simp_all []; done) | grind [])) (by omega) _ _ M ls (lv_sub hl [2, 3, 1, 0] rfl)
    exact L_2 ((8 - 0) + 1) 0 0 (Nat.zero_le _) (by first | rfl | (simp only [itr]; assumption) | (simp [itr, c_1, up_s, up_n, nI_1, b2i]; done)) (Nat.lt_succ_self _) _ _ M ls (lv_sub hl [2, 3, 1, 0] rfl)
  by_cases c_5 : p1 = 1
  · -- case 1
    refine lv_tableIn (x := p1) (off := 85) (tgt := 93) hx hb dX2_count_8 (by rw [c_5]; decide) (by rw [c_5]; decide) (by rw [c_5]; rfl) (by decide) ?_
    refine lv_aload_n hx hb dX2_count_93 rfl (lv_at hl 1 rfl) ?_
    refine mg_10 X M (v := F 10) rfl dX2_count_94 ?_
    exact W.iret (v := F 10) hx hb hr (fun t9 ht9 hW9 => ⟨⟨_, (va_up F 0 0, Rr), rfl, (by simp [m_count, up_s, up_n, c_1, c_5]), by show va_P _ _ _ t9.heap; rw [ht9]; exact M.1⟩, M.2.2.F ht9⟩) M.2.2.2.2 dX2_count_97
  by_cases c_6 : p1 = 2
  · -- case 2
    refine lv_tableIn (x := p1) (off := 90) (tgt := 98) hx hb dX2_count_8 (by rw [c_6]; decide) (by rw [c_6]; decide) (by rw [c_6]; rfl) (by decide) ?_
    refine lv_aload_n hx hb dX2_count_98 rfl (lv_at hl 1 rfl) ?_
    refine mg_26 X M (v := F 26) rfl dX2_count_99 ?_
    exact W.iret (v := F 26) hx hb hr (fun t9 ht9 hW9 => ⟨⟨_, (va_up F 0 0, Rr), rfl, (by simp [m_count, up_s, up_n, c_1, c_5, c_6]), by show va_P _ _ _ t9.heap; rw [ht9]; exact M.1⟩, M.2.2.F ht9⟩) M.2.2.2.2 dX2_count_102
  by_cases c_7 : p1 = 3
  · -- case 3
    refine lv_tableIn (x := p1) (off := 95) (tgt := 103) hx hb dX2_count_8 (by rw [c_7]; decide) (by rw [c_7]; decide) (by rw [c_7]; rfl) (by decide) ?_
    refine lv_aload_n hx hb dX2_count_103 rfl (lv_at hl 1 rfl) ?_
    refine mg_28 X M (v := F 28) rfl dX2_count_104 ?_
    exact W.iret (v := F 28) hx hb hr (fun t9 ht9 hW9 => ⟨⟨_, (va_up F 0 0, Rr), rfl, (by simp [m_count, up_s, up_n, c_1, c_5, c_6, c_7]), by show va_P _ _ _ t9.heap; rw [ht9]; exact M.1⟩, M.2.2.F ht9⟩) M.2.2.2.2 dX2_count_107
  by_cases c_8 : p1 = 4
  · -- case 4
    refine lv_tableIn (x := p1) (off := 100) (tgt := 108) hx hb dX2_count_8 (by rw [c_8]; decide) (by rw [c_8]; decide) (by rw [c_8]; rfl) (by decide) ?_
    refine lv_aload_n hx hb dX2_count_108 rfl (lv_at hl 1 rfl) ?_
    refine mg_42 X M (v := F 42) rfl dX2_count_109 ?_
    exact W.iret (v := F 42) hx hb hr (fun t9 ht9 hW9 => ⟨⟨_, (va_up F 0 0, Rr), rfl, (by simp [m_count, up_s, up_n, c_1, c_5, c_6, c_7, c_8]), by show va_P _ _ _ t9.heap; rw [ht9]; exact M.1⟩, M.2.2.F ht9⟩) M.2.2.2.2 dX2_count_112
  by_cases c_9 : p1 = 5
  · -- case 5
    refine lv_tableIn (x := p1) (off := 105) (tgt := 113) hx hb dX2_count_8 (by rw [c_9]; decide) (by rw [c_9]; decide) (by rw [c_9]; rfl) (by decide) ?_
    refine lv_iconst (v := 0) hx hb dX2_count_113 (by decide) ?_
    refine lv_istore_n (lv' := [(3, .int 0), (2, .int 0), (0, .ref h), (1, .int p1)]) hx hb dX2_count_114 rfl hl (by decide) rfl (fun ls hl => ?_)
    have L_10 : ∀ (fuL_10 : Nat) (j : Nat) (x : Int32), (j ≤ n42) → (x = itr (m_cntS Rr (F 10) (F 38) (F 44) 2) j 0) → n42 - j < fuL_10 → ∀ (H : Heap) (locs : List Loc), mM D cl h ad dA (mN h ad) s (va_up F 0 0) Rr H locs → ∀ ls, lv_has ls 4 [(0, .ref h), (1, .int p1), (2, .int x), (3, .int (nI j))] → W p l e ({ frames := 4, cells := 0, slots := 0, locals := 96 } : Room) s m ([.ref h, .int p1] : List Value).toArray below meth c H locs 0 0 (MQ below (va_Qi (fun r u => (r, u) = m_count (va_up F 0 0) Rr p1) (mB D cl h ad dA) (mN h ad)) ([.ref h, .int p1] : List Value).toArray s 0 0 (mN h ad)) (F0 m 115 ls []) := by
      intro fuL_10
      induction fuL_10 with
      | zero => intro j x hj qx hfuL_10; exact absurd hfuL_10 (Nat.not_lt_zero _)
      | succ fuL_10 L_10ih =>
        intro j x hj qx hfuL_10 H locs M ls hl
        refine lv_iload_n hx hb dX2_count_115 rfl (lv_at hl 3 rfl) ?_
        refine lv_aload_n hx hb dX2_count_116 rfl (lv_at hl 0 rfl) ?_
        refine mg_42 X M (v := F 42) rfl dX2_count_117 ?_
        refine lv_asi (y := nI n42) en42 ?_
        refine ln_icmp_ge (tgt := 158) hx hb (a := j) (b := n42) (by omega) (by omega) dX2_count_120 (by decide) (fun c_11 => ?_) (fun c_11 => ?_)
        · -- c_11: nI j ≥ nI n42
          have ej : j = n42 := by omega
          rw [ej] at qx
          refine lv_iload_n hx hb dX2_count_158 rfl (lv_at hl 2 rfl) ?_
          exact W.iret (v := x) hx hb hr (fun t9 ht9 hW9 => ⟨⟨_, (va_up F 0 0, Rr), rfl, (by simp [m_count, up_s, up_n, en42, ec42, qx, c_1, c_5, c_6, c_7, c_8, c_9, c_11]), by show va_P _ _ _ t9.heap; rw [ht9]; exact M.1⟩, M.2.2.F ht9⟩) M.2.2.2.2 dX2_count_159
        · -- c_11: nI j < nI n42
          refine lv_iload_n hx hb dX2_count_123 rfl (lv_at hl 2 rfl) ?_
          refine lv_aload_n hx hb dX2_count_124 rfl (lv_at hl 0 rfl) ?_
          refine lv_iload_n hx hb dX2_count_125 rfl (lv_at hl 3 rfl) ?_
          refine m_cQ (v := m_kindOf (F 10) (F 38) (F 44) Rr j) (As := [.int (nI j)]) (rest := [.int x]) X M (metX2_kindOf l D cl hcl h ad dA (va_up F 0 0) Rr j (by omega) h10 h38) (cwV 1 hts (lw_V q1915 q1917 qs51 q62 q1918) rfl rfl rfl (by decide +kernel) ⟨Nat.le_of_ble_eq_true rfl, Nat.le_of_ble_eq_true rfl⟩) rfl hl.1 rfl (Nat.le_of_ble_eq_true rfl) dX2_count_126 ⟨Nat.zero_le _, Nat.zero_le _⟩ ?_
          refine lv_iload_n hx hb dX2_count_129 rfl (lv_at hl 1 rfl) ?_
          refine lv_iconst (v := 5) hx hb dX2_count_130 (by decide) ?_
          refine lv_icmp_ne (tgt := 138) hx hb dX2_count_131 (by decide) (fun c_12 => absurd c_9 c_12) (fun c_12 => ?_)
          refine lv_iconst (v := 2) hx hb dX2_count_134 (by decide) ?_
          refine lv_goto (tgt := 139) hx hb dX2_count_135 (by decide) ?_
          refine s_cI (v := b2i (m_isOf (m_kindOf (F 10) (F 38) (F 44) Rr j) 2)) (As := [.int (m_kindOf (F 10) (F 38) (F 44) Rr j), .int 2]) (rest := [.int x]) S (metX2_isOf l (m_kindOf (F 10) (F 38) (F 44) Rr j) 2) (va_cwS 2 hts (lw_S q1923 q1924 q62 q1925) rfl rfl rfl (by decide +kernel) ⟨Nat.le_of_ble_eq_true rfl, Nat.le_of_ble_eq_true rfl⟩) rfl hl.1 rfl (Nat.le_of_ble_eq_true rfl) dX2_count_139 ⟨Nat.zero_le _, Nat.zero_le _⟩ ?_
          refine lz_if_eq (tgt := 149) hx hb dX2_count_142 (by decide) (fun c_13 => ?_) (fun c_13 => ?_)
          · -- c_13: m_isOf (m_kindOf (F 10) (F 38) (F 44) Rr j) 2 = false
            refine lv_iconst (v := 0) hx hb dX2_count_149 (by decide) ?_
            refine lv_iadd hx hb dX2_count_150 ?_
            refine lv_istore_n (lv' := [(2, .int (x + 0)), (0, .ref h), (1, .int p1), (3, .int (nI j))]) hx hb dX2_count_151 rfl hl (by decide) rfl (fun ls hl => ?_)
            refine lv_iinc (v := nI (j + 1)) (lv' := [(3, .int (nI (j + 1))), (2, .int (x + 0)), (0, .ref h), (1, .int p1)]) hx hb dX2_count_152 hl (k := 3) rfl (mk_inc _) (by decide) rfl (fun ls hl => ?_)
            refine lv_goto (tgt := 115) hx hb dX2_count_155 (by decide) ?_
            exact L_10ih  (j + 1) (x + 0) (by omega) (by first | (rw [itr_s, ← qx]; done) | (rw [itr_s, ← qx]; first | (simp [m_cntS, c_1, c_5, c_6, c_7, c_8, c_9, c_11, c_13, up_s, up_n, nI_1, b2i]; done) | (simp_all [m_cntS]; done) | grind [m_cntS])) (by omega) _ _ M ls (lv_sub hl [2, 3, 1, 0] rfl)
          · -- c_13: m_isOf (m_kindOf (F 10) (F 38) (F 44) Rr j) 2 = true
            refine lv_iconst (v := 1) hx hb dX2_count_145 (by decide) ?_
            refine lv_goto (tgt := 150) hx hb dX2_count_146 (by decide) ?_
            refine lv_iadd hx hb dX2_count_150 ?_
            refine lv_istore_n (lv' := [(2, .int (x + 1)), (0, .ref h), (1, .int p1), (3, .int (nI j))]) hx hb dX2_count_151 rfl hl (by decide) rfl (fun ls hl => ?_)
            refine lv_iinc (v := nI (j + 1)) (lv' := [(3, .int (nI (j + 1))), (2, .int (x + 1)), (0, .ref h), (1, .int p1)]) hx hb dX2_count_152 hl (k := 3) rfl (mk_inc _) (by decide) rfl (fun ls hl => ?_)
            refine lv_goto (tgt := 115) hx hb dX2_count_155 (by decide) ?_
            exact L_10ih  (j + 1) (x + 1) (by omega) (by first | (rw [itr_s, ← qx]; done) | (rw [itr_s, ← qx]; first | (simp [m_cntS, c_1, c_5, c_6, c_7, c_8, c_9, c_11, c_13, up_s, up_n, nI_1, b2i]; done) | (simp_all [m_cntS]; done) | grind [m_cntS])) (by omega) _ _ M ls (lv_sub hl [2, 3, 1, 0] rfl)
    exact L_10 ((n42 - 0) + 1) 0 0 (Nat.zero_le _) (by first | rfl | (simp only [itr]; assumption) | (simp [itr, c_1, c_5, c_6, c_7, c_8, c_9, up_s, up_n, nI_1, b2i]; done)) (Nat.lt_succ_self _) _ _ M ls (lv_sub hl [2, 3, 1, 0] rfl)
  by_cases c_14 : p1 = 6
  · -- case 6
    refine lv_tableIn (x := p1) (off := 105) (tgt := 113) hx hb dX2_count_8 (by rw [c_14]; decide) (by rw [c_14]; decide) (by rw [c_14]; rfl) (by decide) ?_
    refine lv_iconst (v := 0) hx hb dX2_count_113 (by decide) ?_
    refine lv_istore_n (lv' := [(3, .int 0), (2, .int 0), (0, .ref h), (1, .int p1)]) hx hb dX2_count_114 rfl hl (by decide) rfl (fun ls hl => ?_)
    have L_15 : ∀ (fuL_15 : Nat) (j : Nat) (x : Int32), (j ≤ n42) → (x = itr (m_cntS Rr (F 10) (F 38) (F 44) 3) j 0) → n42 - j < fuL_15 → ∀ (H : Heap) (locs : List Loc), mM D cl h ad dA (mN h ad) s (va_up F 0 0) Rr H locs → ∀ ls, lv_has ls 4 [(0, .ref h), (1, .int p1), (2, .int x), (3, .int (nI j))] → W p l e ({ frames := 4, cells := 0, slots := 0, locals := 96 } : Room) s m ([.ref h, .int p1] : List Value).toArray below meth c H locs 0 0 (MQ below (va_Qi (fun r u => (r, u) = m_count (va_up F 0 0) Rr p1) (mB D cl h ad dA) (mN h ad)) ([.ref h, .int p1] : List Value).toArray s 0 0 (mN h ad)) (F0 m 115 ls []) := by
      intro fuL_15
      induction fuL_15 with
      | zero => intro j x hj qx hfuL_15; exact absurd hfuL_15 (Nat.not_lt_zero _)
      | succ fuL_15 L_15ih =>
        intro j x hj qx hfuL_15 H locs M ls hl
        refine lv_iload_n hx hb dX2_count_115 rfl (lv_at hl 3 rfl) ?_
        refine lv_aload_n hx hb dX2_count_116 rfl (lv_at hl 0 rfl) ?_
        refine mg_42 X M (v := F 42) rfl dX2_count_117 ?_
        refine lv_asi (y := nI n42) en42 ?_
        refine ln_icmp_ge (tgt := 158) hx hb (a := j) (b := n42) (by omega) (by omega) dX2_count_120 (by decide) (fun c_16 => ?_) (fun c_16 => ?_)
        · -- c_16: nI j ≥ nI n42
          have ej : j = n42 := by omega
          rw [ej] at qx
          refine lv_iload_n hx hb dX2_count_158 rfl (lv_at hl 2 rfl) ?_
          exact W.iret (v := x) hx hb hr (fun t9 ht9 hW9 => ⟨⟨_, (va_up F 0 0, Rr), rfl, (by simp [m_count, up_s, up_n, en42, ec42, qx, c_1, c_5, c_6, c_7, c_8, c_9, c_14, c_16]), by show va_P _ _ _ t9.heap; rw [ht9]; exact M.1⟩, M.2.2.F ht9⟩) M.2.2.2.2 dX2_count_159
        · -- c_16: nI j < nI n42
          refine lv_iload_n hx hb dX2_count_123 rfl (lv_at hl 2 rfl) ?_
          refine lv_aload_n hx hb dX2_count_124 rfl (lv_at hl 0 rfl) ?_
          refine lv_iload_n hx hb dX2_count_125 rfl (lv_at hl 3 rfl) ?_
          refine m_cQ (v := m_kindOf (F 10) (F 38) (F 44) Rr j) (As := [.int (nI j)]) (rest := [.int x]) X M (metX2_kindOf l D cl hcl h ad dA (va_up F 0 0) Rr j (by omega) h10 h38) (cwV 1 hts (lw_V q1915 q1917 qs51 q62 q1918) rfl rfl rfl (by decide +kernel) ⟨Nat.le_of_ble_eq_true rfl, Nat.le_of_ble_eq_true rfl⟩) rfl hl.1 rfl (Nat.le_of_ble_eq_true rfl) dX2_count_126 ⟨Nat.zero_le _, Nat.zero_le _⟩ ?_
          refine lv_iload_n hx hb dX2_count_129 rfl (lv_at hl 1 rfl) ?_
          refine lv_iconst (v := 5) hx hb dX2_count_130 (by decide) ?_
          refine lv_icmp_ne (tgt := 138) hx hb dX2_count_131 (by decide) (fun c_17 => ?_) (fun c_17 => absurd c_17 c_9)
          refine lv_iconst (v := 3) hx hb dX2_count_138 (by decide) ?_
          refine s_cI (v := b2i (m_isOf (m_kindOf (F 10) (F 38) (F 44) Rr j) 3)) (As := [.int (m_kindOf (F 10) (F 38) (F 44) Rr j), .int 3]) (rest := [.int x]) S (metX2_isOf l (m_kindOf (F 10) (F 38) (F 44) Rr j) 3) (va_cwS 2 hts (lw_S q1923 q1924 q62 q1925) rfl rfl rfl (by decide +kernel) ⟨Nat.le_of_ble_eq_true rfl, Nat.le_of_ble_eq_true rfl⟩) rfl hl.1 rfl (Nat.le_of_ble_eq_true rfl) dX2_count_139 ⟨Nat.zero_le _, Nat.zero_le _⟩ ?_
          refine lz_if_eq (tgt := 149) hx hb dX2_count_142 (by decide) (fun c_18 => ?_) (fun c_18 => ?_)
          · -- c_18: m_isOf (m_kindOf (F 10) (F 38) (F 44) Rr j) 3 = false
            refine lv_iconst (v := 0) hx hb dX2_count_149 (by decide) ?_
            refine lv_iadd hx hb dX2_count_150 ?_
            refine lv_istore_n (lv' := [(2, .int (x + 0)), (0, .ref h), (1, .int p1), (3, .int (nI j))]) hx hb dX2_count_151 rfl hl (by decide) rfl (fun ls hl => ?_)
            refine lv_iinc (v := nI (j + 1)) (lv' := [(3, .int (nI (j + 1))), (2, .int (x + 0)), (0, .ref h), (1, .int p1)]) hx hb dX2_count_152 hl (k := 3) rfl (mk_inc _) (by decide) rfl (fun ls hl => ?_)
            refine lv_goto (tgt := 115) hx hb dX2_count_155 (by decide) ?_
            exact L_15ih  (j + 1) (x + 0) (by omega) (by first | (rw [itr_s, ← qx]; done) | (rw [itr_s, ← qx]; first | (simp [m_cntS, c_1, c_5, c_6, c_7, c_8, c_9, c_14, c_16, c_18, up_s, up_n, nI_1, b2i]; done) | (simp_all [m_cntS]; done) | grind [m_cntS])) (by omega) _ _ M ls (lv_sub hl [2, 3, 1, 0] rfl)
          · -- c_18: m_isOf (m_kindOf (F 10) (F 38) (F 44) Rr j) 3 = true
            refine lv_iconst (v := 1) hx hb dX2_count_145 (by decide) ?_
            refine lv_goto (tgt := 150) hx hb dX2_count_146 (by decide) ?_
            refine lv_iadd hx hb dX2_count_150 ?_
            refine lv_istore_n (lv' := [(2, .int (x + 1)), (0, .ref h), (1, .int p1), (3, .int (nI j))]) hx hb dX2_count_151 rfl hl (by decide) rfl (fun ls hl => ?_)
            refine lv_iinc (v := nI (j + 1)) (lv' := [(3, .int (nI (j + 1))), (2, .int (x + 1)), (0, .ref h), (1, .int p1)]) hx hb dX2_count_152 hl (k := 3) rfl (mk_inc _) (by decide) rfl (fun ls hl => ?_)
            refine lv_goto (tgt := 115) hx hb dX2_count_155 (by decide) ?_
            exact L_15ih  (j + 1) (x + 1) (by omega) (by first | (rw [itr_s, ← qx]; done) | (rw [itr_s, ← qx]; first | (simp [m_cntS, c_1, c_5, c_6, c_7, c_8, c_9, c_14, c_16, c_18, up_s, up_n, nI_1, b2i]; done) | (simp_all [m_cntS]; done) | grind [m_cntS])) (by omega) _ _ M ls (lv_sub hl [2, 3, 1, 0] rfl)
    exact L_15 ((n42 - 0) + 1) 0 0 (Nat.zero_le _) (by first | rfl | (simp only [itr]; assumption) | (simp [itr, c_1, c_5, c_6, c_7, c_8, c_9, c_14, up_s, up_n, nI_1, b2i]; done)) (Nat.lt_succ_self _) _ _ M ls (lv_sub hl [2, 3, 1, 0] rfl)
  by_cases c_19 : p1 = 7
  · -- case 7
    refine lv_tableIn (x := p1) (off := 152) (tgt := 160) hx hb dX2_count_8 (by rw [c_19]; decide) (by rw [c_19]; decide) (by rw [c_19]; rfl) (by decide) ?_
    refine lv_iconst (v := 0) hx hb dX2_count_160 (by decide) ?_
    refine lv_istore_n (lv' := [(3, .int 0), (2, .int 0), (0, .ref h), (1, .int p1)]) hx hb dX2_count_161 rfl hl (by decide) rfl (fun ls hl => ?_)
    have L_20 : ∀ (fuL_20 : Nat) (k : Nat) (x : Int32), (k ≤ 8) → (x = itr (fun k n => n + (if Rr 53 k = (-1000000) then 0 else 1)) k 0) → 8 - k < fuL_20 → ∀ (H : Heap) (locs : List Loc), mM D cl h ad dA (mN h ad) s (va_up F 0 0) Rr H locs → ∀ ls, lv_has ls 4 [(0, .ref h), (1, .int p1), (2, .int x), (3, .int (nI k))] → W p l e ({ frames := 4, cells := 0, slots := 0, locals := 96 } : Room) s m ([.ref h, .int p1] : List Value).toArray below meth c H locs 0 0 (MQ below (va_Qi (fun r u => (r, u) = m_count (va_up F 0 0) Rr p1) (mB D cl h ad dA) (mN h ad)) ([.ref h, .int p1] : List Value).toArray s 0 0 (mN h ad)) (F0 m 162 ls []) := by
      intro fuL_20
      induction fuL_20 with
      | zero => intro k x hk qx hfuL_20; exact absurd hfuL_20 (Nat.not_lt_zero _)
      | succ fuL_20 L_20ih =>
        intro k x hk qx hfuL_20 H locs M ls hl
        refine lv_iload_n hx hb dX2_count_162 rfl (lv_at hl 3 rfl) ?_
        refine lv_bipush (v := 8) hx hb dX2_count_163 (by decide) ?_
        refine ln_icmp_ge (tgt := 193) hx hb (a := k) (b := 8) (by omega) (by omega) dX2_count_165 (by decide) (fun c_21 => ?_) (fun c_21 => ?_)
        · -- c_21: nI k ≥ 8
          have ek : k = 8 := by omega
          rw [ek] at qx
          refine lv_iload_n hx hb dX2_count_193 rfl (lv_at hl 2 rfl) ?_
          exact W.iret (v := x) hx hb hr (fun t9 ht9 hW9 => ⟨⟨_, (va_up F 0 0, Rr), rfl, (by simp [m_count, up_s, up_n, en42, ec42, qx, c_1, c_5, c_6, c_7, c_8, c_9, c_14, c_19, c_21]), by show va_P _ _ _ t9.heap; rw [ht9]; exact M.1⟩, M.2.2.F ht9⟩) M.2.2.2.2 dX2_count_194
        · -- c_21: nI k < 8
          refine lv_iload_n hx hb dX2_count_168 rfl (lv_at hl 2 rfl) ?_
          refine lv_aload_n hx hb dX2_count_169 rfl (lv_at hl 0 rfl) ?_
          refine mg_53 X M dX2_count_170 ?_
          refine lv_iload_n hx hb dX2_count_173 rfl (lv_at hl 3 rfl) ?_
          refine mr_53 X M (f := Rr 53) rfl (j := k) (vp_in_nI (by omega) (by omega)) (nI_clamp (by omega)) dX2_count_174 ?_
          refine lv_ldc (v := (-1000000)) hx hb hown (hts _ q1430) dX2_count_175 ?_
          refine lv_icmp_eq (tgt := 184) hx hb dX2_count_177 (by decide) (fun c_22 => ?_) (fun c_22 => ?_)
          · -- c_22: Rr 53 k = (-1000000)
            refine lv_iconst (v := 0) hx hb dX2_count_184 (by decide) ?_
            refine lv_iadd hx hb dX2_count_185 ?_
            refine lv_istore_n (lv' := [(2, .int (x + 0)), (0, .ref h), (1, .int p1), (3, .int (nI k))]) hx hb dX2_count_186 rfl hl (by decide) rfl (fun ls hl => ?_)
            refine lv_iinc (v := nI (k + 1)) (lv' := [(3, .int (nI (k + 1))), (2, .int (x + 0)), (0, .ref h), (1, .int p1)]) hx hb dX2_count_187 hl (k := 3) rfl (mk_inc _) (by decide) rfl (fun ls hl => ?_)
            refine lv_goto (tgt := 162) hx hb dX2_count_190 (by decide) ?_
            exact L_20ih  (k + 1) (x + 0) (by omega) (by first | (rw [itr_s, ← qx]; done) | (rw [itr_s, ← qx]; first | (simp [c_1, c_5, c_6, c_7, c_8, c_9, c_14, c_19, c_21, c_22, up_s, up_n, nI_1, b2i]; done) | (simp_all []; done) | grind [])) (by omega) _ _ M ls (lv_sub hl [2, 3, 1, 0] rfl)
          · -- c_22: Rr 53 k ≠ (-1000000)
            refine lv_iconst (v := 1) hx hb dX2_count_180 (by decide) ?_
            refine lv_goto (tgt := 185) hx hb dX2_count_181 (by decide) ?_
            refine lv_iadd hx hb dX2_count_185 ?_
            refine lv_istore_n (lv' := [(2, .int (x + 1)), (0, .ref h), (1, .int p1), (3, .int (nI k))]) hx hb dX2_count_186 rfl hl (by decide) rfl (fun ls hl => ?_)
            refine lv_iinc (v := nI (k + 1)) (lv' := [(3, .int (nI (k + 1))), (2, .int (x + 1)), (0, .ref h), (1, .int p1)]) hx hb dX2_count_187 hl (k := 3) rfl (mk_inc _) (by decide) rfl (fun ls hl => ?_)
            refine lv_goto (tgt := 162) hx hb dX2_count_190 (by decide) ?_
            exact L_20ih  (k + 1) (x + 1) (by omega) (by first | (rw [itr_s, ← qx]; done) | (rw [itr_s, ← qx]; first | (simp [c_1, c_5, c_6, c_7, c_8, c_9, c_14, c_19, c_21, c_22, up_s, up_n, nI_1, b2i]; done) | (simp_all []; done) | grind [])) (by omega) _ _ M ls (lv_sub hl [2, 3, 1, 0] rfl)
    exact L_20 ((8 - 0) + 1) 0 0 (Nat.zero_le _) (by first | rfl | (simp only [itr]; assumption) | (simp [itr, c_1, c_5, c_6, c_7, c_8, c_9, c_14, c_19, up_s, up_n, nI_1, b2i]; done)) (Nat.lt_succ_self _) _ _ M ls (lv_sub hl [2, 3, 1, 0] rfl)
  by_cases c_23 : p1 = 8
  · -- case 8
    refine lv_tableIn (x := p1) (off := 187) (tgt := 195) hx hb dX2_count_8 (by rw [c_23]; decide) (by rw [c_23]; decide) (by rw [c_23]; rfl) (by decide) ?_
    refine lv_aload_n hx hb dX2_count_195 rfl (lv_at hl 1 rfl) ?_
    refine mg_17 X M (v := F 17) rfl dX2_count_196 ?_
    exact W.iret (v := F 17) hx hb hr (fun t9 ht9 hW9 => ⟨⟨_, (va_up F 0 0, Rr), rfl, (by simp [m_count, up_s, up_n, c_1, c_5, c_6, c_7, c_8, c_9, c_14, c_19, c_23]), by show va_P _ _ _ t9.heap; rw [ht9]; exact M.1⟩, M.2.2.F ht9⟩) M.2.2.2.2 dX2_count_199
  refine lv_tableOut (x := p1) (tgt := 200) hx hb dX2_count_8 (tab_out 8 (by decide) (fun k9 h9 => match k9, h9 with | 0, _ => c_1 | 1, _ => c_5 | 2, _ => c_6 | 3, _ => c_7 | 4, _ => c_8 | 5, _ => c_9 | 6, _ => c_14 | 7, _ => c_19 | 8, _ => c_23 | k9 + 9, h9 => absurd h9 (by omega))) (by decide) ?_
  refine lv_ldc (v := (-1000001)) hx hb hown (hts _ q1627) dX2_count_200 ?_
  exact W.iret (v := (-1000001)) hx hb hr (fun t9 ht9 hW9 => ⟨⟨_, (va_up F 0 0, Rr), rfl, (by simp [m_count, up_s, up_n, c_1, c_5, c_6, c_7, c_8, c_9, c_14, c_19, c_23]), by show va_P _ _ _ t9.heap; rw [ht9]; exact M.1⟩, M.2.2.F ht9⟩) M.2.2.2.2 dX2_count_202

