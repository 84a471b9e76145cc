/-! THE REFERENCE, 3: carts, passings, passes -/
def m_owedBest (F : Nat → Int32) (Rr : Nat → Nat → Int32) (c : Nat) (day : Int32) (k : Nat) (x : Nat) : Nat := if m_owedBy (F 10) Rr c (k + 1) day < m_owedBy (F 10) Rr c x day then k + 1 else x
def m_owed (F : Nat → Int32) (Rr : Nat → Nat → Int32) (c g day : Int32) : Int32 × mST := if inB 0 (F 26 - 1) c = false ∨ (¬ g = (-1000000) ∧ inB 0 8 g = false) ∨ inB 0 999 day = false then ((-1000001), F, Rr) else if ¬ g = (-1000000) then (m_owedBy (F 10) Rr c.toNatClampNeg g.toNatClampNeg day, F, Rr) else (nI (itr (m_owedBest F Rr c.toNatClampNeg day) 8 0), F, Rr)
set_option maxHeartbeats 4000000 in
set_option maxRecDepth 100000 in
theorem metX2_owed (l : Launch) (D : va_G) (cl : List vw_C) (hcl : cl[0]? = some (RX2, TX2, 61)) (h : Nat) (ad : Nat → Nat) (dA : ClassId) (F : Nat → Int32) (Rr : Nat → Nat → Int32) (p1 : Int32) (p2 : Int32) (p3 : Int32) (h10 : cnB (F 10) 30) (h26 : cnB (F 26) 16) : Met l yX2_owed (ws_ yX2_owed cX2_owed 6 (some .int)) ({ frames := 3, cells := 0, slots := 0, locals := 77 } : Room) (va_Pc [.ref h, .int p1, .int p2, .int p3] (mPre D cl h ad dA F Rr)) (va_Qi (fun r u => (r, u) = m_owed (va_up F 0 0) Rr p1 p2 p3) (mB D cl h ad dA) (mN h ad)) 0 0 (mN h ad) := by
  refine Met.ofW (cc := cX2_owed) (maxL := 6) (ret := (some .int)) (by decide) rfl ?_
  intro p e s m args below meth c s₁ B hml hv
  obtain ⟨rfl, hK, hP, hD⟩ := hv
  have hx := B.exec
  have hb := B.bytes
  have hr := B.returns
  have hts := atoms_spec (ws := (ws_ yX2_owed cX2_owed 6 (some .int))) B.pre
  have hts : ∀ w ∈ lw_all, w.before _ s = true := fun w h => hts w (List.mem_cons_of_mem _ h)
  have hown : s.vm.findClass RX2 = some m.cls := findClass_of_methodNamed B.named
  have hlocks := B.notSynchronized
  have S : CallFix p m c cX2_owed 6 s ([.ref h, .int p1, .int p2, .int p3] : List Value).toArray lw_all RX2 := ⟨hx, hb, hml, hown, hts⟩
  have X : mX p s m ([.ref h, .int p1, .int p2, .int p3] : List Value).toArray c cX2_owed 6 D cl dA := ⟨hx, hb, hml, hown, hts, hK, hcl⟩
  have M : mM D cl h ad dA (mN h ad) s F Rr s.heap [] := ⟨hP, mW_self hD, va_S.rf⟩
  have hl := lv_entry ([.ref h, .int p1, .int p2, .int p3]) (n := 6) (Nat.le_of_ble_eq_true rfl)
  rw [lg_entry_eq]
  generalize (lg_sl ([.ref h, .int p1, .int p2, .int p3]) ++ List.replicate (6 - (lg_sl ([.ref h, .int p1, .int p2, .int p3])).length) Slot.unset).toArray = ls at hl ⊢
  have hl : lv_has ls 6 [(0, .ref h), (1, .int p1), (2, .int p2), (3, .int p3)] := hl
  refine lv_aload_n hx hb dX2_owed_0 rfl (lv_at hl 0 rfl) ?_
  refine lv_iconst (v := 0) hx hb dX2_owed_1 (by decide) ?_
  refine mp_0 X M dX2_owed_2 (fun H locs M => ?_)
  refine lv_aload_n hx hb dX2_owed_5 rfl (lv_at hl 0 rfl) ?_
  refine lv_iload_n hx hb dX2_owed_6 rfl (lv_at hl 1 rfl) ?_
  refine m_cQ (v := b2i (inB 0 ((F 26) - 1) p1)) (As := [.int p1]) (rest := []) X M (metX2_isCart l D cl hcl h ad dA (va_up F 0 0) Rr p1) (cwV 1 hts (lw_V q1777 q1779 qs41 q62 q1780) rfl rfl rfl (by decide +kernel) ⟨Nat.le_of_ble_eq_true rfl, Nat.le_of_ble_eq_true rfl⟩) rfl hl.1 rfl (Nat.le_of_ble_eq_true rfl) dX2_owed_7 ⟨Nat.zero_le _, Nat.zero_le _⟩ ?_
  refine lz_if_eq (tgt := 33) hx hb dX2_owed_10 (by decide) (fun c_1 => ?_) (fun c_1 => ?_)
  · -- c_1: inB 0 ((F 26) - 1) p1 = false
    refine lv_ldc (v := (-1000001)) hx hb hown (hts _ q1627) dX2_owed_33 ?_
    exact W.iret (v := (-1000001)) hx hb hr (fun t9 ht9 hW9 => ⟨⟨_, (va_up F 0 0, Rr), rfl, (by first | (simp [m_owed, c_1, up_s, up_n, nI_1, b2i]; done) | (simp_all [m_owed]; done) | grind [m_owed]), by show va_P _ _ _ t9.heap; rw [ht9]; exact M.1⟩, M.2.2.F ht9⟩) M.2.2.2.2 dX2_owed_35
  · -- c_1: inB 0 ((F 26) - 1) p1 = true
    obtain ⟨c1, hc1, rfl⟩ := at_ex c_1 h26 (m := 16) rfl
    have ec1 : (nI c1).toNatClampNeg = c1 := nI_clamp (by omega)
    refine lv_iload_n hx hb dX2_owed_13 rfl (lv_at hl 2 rfl) ?_
    refine lv_ldc (v := (-1000000)) hx hb hown (hts _ q1430) dX2_owed_14 ?_
    refine lv_icmp_eq (tgt := 26) hx hb dX2_owed_16 (by decide) (fun c_2 => ?_) (fun c_2 => ?_)
    · -- c_2: p2 = (-1000000)
      refine lv_iload_n hx hb dX2_owed_26 rfl (lv_at hl 3 rfl) ?_
      refine s_cI (v := b2i (inB 0 999 p3)) (As := [.int p3]) (rest := []) S (metX2_isDay l p3) (va_cwS 1 hts (lw_S q1736 q1737 q62 q1738) rfl rfl rfl (by decide +kernel) ⟨Nat.le_of_ble_eq_true rfl, Nat.le_of_ble_eq_true rfl⟩) rfl hl.1 rfl (Nat.le_of_ble_eq_true rfl) dX2_owed_27 ⟨Nat.zero_le _, Nat.zero_le _⟩ ?_
      refine lz_if_ne (tgt := 36) hx hb dX2_owed_30 (by decide) (fun c_3 => ?_) (fun c_3 => ?_)
      · -- c_3: inB 0 999 p3 = true
        refine lv_iload_n hx hb dX2_owed_36 rfl (lv_at hl 2 rfl) ?_
        refine lv_ldc (v := (-1000000)) hx hb hown (hts _ q1430) dX2_owed_37 ?_
        refine lv_icmp_eq (tgt := 50) hx hb dX2_owed_39 (by decide) (fun c_4 => ?_) (fun c_4 => absurd c_2 c_4)
        refine lv_iconst (v := 0) hx hb dX2_owed_50 (by decide) ?_
        refine lv_istore (lv' := [(4, .int 0), (0, .ref h), (1, .int (nI c1)), (2, .int p2), (3, .int p3)]) hx hb dX2_owed_51 hl (by decide) rfl (fun ls hl => ?_)
        refine lv_iconst (v := 1) hx hb dX2_owed_53 (by decide) ?_
        refine lv_istore (lv' := [(5, .int 1), (4, .int 0), (0, .ref h), (1, .int (nI c1)), (2, .int p2), (3, .int p3)]) hx hb dX2_owed_54 hl (by decide) rfl (fun ls hl => ?_)
        have L_5 : ∀ (fuL_5 : Nat) (i : Nat) (x : Nat), (i ≤ 8) → (x = itr (m_owedBest F Rr c1 p3) i 0) → (x < 9) → 8 - i < fuL_5 → ∀ (H : Heap) (locs : List Loc), mM D cl h ad dA (mN h ad) s (va_up F 0 0) Rr H locs → ∀ ls, lv_has ls 6 [(0, .ref h), (1, .int (nI c1)), (2, .int p2), (3, .int p3), (4, .int (nI x)), (5, .int (nI (i + 1)))] → W p l e ({ frames := 3, cells := 0, slots := 0, locals := 77 } : Room) s m ([.ref h, .int (nI c1), .int p2, .int p3] : List Value).toArray below meth c H locs 0 0 (MQ below (va_Qi (fun r u => (r, u) = m_owed (va_up F 0 0) Rr (nI c1) p2 p3) (mB D cl h ad dA) (mN h ad)) ([.ref h, .int (nI c1), .int p2, .int p3] : List Value).toArray s 0 0 (mN h ad)) (F0 m 56 ls []) := by
          intro fuL_5
          induction fuL_5 with
          | zero => intro i x hi qx hx8 hfuL_5; exact absurd hfuL_5 (Nat.not_lt_zero _)
          | succ fuL_5 L_5ih =>
            intro i x hi qx hx8 hfuL_5 H locs M ls hl
            refine lv_iload hx hb dX2_owed_56 (lv_at hl 5 rfl) ?_
            refine lv_bipush (v := 9) hx hb dX2_owed_58 (by decide) ?_
            refine ln_icmp_ge (tgt := 97) hx hb (a := i + 1) (b := 9) (by omega) (by omega) dX2_owed_60 (by decide) (fun c_6 => ?_) (fun c_6 => ?_)
            · -- c_6: nI (i + 1) ≥ 9
              have ei : i = 8 := by omega
              rw [ei] at qx
              refine lv_iload hx hb dX2_owed_97 (lv_at hl 4 rfl) ?_
              exact W.iret (v := nI x) hx hb hr (fun t9 ht9 hW9 => ⟨⟨_, (va_up F 0 0, Rr), rfl, (by simp [m_owed, up_s, up_n, c_1, ec1, c_2, c_3, c_6, ← qx, show m_owedBest (va_up F 0 0) = m_owedBest F from rfl]), by show va_P _ _ _ t9.heap; rw [ht9]; exact M.1⟩, M.2.2.F ht9⟩) M.2.2.2.2 dX2_owed_99
            · -- c_6: nI (i + 1) < 9
              refine lv_aload_n hx hb dX2_owed_63 rfl (lv_at hl 0 rfl) ?_
              refine lv_iload_n hx hb dX2_owed_64 rfl (lv_at hl 1 rfl) ?_
              refine lv_iload hx hb dX2_owed_65 (lv_at hl 5 rfl) ?_
              refine lv_iload_n hx hb dX2_owed_67 rfl (lv_at hl 3 rfl) ?_
              refine m_cQ (v := m_owedBy (F 10) Rr c1 (i + 1) p3) (As := [.int (nI c1), .int (nI (i + 1)), .int p3]) (rest := []) X M (metX2_owedBy l D cl hcl h ad dA (va_up F 0 0) Rr c1 (i + 1) p3 (by omega) (by omega) h10) (cwV 3 hts (lw_V q1781 q1783 qs42 q62 q1784) rfl rfl rfl (by decide +kernel) ⟨Nat.le_of_ble_eq_true rfl, Nat.le_of_ble_eq_true rfl⟩) rfl hl.1 rfl (Nat.le_of_ble_eq_true rfl) dX2_owed_68 ⟨Nat.zero_le _, Nat.zero_le _⟩ ?_
              refine lv_aload_n hx hb dX2_owed_71 rfl (lv_at hl 0 rfl) ?_
              refine lv_iload_n hx hb dX2_owed_72 rfl (lv_at hl 1 rfl) ?_
              refine lv_iload hx hb dX2_owed_73 (lv_at hl 4 rfl) ?_
              refine lv_iload_n hx hb dX2_owed_75 rfl (lv_at hl 3 rfl) ?_
              refine m_cQ (v := m_owedBy (F 10) Rr c1 x p3) (As := [.int (nI c1), .int (nI x), .int p3]) (rest := [.int (m_owedBy (F 10) Rr c1 (i + 1) p3)]) X M (metX2_owedBy l D cl hcl h ad dA (va_up F 0 0) Rr c1 x p3 (by omega) (by omega) h10) (cwV 3 hts (lw_V q1781 q1783 qs42 q62 q1784) rfl rfl rfl (by decide +kernel) ⟨Nat.le_of_ble_eq_true rfl, Nat.le_of_ble_eq_true rfl⟩) rfl hl.1 rfl (Nat.le_of_ble_eq_true rfl) dX2_owed_76 ⟨Nat.zero_le _, Nat.zero_le _⟩ ?_
              refine lb_icmp_ge (tgt := 87) hx hb dX2_owed_79 (by decide) (fun c_7 c_7' => ?_) (fun c_7 c_7' => ?_)
              · -- c_7: m_owedBy (F 10) Rr c1 (i + 1) p3 ≥ m_owedBy (F 10) Rr c1 x p3
                refine lv_iload hx hb dX2_owed_87 (lv_at hl 4 rfl) ?_
                refine lv_istore (lv' := [(4, .int (nI x)), (0, .ref h), (1, .int (nI c1)), (2, .int p2), (3, .int p3), (5, .int (nI (i + 1)))]) hx hb dX2_owed_89 hl (by decide) rfl (fun ls hl => ?_)
                refine lv_iinc (v := nI (i + 1 + 1)) (lv' := [(5, .int (nI (i + 1 + 1))), (4, .int (nI x)), (0, .ref h), (1, .int (nI c1)), (2, .int p2), (3, .int p3)]) hx hb dX2_owed_91 hl (k := 5) rfl (mk_inc _) (by decide) rfl (fun ls hl => ?_)
                refine lv_goto (tgt := 56) hx hb dX2_owed_94 (by decide) ?_
                exact L_5ih  (i + 1) x (by omega) (by first | (rw [itr_s, ← qx]; done) | (rw [itr_s, ← qx]; first | (simp [m_owedBest, c_1, ec1, c_2, c_3, c_6, c_7, c_7', up_s, up_n, nI_1, b2i]; done) | (simp_all [m_owedBest]; done) | grind [m_owedBest])) (by omega) (by omega) _ _ M ls (lv_sub hl [2, 3, 4, 5, 1, 0] rfl)
              · -- c_7: m_owedBy (F 10) Rr c1 (i + 1) p3 < m_owedBy (F 10) Rr c1 x p3
                refine lv_iload hx hb dX2_owed_82 (lv_at hl 5 rfl) ?_
                refine lv_goto (tgt := 89) hx hb dX2_owed_84 (by decide) ?_
                refine lv_istore (lv' := [(4, .int (nI (i + 1))), (0, .ref h), (1, .int (nI c1)), (2, .int p2), (3, .int p3), (5, .int (nI (i + 1)))]) hx hb dX2_owed_89 hl (by decide) rfl (fun ls hl => ?_)
                refine lv_iinc (v := nI (i + 1 + 1)) (lv' := [(5, .int (nI (i + 1 + 1))), (4, .int (nI (i + 1))), (0, .ref h), (1, .int (nI c1)), (2, .int p2), (3, .int p3)]) hx hb dX2_owed_91 hl (k := 5) rfl (mk_inc _) (by decide) rfl (fun ls hl => ?_)
                refine lv_goto (tgt := 56) hx hb dX2_owed_94 (by decide) ?_
                exact L_5ih  (i + 1) (i + 1) (by omega) (by first | (rw [itr_s, ← qx]; done) | (rw [itr_s, ← qx]; first | (simp [m_owedBest, c_1, ec1, c_2, c_3, c_6, c_7, c_7', up_s, up_n, nI_1, b2i]; done) | (simp_all [m_owedBest]; done) | grind [m_owedBest])) (by omega) (by omega) _ _ M ls (lv_sub hl [2, 3, 4, 5, 1, 0] rfl)
        exact L_5 ((8 - 0) + 1) 0 0 (Nat.zero_le _) (by first | rfl | (simp only [itr]; assumption) | (simp [itr, c_1, ec1, c_2, c_3, up_s, up_n, nI_1, b2i]; done)) (by omega) (Nat.lt_succ_self _) _ _ M ls (lv_sub hl [2, 3, 4, 5, 1, 0] rfl)
      · -- c_3: inB 0 999 p3 = false
        refine lv_ldc (v := (-1000001)) hx hb hown (hts _ q1627) dX2_owed_33 ?_
        exact W.iret (v := (-1000001)) hx hb hr (fun t9 ht9 hW9 => ⟨⟨_, (va_up F 0 0, Rr), rfl, (by first | (simp [m_owed, c_1, ec1, c_2, c_3, up_s, up_n, nI_1, b2i]; done) | (simp_all [m_owed]; done) | grind [m_owed]), by show va_P _ _ _ t9.heap; rw [ht9]; exact M.1⟩, M.2.2.F ht9⟩) M.2.2.2.2 dX2_owed_35
    · -- c_2: p2 ≠ (-1000000)
      refine lv_iload_n hx hb dX2_owed_19 rfl (lv_at hl 2 rfl) ?_
      refine s_cI (v := b2i (inB 0 8 p2)) (As := [.int p2]) (rest := []) S (metX2_isGate l p2) (va_cwS 1 hts (lw_S q1649 q1650 q62 q1651) rfl rfl rfl (by decide +kernel) ⟨Nat.le_of_ble_eq_true rfl, Nat.le_of_ble_eq_true rfl⟩) rfl hl.1 rfl (Nat.le_of_ble_eq_true rfl) dX2_owed_20 ⟨Nat.zero_le _, Nat.zero_le _⟩ ?_
      refine lz_if_eq (tgt := 33) hx hb dX2_owed_23 (by decide) (fun c_8 => ?_) (fun c_8 => ?_)
      · -- c_8: inB 0 8 p2 = false
        refine lv_ldc (v := (-1000001)) hx hb hown (hts _ q1627) dX2_owed_33 ?_
        exact W.iret (v := (-1000001)) hx hb hr (fun t9 ht9 hW9 => ⟨⟨_, (va_up F 0 0, Rr), rfl, (by first | (simp [m_owed, c_1, ec1, c_2, c_8, up_s, up_n, nI_1, b2i]; done) | (simp_all [m_owed]; done) | grind [m_owed]), by show va_P _ _ _ t9.heap; rw [ht9]; exact M.1⟩, M.2.2.F ht9⟩) M.2.2.2.2 dX2_owed_35
      · -- c_8: inB 0 8 p2 = true
        obtain ⟨g1, hg1, rfl⟩ := inB_ex c_8 (n := 8) rfl
        have eg1 : (nI g1).toNatClampNeg = g1 := nI_clamp (by omega)
        refine lv_iload_n hx hb dX2_owed_26 rfl (lv_at hl 3 rfl) ?_
        refine s_cI (v := b2i (inB 0 999 p3)) (As := [.int p3]) (rest := []) S (metX2_isDay l p3) (va_cwS 1 hts (lw_S q1736 q1737 q62 q1738) rfl rfl rfl (by decide +kernel) ⟨Nat.le_of_ble_eq_true rfl, Nat.le_of_ble_eq_true rfl⟩) rfl hl.1 rfl (Nat.le_of_ble_eq_true rfl) dX2_owed_27 ⟨Nat.zero_le _, Nat.zero_le _⟩ ?_
        refine lz_if_ne (tgt := 36) hx hb dX2_owed_30 (by decide) (fun c_9 => ?_) (fun c_9 => ?_)
        · -- c_9: inB 0 999 p3 = true
          refine lv_iload_n hx hb dX2_owed_36 rfl (lv_at hl 2 rfl) ?_
          refine lv_ldc (v := (-1000000)) hx hb hown (hts _ q1430) dX2_owed_37 ?_
          refine lv_icmp_eq (tgt := 50) hx hb dX2_owed_39 (by decide) (fun c_10 => absurd c_10 c_2) (fun c_10 => ?_)
          refine lv_aload_n hx hb dX2_owed_42 rfl (lv_at hl 0 rfl) ?_
          refine lv_iload_n hx hb dX2_owed_43 rfl (lv_at hl 1 rfl) ?_
          refine lv_iload_n hx hb dX2_owed_44 rfl (lv_at hl 2 rfl) ?_
          refine lv_iload_n hx hb dX2_owed_45 rfl (lv_at hl 3 rfl) ?_
          refine m_cQ (v := m_owedBy (F 10) Rr c1 g1 p3) (As := [.int (nI c1), .int (nI g1), .int p3]) (rest := []) X M (metX2_owedBy l D cl hcl h ad dA (va_up F 0 0) Rr c1 g1 p3 (by omega) (by omega) h10) (cwV 3 hts (lw_V q1781 q1783 qs42 q62 q1784) rfl rfl rfl (by decide +kernel) ⟨Nat.le_of_ble_eq_true rfl, Nat.le_of_ble_eq_true rfl⟩) rfl hl.1 rfl (Nat.le_of_ble_eq_true rfl) dX2_owed_46 ⟨Nat.zero_le _, Nat.zero_le _⟩ ?_
          exact W.iret (v := m_owedBy (F 10) Rr c1 g1 p3) hx hb hr (fun t9 ht9 hW9 => ⟨⟨_, (va_up F 0 0, Rr), rfl, (by first | (simp [m_owed, c_1, ec1, c_2, c_8, eg1, c_9, up_s, up_n, nI_1, b2i]; done) | (simp_all [m_owed]; done) | grind [m_owed]), by show va_P _ _ _ t9.heap; rw [ht9]; exact M.1⟩, M.2.2.F ht9⟩) M.2.2.2.2 dX2_owed_49
        · -- c_9: inB 0 999 p3 = false
          refine lv_ldc (v := (-1000001)) hx hb hown (hts _ q1627) dX2_owed_33 ?_
          exact W.iret (v := (-1000001)) hx hb hr (fun t9 ht9 hW9 => ⟨⟨_, (va_up F 0 0, Rr), rfl, (by first | (simp [m_owed, c_1, ec1, c_2, c_8, eg1, c_9, up_s, up_n, nI_1, b2i]; done) | (simp_all [m_owed]; done) | grind [m_owed]), by show va_P _ _ _ t9.heap; rw [ht9]; exact M.1⟩, M.2.2.F ht9⟩) M.2.2.2.2 dX2_owed_35

def m_pass (F : Nat → Int32) (Rr : Nat → Nat → Int32) (c inn g day minute paid : Int32) : Int32 × mST := if inB 0 (F 26 - 1) c = false ∨ inB 0 1 inn = false ∨ inB 0 8 g = false ∨ inB 0 999 day = false ∨ inB 0 1439 minute = false ∨ inB 0 100000 paid = false then ((-1000001), F, Rr) else if F 28 = 60 then ((-1000003), F, Rr) else (F 28 + 1, va_up F 28 (F 28 + 1), mset (mset (mset (mset (mset Rr 29 (F 28).toNatClampNeg c) 30 (F 28).toNatClampNeg inn) 31 (F 28).toNatClampNeg g) 32 (F 28).toNatClampNeg (1440 * day + minute)) 33 (F 28).toNatClampNeg paid)
set_option maxHeartbeats 4000000 in
set_option maxRecDepth 100000 in
theorem metX2_pass (l : Launch) (D : va_G) (cl : List vw_C) (hcl : cl[0]? = some (RX2, TX2, 61)) (h : Nat) (ad : Nat → Nat) (dA : ClassId) (F : Nat → Int32) (Rr : Nat → Nat → Int32) (p1 : Int32) (p2 : Int32) (p3 : Int32) (p4 : Int32) (p5 : Int32) (p6 : Int32) (h26 : cnB (F 26) 16) (h28 : cnB (F 28) 60) : Met l yX2_pass (ws_ yX2_pass cX2_pass 7 (some .int)) ({ frames := 2, cells := 0, slots := 0, locals := 46 } : Room) (va_Pc [.ref h, .int p1, .int p2, .int p3, .int p4, .int p5, .int p6] (mPre D cl h ad dA F Rr)) (va_Qi (fun r u => (r, u) = m_pass (va_up F 0 0) Rr p1 p2 p3 p4 p5 p6) (mB D cl h ad dA) (mN h ad)) 0 0 (mN h ad) := by
  refine Met.ofW (cc := cX2_pass) (maxL := 7) (ret := (some .int)) (by decide) rfl ?_
  intro p e s m args below meth c s₁ B hml hv
  obtain ⟨rfl, hK, hP, hD⟩ := hv
  have hx := B.exec
  have hb := B.bytes
  have hr := B.returns
  have hts := atoms_spec (ws := (ws_ yX2_pass cX2_pass 7 (some .int))) B.pre
  have hts : ∀ w ∈ lw_all, w.before _ s = true := fun w h => hts w (List.mem_cons_of_mem _ h)
  have hown : s.vm.findClass RX2 = some m.cls := findClass_of_methodNamed B.named
  have hlocks := B.notSynchronized
  have S : CallFix p m c cX2_pass 7 s ([.ref h, .int p1, .int p2, .int p3, .int p4, .int p5, .int p6] : List Value).toArray lw_all RX2 := ⟨hx, hb, hml, hown, hts⟩
  have X : mX p s m ([.ref h, .int p1, .int p2, .int p3, .int p4, .int p5, .int p6] : List Value).toArray c cX2_pass 7 D cl dA := ⟨hx, hb, hml, hown, hts, hK, hcl⟩
  have M : mM D cl h ad dA (mN h ad) s F Rr s.heap [] := ⟨hP, mW_self hD, va_S.rf⟩
  have hl := lv_entry ([.ref h, .int p1, .int p2, .int p3, .int p4, .int p5, .int p6]) (n := 7) (Nat.le_of_ble_eq_true rfl)
  rw [lg_entry_eq]
  generalize (lg_sl ([.ref h, .int p1, .int p2, .int p3, .int p4, .int p5, .int p6]) ++ List.replicate (7 - (lg_sl ([.ref h, .int p1, .int p2, .int p3, .int p4, .int p5, .int p6])).length) Slot.unset).toArray = ls at hl ⊢
  have hl : lv_has ls 7 [(0, .ref h), (1, .int p1), (2, .int p2), (3, .int p3), (4, .int p4), (5, .int p5), (6, .int p6)] := hl
  obtain ⟨n28, hn28, en28⟩ := cnB_ex h28 (n := 60) rfl
  have em28 : (F 28).toNatClampNeg = n28 := by rw [en28]; exact nI_clamp (by omega)
  have ec28 : (nI n28).toNatClampNeg = n28 := nI_clamp (by omega)
  refine lv_aload_n hx hb dX2_pass_0 rfl (lv_at hl 0 rfl) ?_
  refine lv_iconst (v := 0) hx hb dX2_pass_1 (by decide) ?_
  refine mp_0 X M dX2_pass_2 (fun H locs M => ?_)
  refine lv_aload_n hx hb dX2_pass_5 rfl (lv_at hl 0 rfl) ?_
  refine lv_iload_n hx hb dX2_pass_6 rfl (lv_at hl 1 rfl) ?_
  refine m_cQ (v := b2i (inB 0 ((F 26) - 1) p1)) (As := [.int p1]) (rest := []) X M (metX2_isCart l D cl hcl h ad dA (va_up F 0 0) Rr p1) (cwV 1 hts (lw_V q1777 q1779 qs41 q62 q1780) rfl rfl rfl (by decide +kernel) ⟨Nat.le_of_ble_eq_true rfl, Nat.le_of_ble_eq_true rfl⟩) rfl hl.1 rfl (Nat.le_of_ble_eq_true rfl) dX2_pass_7 ⟨Nat.zero_le _, Nat.zero_le _⟩ ?_
  refine lz_if_eq (tgt := 59) hx hb dX2_pass_10 (by decide) (fun c_1 => ?_) (fun c_1 => ?_)
  · -- c_1: inB 0 ((F 26) - 1) p1 = false
    refine lv_ldc (v := (-1000001)) hx hb hown (hts _ q1627) dX2_pass_59 ?_
    exact W.iret (v := (-1000001)) hx hb hr (fun t9 ht9 hW9 => ⟨⟨_, (va_up F 0 0, Rr), rfl, (by first | (simp [m_pass, en28, ec28, c_1, up_s, up_n, nI_1, b2i]; done) | (simp_all [m_pass]; done) | grind [m_pass]), by show va_P _ _ _ t9.heap; rw [ht9]; exact M.1⟩, M.2.2.F ht9⟩) M.2.2.2.2 dX2_pass_61
  · -- c_1: inB 0 ((F 26) - 1) p1 = true
    refine lv_iload_n hx hb dX2_pass_13 rfl (lv_at hl 2 rfl) ?_
    refine lv_i2l (v := p2.toInt64) hx hb dX2_pass_14 rfl ?_
    refine lv_lconst (v := 0) hx hb dX2_pass_15 (by decide) ?_
    refine lv_lconst (v := 1) hx hb dX2_pass_16 (by decide) ?_
    refine s_cI (v := b2i (inB 0 1 p2)) (As := [.long p2.toInt64, .long 0, .long 1]) (rest := []) S (metX2_inI l p2 0 1 p2.toInt64 0 1 rfl rfl rfl) (va_cwS 3 hts (lw_S q1623 q1624 q62 q1625) rfl rfl rfl (by decide +kernel) ⟨Nat.le_of_ble_eq_true rfl, Nat.le_of_ble_eq_true rfl⟩) rfl hl.1 rfl (Nat.le_of_ble_eq_true rfl) dX2_pass_17 ⟨Nat.zero_le _, Nat.zero_le _⟩ ?_
    refine lz_if_eq (tgt := 59) hx hb dX2_pass_20 (by decide) (fun c_2 => ?_) (fun c_2 => ?_)
    · -- c_2: inB 0 1 p2 = false
      refine lv_ldc (v := (-1000001)) hx hb hown (hts _ q1627) dX2_pass_59 ?_
      exact W.iret (v := (-1000001)) hx hb hr (fun t9 ht9 hW9 => ⟨⟨_, (va_up F 0 0, Rr), rfl, (by first | (simp [m_pass, en28, ec28, c_1, c_2, up_s, up_n, nI_1, b2i]; done) | (simp_all [m_pass]; done) | grind [m_pass]), by show va_P _ _ _ t9.heap; rw [ht9]; exact M.1⟩, M.2.2.F ht9⟩) M.2.2.2.2 dX2_pass_61
    · -- c_2: inB 0 1 p2 = true
      refine lv_iload_n hx hb dX2_pass_23 rfl (lv_at hl 3 rfl) ?_
      refine s_cI (v := b2i (inB 0 8 p3)) (As := [.int p3]) (rest := []) S (metX2_isGate l p3) (va_cwS 1 hts (lw_S q1649 q1650 q62 q1651) rfl rfl rfl (by decide +kernel) ⟨Nat.le_of_ble_eq_true rfl, Nat.le_of_ble_eq_true rfl⟩) rfl hl.1 rfl (Nat.le_of_ble_eq_true rfl) dX2_pass_24 ⟨Nat.zero_le _, Nat.zero_le _⟩ ?_
      refine lz_if_eq (tgt := 59) hx hb dX2_pass_27 (by decide) (fun c_3 => ?_) (fun c_3 => ?_)
      · -- c_3: inB 0 8 p3 = false
        refine lv_ldc (v := (-1000001)) hx hb hown (hts _ q1627) dX2_pass_59 ?_
        exact W.iret (v := (-1000001)) hx hb hr (fun t9 ht9 hW9 => ⟨⟨_, (va_up F 0 0, Rr), rfl, (by first | (simp [m_pass, en28, ec28, c_1, c_2, c_3, up_s, up_n, nI_1, b2i]; done) | (simp_all [m_pass]; done) | grind [m_pass]), by show va_P _ _ _ t9.heap; rw [ht9]; exact M.1⟩, M.2.2.F ht9⟩) M.2.2.2.2 dX2_pass_61
      · -- c_3: inB 0 8 p3 = true
        refine lv_iload hx hb dX2_pass_30 (lv_at hl 4 rfl) ?_
        refine s_cI (v := b2i (inB 0 999 p4)) (As := [.int p4]) (rest := []) S (metX2_isDay l p4) (va_cwS 1 hts (lw_S q1736 q1737 q62 q1738) rfl rfl rfl (by decide +kernel) ⟨Nat.le_of_ble_eq_true rfl, Nat.le_of_ble_eq_true rfl⟩) rfl hl.1 rfl (Nat.le_of_ble_eq_true rfl) dX2_pass_32 ⟨Nat.zero_le _, Nat.zero_le _⟩ ?_
        refine lz_if_eq (tgt := 59) hx hb dX2_pass_35 (by decide) (fun c_4 => ?_) (fun c_4 => ?_)
        · -- c_4: inB 0 999 p4 = false
          refine lv_ldc (v := (-1000001)) hx hb hown (hts _ q1627) dX2_pass_59 ?_
          exact W.iret (v := (-1000001)) hx hb hr (fun t9 ht9 hW9 => ⟨⟨_, (va_up F 0 0, Rr), rfl, (by first | (simp [m_pass, en28, ec28, c_1, c_2, c_3, c_4, up_s, up_n, nI_1, b2i]; done) | (simp_all [m_pass]; done) | grind [m_pass]), by show va_P _ _ _ t9.heap; rw [ht9]; exact M.1⟩, M.2.2.F ht9⟩) M.2.2.2.2 dX2_pass_61
        · -- c_4: inB 0 999 p4 = true
          refine lv_iload hx hb dX2_pass_38 (lv_at hl 5 rfl) ?_
          refine s_cI (v := b2i (inB 0 1439 p5)) (As := [.int p5]) (rest := []) S (metX2_isMinute l p5) (va_cwS 1 hts (lw_S q1653 q1654 q62 q1655) rfl rfl rfl (by decide +kernel) ⟨Nat.le_of_ble_eq_true rfl, Nat.le_of_ble_eq_true rfl⟩) rfl hl.1 rfl (Nat.le_of_ble_eq_true rfl) dX2_pass_40 ⟨Nat.zero_le _, Nat.zero_le _⟩ ?_
          refine lz_if_eq (tgt := 59) hx hb dX2_pass_43 (by decide) (fun c_5 => ?_) (fun c_5 => ?_)
          · -- c_5: inB 0 1439 p5 = false
            refine lv_ldc (v := (-1000001)) hx hb hown (hts _ q1627) dX2_pass_59 ?_
            exact W.iret (v := (-1000001)) hx hb hr (fun t9 ht9 hW9 => ⟨⟨_, (va_up F 0 0, Rr), rfl, (by first | (simp [m_pass, en28, ec28, c_1, c_2, c_3, c_4, c_5, up_s, up_n, nI_1, b2i]; done) | (simp_all [m_pass]; done) | grind [m_pass]), by show va_P _ _ _ t9.heap; rw [ht9]; exact M.1⟩, M.2.2.F ht9⟩) M.2.2.2.2 dX2_pass_61
          · -- c_5: inB 0 1439 p5 = true
            refine lv_iload hx hb dX2_pass_46 (lv_at hl 6 rfl) ?_
            refine lv_i2l (v := p6.toInt64) hx hb dX2_pass_48 rfl ?_
            refine lv_lconst (v := 0) hx hb dX2_pass_49 (by decide) ?_
            refine lv_ldc2 (v := 100000) hx hb hown (hts _ q1789) dX2_pass_50 ?_
            refine s_cI (v := b2i (inB 0 100000 p6)) (As := [.long p6.toInt64, .long 0, .long 100000]) (rest := []) S (metX2_inI l p6 0 100000 p6.toInt64 0 100000 rfl rfl rfl) (va_cwS 3 hts (lw_S q1623 q1624 q62 q1625) rfl rfl rfl (by decide +kernel) ⟨Nat.le_of_ble_eq_true rfl, Nat.le_of_ble_eq_true rfl⟩) rfl hl.1 rfl (Nat.le_of_ble_eq_true rfl) dX2_pass_53 ⟨Nat.zero_le _, Nat.zero_le _⟩ ?_
            refine lz_if_ne (tgt := 62) hx hb dX2_pass_56 (by decide) (fun c_6 => ?_) (fun c_6 => ?_)
            · -- c_6: inB 0 100000 p6 = true
              refine lv_aload_n hx hb dX2_pass_62 rfl (lv_at hl 0 rfl) ?_
              refine mg_28 X M (v := F 28) rfl dX2_pass_63 ?_
              refine lv_asi (y := nI n28) en28 ?_
              refine lv_bipush (v := 60) hx hb dX2_pass_66 (by decide) ?_
              refine lv_icmp_ne (tgt := 74) hx hb dX2_pass_68 (by decide) (fun c_7 => ?_) (fun c_7 => ?_)
              · -- c_7: nI n28 ≠ 60
                have hn28b : n28 < 60 := nI_lt_ne (N := 60) c_7 hn28
                refine lv_aload_n hx hb dX2_pass_74 rfl (lv_at hl 0 rfl) ?_
                refine mg_29 X M dX2_pass_75 ?_
                refine lv_aload_n hx hb dX2_pass_78 rfl (lv_at hl 0 rfl) ?_
                refine mg_28 X M (v := F 28) rfl dX2_pass_79 ?_
                refine lv_asi (y := nI n28) en28 ?_
                refine lv_iload_n hx hb dX2_pass_82 rfl (lv_at hl 1 rfl) ?_
                refine ms_29 X M (j := n28) (vp_in_nI (by omega) (by omega)) (nI_clamp (by omega)) dX2_pass_83 (fun H locs M => ?_)
                refine lv_aload_n hx hb dX2_pass_84 rfl (lv_at hl 0 rfl) ?_
                refine mg_30 X M dX2_pass_85 ?_
                refine lv_aload_n hx hb dX2_pass_88 rfl (lv_at hl 0 rfl) ?_
                refine mg_28 X M (v := F 28) rfl dX2_pass_89 ?_
                refine lv_asi (y := nI n28) en28 ?_
                refine lv_iload_n hx hb dX2_pass_92 rfl (lv_at hl 2 rfl) ?_
                refine ms_30 X M (j := n28) (vp_in_nI (by omega) (by omega)) (nI_clamp (by omega)) dX2_pass_93 (fun H locs M => ?_)
                refine lv_aload_n hx hb dX2_pass_94 rfl (lv_at hl 0 rfl) ?_
                refine mg_31 X M dX2_pass_95 ?_
                refine lv_aload_n hx hb dX2_pass_98 rfl (lv_at hl 0 rfl) ?_
                refine mg_28 X M (v := F 28) rfl dX2_pass_99 ?_
                refine lv_asi (y := nI n28) en28 ?_
                refine lv_iload_n hx hb dX2_pass_102 rfl (lv_at hl 3 rfl) ?_
                refine ms_31 X M (j := n28) (vp_in_nI (by omega) (by omega)) (nI_clamp (by omega)) dX2_pass_103 (fun H locs M => ?_)
                refine lv_aload_n hx hb dX2_pass_104 rfl (lv_at hl 0 rfl) ?_
                refine mg_32 X M dX2_pass_105 ?_
                refine lv_aload_n hx hb dX2_pass_108 rfl (lv_at hl 0 rfl) ?_
                refine mg_28 X M (v := F 28) rfl dX2_pass_109 ?_
                refine lv_asi (y := nI n28) en28 ?_
                refine lv_sipush (v := 1440) hx hb dX2_pass_112 (by decide) ?_
                refine lv_iload hx hb dX2_pass_115 (lv_at hl 4 rfl) ?_
                refine lv_imul hx hb dX2_pass_117 ?_
                refine lv_iload hx hb dX2_pass_118 (lv_at hl 5 rfl) ?_
                refine lv_iadd hx hb dX2_pass_120 ?_
                refine ms_32 X M (j := n28) (vp_in_nI (by omega) (by omega)) (nI_clamp (by omega)) dX2_pass_121 (fun H locs M => ?_)
                refine lv_aload_n hx hb dX2_pass_122 rfl (lv_at hl 0 rfl) ?_
                refine mg_33 X M dX2_pass_123 ?_
                refine lv_aload_n hx hb dX2_pass_126 rfl (lv_at hl 0 rfl) ?_
                refine mg_28 X M (v := F 28) rfl dX2_pass_127 ?_
                refine lv_asi (y := nI n28) en28 ?_
                refine lv_iload hx hb dX2_pass_130 (lv_at hl 6 rfl) ?_
                refine ms_33 X M (j := n28) (vp_in_nI (by omega) (by omega)) (nI_clamp (by omega)) dX2_pass_132 (fun H locs M => ?_)
                refine lv_aload_n hx hb dX2_pass_133 rfl (lv_at hl 0 rfl) ?_
                refine lv_dup hx hb dX2_pass_134 rfl ?_
                refine mg_28 X M (v := F 28) rfl dX2_pass_135 ?_
                refine lv_asi (y := nI n28) en28 ?_
                refine lv_iconst (v := 1) hx hb dX2_pass_138 (by decide) ?_
                refine lv_iadd hx hb dX2_pass_139 ?_
                refine lv_asi (y := nI (n28 + 1)) (nI_add n28 1) ?_
                refine mp_28 X M dX2_pass_140 (fun H locs M => ?_)
                refine lv_aload_n hx hb dX2_pass_143 rfl (lv_at hl 0 rfl) ?_
                refine mg_28 X M (v := nI (n28 + 1)) rfl dX2_pass_144 ?_
                exact W.iret (v := nI (n28 + 1)) hx hb hr (fun t9 ht9 hW9 => ⟨⟨_, (va_up (va_up F 0 0) 28 (nI (n28 + 1)), mset (mset (mset (mset (mset Rr 29 n28 p1) 30 n28 p2) 31 n28 p3) 32 n28 ((1440 * p4) + p5)) 33 n28 p6), rfl, (by first | (simp [m_pass, en28, ec28, c_1, c_2, c_3, c_4, c_5, c_6, c_7, up_s, up_n, nI_1, b2i]; done) | (simp_all [m_pass]; done) | grind [m_pass]), by show va_P _ _ _ t9.heap; rw [ht9]; exact M.1⟩, M.2.2.F ht9⟩) M.2.2.2.2 dX2_pass_147
              · -- c_7: nI n28 = 60
                refine lv_ldc (v := (-1000003)) hx hb hown (hts _ q1675) dX2_pass_71 ?_
                exact W.iret (v := (-1000003)) hx hb hr (fun t9 ht9 hW9 => ⟨⟨_, (va_up F 0 0, Rr), rfl, (by first | (simp [m_pass, en28, ec28, c_1, c_2, c_3, c_4, c_5, c_6, c_7, up_s, up_n, nI_1, b2i]; done) | (simp_all [m_pass]; done) | grind [m_pass]), by show va_P _ _ _ t9.heap; rw [ht9]; exact M.1⟩, M.2.2.F ht9⟩) M.2.2.2.2 dX2_pass_73
            · -- c_6: inB 0 100000 p6 = false
              refine lv_ldc (v := (-1000001)) hx hb hown (hts _ q1627) dX2_pass_59 ?_
              exact W.iret (v := (-1000001)) hx hb hr (fun t9 ht9 hW9 => ⟨⟨_, (va_up F 0 0, Rr), rfl, (by first | (simp [m_pass, en28, ec28, c_1, c_2, c_3, c_4, c_5, c_6, up_s, up_n, nI_1, b2i]; done) | (simp_all [m_pass]; done) | grind [m_pass]), by show va_P _ _ _ t9.heap; rw [ht9]; exact M.1⟩, M.2.2.F ht9⟩) M.2.2.2.2 dX2_pass_61

def m_amissStep (F : Nat → Int32) (Rr : Nat → Nat → Int32) (g one fin : Int32) (k : Nat) (sum : Int32) : Int32 := if Rr 30 k = 1 ∧ (g = (-1000000) ∨ Rr 31 k = g) ∧ one ≤ Rr 32 k / 1440 ∧ Rr 32 k / 1440 ≤ fin then sum + (m_owedBy (F 10) Rr (Rr 29 k).toNatClampNeg (Rr 31 k).toNatClampNeg (Rr 32 k / 1440) - Rr 33 k) else sum
def m_amiss (F : Nat → Int32) (Rr : Nat → Nat → Int32) (g one fin : Int32) : Int32 × mST := if (¬ g = (-1000000) ∧ inB 0 8 g = false) ∨ inB 0 999 one = false ∨ inB one 999 fin = false then ((-1000001), F, Rr) else (itr (m_amissStep F Rr g one fin) (F 28).toNatClampNeg 0, F, Rr)
set_option maxHeartbeats 4000000 in
set_option maxRecDepth 100000 in
theorem metX2_amiss (l : Launch) (D : va_G) (cl : List vw_C) (hcl : cl[0]? = some (RX2, TX2, 61)) (h : Nat) (ad : Nat → Nat) (dA : ClassId) (F : Nat → Int32) (Rr : Nat → Nat → Int32) (p1 : Int32) (p2 : Int32) (p3 : Int32) (h10 : cnB (F 10) 30) (h28 : cnB (F 28) 60) (h29 : ∀ k, k < (F 28).toNatClampNeg → cnB (Rr 29 k) 15 ∧ cnB (Rr 31 k) 8 ∧ cnB (Rr 32 k) 1439999) : Met l yX2_amiss (ws_ yX2_amiss cX2_amiss 7 (some .int)) ({ frames := 3, cells := 0, slots := 0, locals := 77 } : Room) (va_Pc [.ref h, .int p1, .int p2, .int p3] (mPre D cl h ad dA F Rr)) (va_Qi (fun r u => (r, u) = m_amiss (va_up F 0 0) Rr p1 p2 p3) (mB D cl h ad dA) (mN h ad)) 0 0 (mN h ad) := by
  refine Met.ofW (cc := cX2_amiss) (maxL := 7) (ret := (some .int)) (by decide) rfl ?_
  intro p e s m args below meth c s₁ B hml hv
  obtain ⟨rfl, hK, hP, hD⟩ := hv
  have hx := B.exec
  have hb := B.bytes
  have hr := B.returns
  have hts := atoms_spec (ws := (ws_ yX2_amiss cX2_amiss 7 (some .int))) B.pre
  have hts : ∀ w ∈ lw_all, w.before _ s = true := fun w h => hts w (List.mem_cons_of_mem _ h)
  have hown : s.vm.findClass RX2 = some m.cls := findClass_of_methodNamed B.named
  have hlocks := B.notSynchronized
  have S : CallFix p m c cX2_amiss 7 s ([.ref h, .int p1, .int p2, .int p3] : List Value).toArray lw_all RX2 := ⟨hx, hb, hml, hown, hts⟩
  have X : mX p s m ([.ref h, .int p1, .int p2, .int p3] : List Value).toArray c cX2_amiss 7 D cl dA := ⟨hx, hb, hml, hown, hts, hK, hcl⟩
  have M : mM D cl h ad dA (mN h ad) s F Rr s.heap [] := ⟨hP, mW_self hD, va_S.rf⟩
  have hl := lv_entry ([.ref h, .int p1, .int p2, .int p3]) (n := 7) (Nat.le_of_ble_eq_true rfl)
  rw [lg_entry_eq]
  generalize (lg_sl ([.ref h, .int p1, .int p2, .int p3]) ++ List.replicate (7 - (lg_sl ([.ref h, .int p1, .int p2, .int p3])).length) Slot.unset).toArray = ls at hl ⊢
  have hl : lv_has ls 7 [(0, .ref h), (1, .int p1), (2, .int p2), (3, .int p3)] := hl
  obtain ⟨n28, hn28, en28⟩ := cnB_ex h28 (n := 60) rfl
  have em28 : (F 28).toNatClampNeg = n28 := by rw [en28]; exact nI_clamp (by omega)
  have ec28 : (nI n28).toNatClampNeg = n28 := nI_clamp (by omega)
  refine lv_aload_n hx hb dX2_amiss_0 rfl (lv_at hl 0 rfl) ?_
  refine lv_iconst (v := 0) hx hb dX2_amiss_1 (by decide) ?_
  refine mp_0 X M dX2_amiss_2 (fun H locs M => ?_)
  refine lv_iload_n hx hb dX2_amiss_5 rfl (lv_at hl 1 rfl) ?_
  refine lv_ldc (v := (-1000000)) hx hb hown (hts _ q1430) dX2_amiss_6 ?_
  refine lv_icmp_eq (tgt := 18) hx hb dX2_amiss_8 (by decide) (fun c_1 => ?_) (fun c_1 => ?_)
  · -- c_1: p1 = (-1000000)
    refine lv_iload_n hx hb dX2_amiss_18 rfl (lv_at hl 2 rfl) ?_
    refine s_cI (v := b2i (inB 0 999 p2)) (As := [.int p2]) (rest := []) S (metX2_isDay l p2) (va_cwS 1 hts (lw_S q1736 q1737 q62 q1738) rfl rfl rfl (by decide +kernel) ⟨Nat.le_of_ble_eq_true rfl, Nat.le_of_ble_eq_true rfl⟩) rfl hl.1 rfl (Nat.le_of_ble_eq_true rfl) dX2_amiss_19 ⟨Nat.zero_le _, Nat.zero_le _⟩ ?_
    refine lz_if_eq (tgt := 38) hx hb dX2_amiss_22 (by decide) (fun c_2 => ?_) (fun c_2 => ?_)
    · -- c_2: inB 0 999 p2 = false
      refine lv_ldc (v := (-1000001)) hx hb hown (hts _ q1627) dX2_amiss_38 ?_
      exact W.iret (v := (-1000001)) hx hb hr (fun t9 ht9 hW9 => ⟨⟨_, (va_up F 0 0, Rr), rfl, (by first | (simp [m_amiss, em28, c_1, c_2, up_s, up_n, nI_1, b2i]; done) | (simp_all [m_amiss]; done) | grind [m_amiss]), by show va_P _ _ _ t9.heap; rw [ht9]; exact M.1⟩, M.2.2.F ht9⟩) M.2.2.2.2 dX2_amiss_40
    · -- c_2: inB 0 999 p2 = true
      refine lv_iload_n hx hb dX2_amiss_25 rfl (lv_at hl 3 rfl) ?_
      refine lv_i2l (v := p3.toInt64) hx hb dX2_amiss_26 rfl ?_
      refine lv_iload_n hx hb dX2_amiss_27 rfl (lv_at hl 2 rfl) ?_
      refine lv_i2l (v := p2.toInt64) hx hb dX2_amiss_28 rfl ?_
      refine lv_ldc2 (v := 999) hx hb hown (hts _ q1670) dX2_amiss_29 ?_
      refine s_cI (v := b2i (inB p2 999 p3)) (As := [.long p3.toInt64, .long p2.toInt64, .long 999]) (rest := []) S (metX2_inI l p3 p2 999 p3.toInt64 p2.toInt64 999 rfl rfl rfl) (va_cwS 3 hts (lw_S q1623 q1624 q62 q1625) rfl rfl rfl (by decide +kernel) ⟨Nat.le_of_ble_eq_true rfl, Nat.le_of_ble_eq_true rfl⟩) rfl hl.1 rfl (Nat.le_of_ble_eq_true rfl) dX2_amiss_32 ⟨Nat.zero_le _, Nat.zero_le _⟩ ?_
      refine lz_if_ne (tgt := 41) hx hb dX2_amiss_35 (by decide) (fun c_3 => ?_) (fun c_3 => ?_)
      · -- c_3: inB p2 999 p3 = true
        refine lv_iconst (v := 0) hx hb dX2_amiss_41 (by decide) ?_
        refine lv_istore (lv' := [(4, .int 0), (0, .ref h), (1, .int p1), (2, .int p2), (3, .int p3)]) hx hb dX2_amiss_42 hl (by decide) rfl (fun ls hl => ?_)
        refine lv_iconst (v := 0) hx hb dX2_amiss_44 (by decide) ?_
        refine lv_istore (lv' := [(5, .int 0), (4, .int 0), (0, .ref h), (1, .int p1), (2, .int p2), (3, .int p3)]) hx hb dX2_amiss_45 hl (by decide) rfl (fun ls hl => ?_)
        have L_4 : ∀ (fuL_4 : Nat) (i : Nat) (x : Int32), (i ≤ n28) → (x = itr (m_amissStep F Rr p1 p2 p3) i 0) → n28 - i < fuL_4 → ∀ (H : Heap) (locs : List Loc), mM D cl h ad dA (mN h ad) s (va_up F 0 0) Rr H locs → ∀ ls, lv_has ls 7 [(0, .ref h), (1, .int p1), (2, .int p2), (3, .int p3), (4, .int x), (5, .int (nI i))] → W p l e ({ frames := 3, cells := 0, slots := 0, locals := 77 } : Room) s m ([.ref h, .int p1, .int p2, .int p3] : List Value).toArray below meth c H locs 0 0 (MQ below (va_Qi (fun r u => (r, u) = m_amiss (va_up F 0 0) Rr p1 p2 p3) (mB D cl h ad dA) (mN h ad)) ([.ref h, .int p1, .int p2, .int p3] : List Value).toArray s 0 0 (mN h ad)) (F0 m 47 ls []) := by
          intro fuL_4
          induction fuL_4 with
          | zero => intro i x hi qx hfuL_4; exact absurd hfuL_4 (Nat.not_lt_zero _)
          | succ fuL_4 L_4ih =>
            intro i x hi qx hfuL_4 H locs M ls hl
            refine lv_iload hx hb dX2_amiss_47 (lv_at hl 5 rfl) ?_
            refine lv_aload_n hx hb dX2_amiss_49 rfl (lv_at hl 0 rfl) ?_
            refine mg_28 X M (v := F 28) rfl dX2_amiss_50 ?_
            refine lv_asi (y := nI n28) en28 ?_
            refine ln_icmp_ge (tgt := 148) hx hb (a := i) (b := n28) (by omega) (by omega) dX2_amiss_53 (by decide) (fun c_5 => ?_) (fun c_5 => ?_)
            · -- c_5: nI i ≥ nI n28
              have ei : i = n28 := by omega
              rw [ei] at qx
              refine lv_iload hx hb dX2_amiss_148 (lv_at hl 4 rfl) ?_
              exact W.iret (v := x) hx hb hr (fun t9 ht9 hW9 => ⟨⟨_, (va_up F 0 0, Rr), rfl, (by simp [m_amiss, up_s, up_n, em28, c_1, c_2, c_3, c_5, qx, show m_amissStep (va_up F 0 0) = m_amissStep F from rfl]), by show va_P _ _ _ t9.heap; rw [ht9]; exact M.1⟩, M.2.2.F ht9⟩) M.2.2.2.2 dX2_amiss_150
            · -- c_5: nI i < nI n28
              refine lv_aload_n hx hb dX2_amiss_56 rfl (lv_at hl 0 rfl) ?_
              refine mg_32 X M dX2_amiss_57 ?_
              refine lv_iload hx hb dX2_amiss_60 (lv_at hl 5 rfl) ?_
              refine mr_32 X M (f := Rr 32) rfl (j := i) (vp_in_nI (by omega) (by omega)) (nI_clamp (by omega)) dX2_amiss_62 ?_
              refine lv_sipush (v := 1440) hx hb dX2_amiss_63 (by decide) ?_
              refine lv_idiv hx hb dX2_amiss_66 (by decide) ?_
              refine lv_istore (lv' := [(6, .int ((Rr 32 i) / 1440)), (0, .ref h), (1, .int p1), (2, .int p2), (3, .int p3), (4, .int x), (5, .int (nI i))]) hx hb dX2_amiss_67 hl (by decide) rfl (fun ls hl => ?_)
              refine lv_aload_n hx hb dX2_amiss_69 rfl (lv_at hl 1 rfl) ?_
              refine mg_30 X M dX2_amiss_70 ?_
              refine lv_iload hx hb dX2_amiss_73 (lv_at hl 6 rfl) ?_
              refine mr_30 X M (f := Rr 30) rfl (j := i) (vp_in_nI (by omega) (by omega)) (nI_clamp (by omega)) dX2_amiss_75 ?_
              refine lv_iconst (v := 1) hx hb dX2_amiss_76 (by decide) ?_
              refine lv_icmp_ne (tgt := 142) hx hb dX2_amiss_77 (by decide) (fun c_6 => ?_) (fun c_6 => ?_)
              · -- c_6: Rr 30 i ≠ 1
                refine lv_iinc (v := nI (i + 1)) (lv' := [(5, .int (nI (i + 1))), (6, .int ((Rr 32 i) / 1440)), (0, .ref h), (1, .int p1), (2, .int p2), (3, .int p3), (4, .int x)]) hx hb dX2_amiss_142 hl (k := 6) rfl (mk_inc _) (by decide) rfl (fun ls hl => ?_)
                refine lv_goto (tgt := 47) hx hb dX2_amiss_145 (by decide) ?_
                exact L_4ih  (i + 1) x (by omega) (by first | (rw [itr_s, ← qx]; done) | (rw [itr_s, ← qx]; first | (simp [m_amissStep, em28, c_1, c_2, c_3, c_5, c_6, up_s, up_n, nI_1, b2i]; done) | (simp_all [m_amissStep]; done) | grind [m_amissStep])) (by omega) _ _ M ls (lv_sub hl [2, 3, 4, 5, 6, 0] rfl)
              · -- c_6: Rr 30 i = 1
                refine lv_iload_n hx hb dX2_amiss_80 rfl (lv_at hl 2 rfl) ?_
                refine lv_ldc (v := (-1000000)) hx hb hown (hts _ q1430) dX2_amiss_81 ?_
                refine lv_icmp_eq (tgt := 97) hx hb dX2_amiss_83 (by decide) (fun c_7 => ?_) (fun c_7 => absurd c_1 c_7)
                refine lv_iload hx hb dX2_amiss_97 (lv_at hl 0 rfl) ?_
                refine lv_iload_n hx hb dX2_amiss_99 rfl (lv_at hl 3 rfl) ?_
                refine lb_icmp_lt (tgt := 142) hx hb dX2_amiss_100 (by decide) (fun c_8 c_8' => ?_) (fun c_8 c_8' => ?_)
                · -- c_8: (Rr 32 i) / 1440 < p2
                  refine lv_iinc (v := nI (i + 1)) (lv' := [(5, .int (nI (i + 1))), (6, .int ((Rr 32 i) / 1440)), (0, .ref h), (1, .int p1), (2, .int p2), (3, .int p3), (4, .int x)]) hx hb dX2_amiss_142 hl (k := 6) rfl (mk_inc _) (by decide) rfl (fun ls hl => ?_)
                  refine lv_goto (tgt := 47) hx hb dX2_amiss_145 (by decide) ?_
                  exact L_4ih  (i + 1) x (by omega) (by first | (rw [itr_s, ← qx]; done) | (rw [itr_s, ← qx]; first | (simp [m_amissStep, em28, c_1, c_2, c_3, c_5, c_6, c_8, c_8', up_s, up_n, nI_1, b2i]; done) | (simp_all [m_amissStep]; done) | grind [m_amissStep])) (by omega) _ _ M ls (lv_sub hl [2, 3, 4, 5, 6, 0] rfl)
                · -- c_8: (Rr 32 i) / 1440 ≥ p2
                  refine lv_iload hx hb dX2_amiss_103 (lv_at hl 0 rfl) ?_
                  refine lv_iload_n hx hb dX2_amiss_105 rfl (lv_at hl 4 rfl) ?_
                  refine lb_icmp_gt (tgt := 142) hx hb dX2_amiss_106 (by decide) (fun c_9 c_9' => ?_) (fun c_9 c_9' => ?_)
                  · -- c_9: (Rr 32 i) / 1440 > p3
                    refine lv_iinc (v := nI (i + 1)) (lv' := [(5, .int (nI (i + 1))), (6, .int ((Rr 32 i) / 1440)), (0, .ref h), (1, .int p1), (2, .int p2), (3, .int p3), (4, .int x)]) hx hb dX2_amiss_142 hl (k := 6) rfl (mk_inc _) (by decide) rfl (fun ls hl => ?_)
                    refine lv_goto (tgt := 47) hx hb dX2_amiss_145 (by decide) ?_
                    exact L_4ih  (i + 1) x (by omega) (by first | (rw [itr_s, ← qx]; done) | (rw [itr_s, ← qx]; first | (simp [m_amissStep, em28, c_1, c_2, c_3, c_5, c_6, c_8, c_8', c_9, c_9', up_s, up_n, nI_1, b2i]; done) | (simp_all [m_amissStep]; done) | grind [m_amissStep])) (by omega) _ _ M ls (lv_sub hl [2, 3, 4, 5, 6, 0] rfl)
                  · -- c_9: (Rr 32 i) / 1440 ≤ p3
                    refine lv_iload hx hb dX2_amiss_109 (lv_at hl 5 rfl) ?_
                    refine lv_aload_n hx hb dX2_amiss_111 rfl (lv_at hl 1 rfl) ?_
                    refine lv_aload_n hx hb dX2_amiss_112 rfl (lv_at hl 1 rfl) ?_
                    refine mg_29 X M dX2_amiss_113 ?_
                    refine lv_iload hx hb dX2_amiss_116 (lv_at hl 6 rfl) ?_
                    refine mr_29 X M (f := Rr 29) rfl (j := i) (vp_in_nI (by omega) (by omega)) (nI_clamp (by omega)) dX2_amiss_118 ?_
                    have b_10 : (Rr 29 i).toNatClampNeg ≤ 15 := cnB_le (h29 i (by omega)).1 rfl
                    refine lv_asi (y := nI (Rr 29 i).toNatClampNeg) (nJ_of ((h29 i (by omega)).1).1) ?_
                    refine lv_aload_n hx hb dX2_amiss_119 rfl (lv_at hl 1 rfl) ?_
                    refine mg_31 X M dX2_amiss_120 ?_
                    refine lv_iload hx hb dX2_amiss_123 (lv_at hl 6 rfl) ?_
                    refine mr_31 X M (f := Rr 31) rfl (j := i) (vp_in_nI (by omega) (by omega)) (nI_clamp (by omega)) dX2_amiss_125 ?_
                    have b_11 : (Rr 31 i).toNatClampNeg ≤ 8 := cnB_le (h29 i (by omega)).2.1 rfl
                    refine lv_asi (y := nI (Rr 31 i).toNatClampNeg) (nJ_of ((h29 i (by omega)).2.1).1) ?_
                    refine lv_iload hx hb dX2_amiss_126 (lv_at hl 0 rfl) ?_
                    refine m_cQ (v := m_owedBy (F 10) Rr ((Rr 29 i).toNatClampNeg) ((Rr 31 i).toNatClampNeg) ((Rr 32 i) / 1440)) (As := [.int (nI ((Rr 29 i).toNatClampNeg)), .int (nI ((Rr 31 i).toNatClampNeg)), .int ((Rr 32 i) / 1440)]) (rest := [.int x]) X M (metX2_owedBy l D cl hcl h ad dA (va_up F 0 0) Rr ((Rr 29 i).toNatClampNeg) ((Rr 31 i).toNatClampNeg) ((Rr 32 i) / 1440) (by omega) (by omega) h10) (cwV 3 hts (lw_V q1781 q1783 qs42 q62 q1784) rfl rfl rfl (by decide +kernel) ⟨Nat.le_of_ble_eq_true rfl, Nat.le_of_ble_eq_true rfl⟩) rfl hl.1 rfl (Nat.le_of_ble_eq_true rfl) dX2_amiss_128 ⟨Nat.zero_le _, Nat.zero_le _⟩ ?_
                    refine lv_aload_n hx hb dX2_amiss_131 rfl (lv_at hl 1 rfl) ?_
                    refine mg_33 X M dX2_amiss_132 ?_
                    refine lv_iload hx hb dX2_amiss_135 (lv_at hl 6 rfl) ?_
                    refine mr_33 X M (f := Rr 33) rfl (j := i) (vp_in_nI (by omega) (by omega)) (nI_clamp (by omega)) dX2_amiss_137 ?_
                    refine lv_isub hx hb dX2_amiss_138 ?_
                    refine lv_iadd hx hb dX2_amiss_139 ?_
                    refine lv_istore (lv' := [(4, .int (x + ((m_owedBy (F 10) Rr ((Rr 29 i).toNatClampNeg) ((Rr 31 i).toNatClampNeg) ((Rr 32 i) / 1440)) - (Rr 33 i)))), (6, .int ((Rr 32 i) / 1440)), (0, .ref h), (1, .int p1), (2, .int p2), (3, .int p3), (5, .int (nI i))]) hx hb dX2_amiss_140 hl (by decide) rfl (fun ls hl => ?_)
                    refine lv_iinc (v := nI (i + 1)) (lv' := [(5, .int (nI (i + 1))), (4, .int (x + ((m_owedBy (F 10) Rr ((Rr 29 i).toNatClampNeg) ((Rr 31 i).toNatClampNeg) ((Rr 32 i) / 1440)) - (Rr 33 i)))), (6, .int ((Rr 32 i) / 1440)), (0, .ref h), (1, .int p1), (2, .int p2), (3, .int p3)]) hx hb dX2_amiss_142 hl (k := 6) rfl (mk_inc _) (by decide) rfl (fun ls hl => ?_)
                    refine lv_goto (tgt := 47) hx hb dX2_amiss_145 (by decide) ?_
                    exact L_4ih  (i + 1) (x + ((m_owedBy (F 10) Rr ((Rr 29 i).toNatClampNeg) ((Rr 31 i).toNatClampNeg) ((Rr 32 i) / 1440)) - (Rr 33 i))) (by omega) (by first | (rw [itr_s, ← qx]; done) | (rw [itr_s, ← qx]; first | (simp [m_amissStep, em28, c_1, c_2, c_3, c_5, c_6, c_8, c_8', c_9, c_9', up_s, up_n, nI_1, b2i]; done) | (simp_all [m_amissStep]; done) | grind [m_amissStep])) (by omega) _ _ M ls (lv_sub hl [3, 4, 5, 6, 1, 0] rfl)
        exact L_4 ((n28 - 0) + 1) 0 0 (Nat.zero_le _) (by first | rfl | (simp only [itr]; assumption) | (simp [itr, em28, c_1, c_2, c_3, up_s, up_n, nI_1, b2i]; done)) (Nat.lt_succ_self _) _ _ M ls (lv_sub hl [2, 3, 4, 5, 1, 0] rfl)
      · -- c_3: inB p2 999 p3 = false
        refine lv_ldc (v := (-1000001)) hx hb hown (hts _ q1627) dX2_amiss_38 ?_
        exact W.iret (v := (-1000001)) hx hb hr (fun t9 ht9 hW9 => ⟨⟨_, (va_up F 0 0, Rr), rfl, (by first | (simp [m_amiss, em28, c_1, c_2, c_3, up_s, up_n, nI_1, b2i]; done) | (simp_all [m_amiss]; done) | grind [m_amiss]), by show va_P _ _ _ t9.heap; rw [ht9]; exact M.1⟩, M.2.2.F ht9⟩) M.2.2.2.2 dX2_amiss_40
  · -- c_1: p1 ≠ (-1000000)
    refine lv_iload_n hx hb dX2_amiss_11 rfl (lv_at hl 1 rfl) ?_
    refine s_cI (v := b2i (inB 0 8 p1)) (As := [.int p1]) (rest := []) S (metX2_isGate l p1) (va_cwS 1 hts (lw_S q1649 q1650 q62 q1651) rfl rfl rfl (by decide +kernel) ⟨Nat.le_of_ble_eq_true rfl, Nat.le_of_ble_eq_true rfl⟩) rfl hl.1 rfl (Nat.le_of_ble_eq_true rfl) dX2_amiss_12 ⟨Nat.zero_le _, Nat.zero_le _⟩ ?_
    refine lz_if_eq (tgt := 38) hx hb dX2_amiss_15 (by decide) (fun c_12 => ?_) (fun c_12 => ?_)
    · -- c_12: inB 0 8 p1 = false
      refine lv_ldc (v := (-1000001)) hx hb hown (hts _ q1627) dX2_amiss_38 ?_
      exact W.iret (v := (-1000001)) hx hb hr (fun t9 ht9 hW9 => ⟨⟨_, (va_up F 0 0, Rr), rfl, (by first | (simp [m_amiss, em28, c_1, c_12, up_s, up_n, nI_1, b2i]; done) | (simp_all [m_amiss]; done) | grind [m_amiss]), by show va_P _ _ _ t9.heap; rw [ht9]; exact M.1⟩, M.2.2.F ht9⟩) M.2.2.2.2 dX2_amiss_40
    · -- c_12: inB 0 8 p1 = true
      refine lv_iload_n hx hb dX2_amiss_18 rfl (lv_at hl 2 rfl) ?_
      refine s_cI (v := b2i (inB 0 999 p2)) (As := [.int p2]) (rest := []) S (metX2_isDay l p2) (va_cwS 1 hts (lw_S q1736 q1737 q62 q1738) rfl rfl rfl (by decide +kernel) ⟨Nat.le_of_ble_eq_true rfl, Nat.le_of_ble_eq_true rfl⟩) rfl hl.1 rfl (Nat.le_of_ble_eq_true rfl) dX2_amiss_19 ⟨Nat.zero_le _, Nat.zero_le _⟩ ?_
      refine lz_if_eq (tgt := 38) hx hb dX2_amiss_22 (by decide) (fun c_13 => ?_) (fun c_13 => ?_)
      · -- c_13: inB 0 999 p2 = false
        refine lv_ldc (v := (-1000001)) hx hb hown (hts _ q1627) dX2_amiss_38 ?_
        exact W.iret (v := (-1000001)) hx hb hr (fun t9 ht9 hW9 => ⟨⟨_, (va_up F 0 0, Rr), rfl, (by first | (simp [m_amiss, em28, c_1, c_12, c_13, up_s, up_n, nI_1, b2i]; done) | (simp_all [m_amiss]; done) | grind [m_amiss]), by show va_P _ _ _ t9.heap; rw [ht9]; exact M.1⟩, M.2.2.F ht9⟩) M.2.2.2.2 dX2_amiss_40
      · -- c_13: inB 0 999 p2 = true
        refine lv_iload_n hx hb dX2_amiss_25 rfl (lv_at hl 3 rfl) ?_
        refine lv_i2l (v := p3.toInt64) hx hb dX2_amiss_26 rfl ?_
        refine lv_iload_n hx hb dX2_amiss_27 rfl (lv_at hl 2 rfl) ?_
        refine lv_i2l (v := p2.toInt64) hx hb dX2_amiss_28 rfl ?_
        refine lv_ldc2 (v := 999) hx hb hown (hts _ q1670) dX2_amiss_29 ?_
        refine s_cI (v := b2i (inB p2 999 p3)) (As := [.long p3.toInt64, .long p2.toInt64, .long 999]) (rest := []) S (metX2_inI l p3 p2 999 p3.toInt64 p2.toInt64 999 rfl rfl rfl) (va_cwS 3 hts (lw_S q1623 q1624 q62 q1625) rfl rfl rfl (by decide +kernel) ⟨Nat.le_of_ble_eq_true rfl, Nat.le_of_ble_eq_true rfl⟩) rfl hl.1 rfl (Nat.le_of_ble_eq_true rfl) dX2_amiss_32 ⟨Nat.zero_le _, Nat.zero_le _⟩ ?_
        refine lz_if_ne (tgt := 41) hx hb dX2_amiss_35 (by decide) (fun c_14 => ?_) (fun c_14 => ?_)
        · -- c_14: inB p2 999 p3 = true
          refine lv_iconst (v := 0) hx hb dX2_amiss_41 (by decide) ?_
          refine lv_istore (lv' := [(4, .int 0), (0, .ref h), (1, .int p1), (2, .int p2), (3, .int p3)]) hx hb dX2_amiss_42 hl (by decide) rfl (fun ls hl => ?_)
          refine lv_iconst (v := 0) hx hb dX2_amiss_44 (by decide) ?_
          refine lv_istore (lv' := [(5, .int 0), (4, .int 0), (0, .ref h), (1, .int p1), (2, .int p2), (3, .int p3)]) hx hb dX2_amiss_45 hl (by decide) rfl (fun ls hl => ?_)
          have L_15 : ∀ (fuL_15 : Nat) (i : Nat) (x : Int32), (i ≤ n28) → (x = itr (m_amissStep F Rr p1 p2 p3) i 0) → n28 - i < fuL_15 → ∀ (H : Heap) (locs : List Loc), mM D cl h ad dA (mN h ad) s (va_up F 0 0) Rr H locs → ∀ ls, lv_has ls 7 [(0, .ref h), (1, .int p1), (2, .int p2), (3, .int p3), (4, .int x), (5, .int (nI i))] → W p l e ({ frames := 3, cells := 0, slots := 0, locals := 77 } : Room) s m ([.ref h, .int p1, .int p2, .int p3] : List Value).toArray below meth c H locs 0 0 (MQ below (va_Qi (fun r u => (r, u) = m_amiss (va_up F 0 0) Rr p1 p2 p3) (mB D cl h ad dA) (mN h ad)) ([.ref h, .int p1, .int p2, .int p3] : List Value).toArray s 0 0 (mN h ad)) (F0 m 47 ls []) := by
            intro fuL_15
            induction fuL_15 with
            | zero => intro i x hi qx hfuL_15; exact absurd hfuL_15 (Nat.not_lt_zero _)
            | succ fuL_15 L_15ih =>
              intro i x hi qx hfuL_15 H locs M ls hl
              refine lv_iload hx hb dX2_amiss_47 (lv_at hl 5 rfl) ?_
              refine lv_aload_n hx hb dX2_amiss_49 rfl (lv_at hl 0 rfl) ?_
              refine mg_28 X M (v := F 28) rfl dX2_amiss_50 ?_
              refine lv_asi (y := nI n28) en28 ?_
              refine ln_icmp_ge (tgt := 148) hx hb (a := i) (b := n28) (by omega) (by omega) dX2_amiss_53 (by decide) (fun c_16 => ?_) (fun c_16 => ?_)
              · -- c_16: nI i ≥ nI n28
                have ei : i = n28 := by omega
                rw [ei] at qx
                refine lv_iload hx hb dX2_amiss_148 (lv_at hl 4 rfl) ?_
                exact W.iret (v := x) hx hb hr (fun t9 ht9 hW9 => ⟨⟨_, (va_up F 0 0, Rr), rfl, (by simp [m_amiss, up_s, up_n, em28, c_1, c_12, c_13, c_14, c_16, qx, show m_amissStep (va_up F 0 0) = m_amissStep F from rfl]), by show va_P _ _ _ t9.heap; rw [ht9]; exact M.1⟩, M.2.2.F ht9⟩) M.2.2.2.2 dX2_amiss_150
              · -- c_16: nI i < nI n28
                refine lv_aload_n hx hb dX2_amiss_56 rfl (lv_at hl 0 rfl) ?_
                refine mg_32 X M dX2_amiss_57 ?_
                refine lv_iload hx hb dX2_amiss_60 (lv_at hl 5 rfl) ?_
                refine mr_32 X M (f := Rr 32) rfl (j := i) (vp_in_nI (by omega) (by omega)) (nI_clamp (by omega)) dX2_amiss_62 ?_
                refine lv_sipush (v := 1440) hx hb dX2_amiss_63 (by decide) ?_
                refine lv_idiv hx hb dX2_amiss_66 (by decide) ?_
                refine lv_istore (lv' := [(6, .int ((Rr 32 i) / 1440)), (0, .ref h), (1, .int p1), (2, .int p2), (3, .int p3), (4, .int x), (5, .int (nI i))]) hx hb dX2_amiss_67 hl (by decide) rfl (fun ls hl => ?_)
                refine lv_aload_n hx hb dX2_amiss_69 rfl (lv_at hl 1 rfl) ?_
                refine mg_30 X M dX2_amiss_70 ?_
                refine lv_iload hx hb dX2_amiss_73 (lv_at hl 6 rfl) ?_
                refine mr_30 X M (f := Rr 30) rfl (j := i) (vp_in_nI (by omega) (by omega)) (nI_clamp (by omega)) dX2_amiss_75 ?_
                refine lv_iconst (v := 1) hx hb dX2_amiss_76 (by decide) ?_
                refine lv_icmp_ne (tgt := 142) hx hb dX2_amiss_77 (by decide) (fun c_17 => ?_) (fun c_17 => ?_)
                · -- c_17: Rr 30 i ≠ 1
                  refine lv_iinc (v := nI (i + 1)) (lv' := [(5, .int (nI (i + 1))), (6, .int ((Rr 32 i) / 1440)), (0, .ref h), (1, .int p1), (2, .int p2), (3, .int p3), (4, .int x)]) hx hb dX2_amiss_142 hl (k := 6) rfl (mk_inc _) (by decide) rfl (fun ls hl => ?_)
                  refine lv_goto (tgt := 47) hx hb dX2_amiss_145 (by decide) ?_
                  exact L_15ih  (i + 1) x (by omega) (by first | (rw [itr_s, ← qx]; done) | (rw [itr_s, ← qx]; first | (simp [m_amissStep, em28, c_1, c_12, c_13, c_14, c_16, c_17, up_s, up_n, nI_1, b2i]; done) | (simp_all [m_amissStep]; done) | grind [m_amissStep])) (by omega) _ _ M ls (lv_sub hl [2, 3, 4, 5, 6, 0] rfl)
                · -- c_17: Rr 30 i = 1
                  refine lv_iload_n hx hb dX2_amiss_80 rfl (lv_at hl 2 rfl) ?_
                  refine lv_ldc (v := (-1000000)) hx hb hown (hts _ q1430) dX2_amiss_81 ?_
                  refine lv_icmp_eq (tgt := 97) hx hb dX2_amiss_83 (by decide) (fun c_18 => absurd c_18 c_1) (fun c_18 => ?_)
                  refine lv_aload_n hx hb dX2_amiss_86 rfl (lv_at hl 1 rfl) ?_
                  refine mg_31 X M dX2_amiss_87 ?_
                  refine lv_iload hx hb dX2_amiss_90 (lv_at hl 6 rfl) ?_
                  refine mr_31 X M (f := Rr 31) rfl (j := i) (vp_in_nI (by omega) (by omega)) (nI_clamp (by omega)) dX2_amiss_92 ?_
                  refine lv_iload_n hx hb dX2_amiss_93 rfl (lv_at hl 2 rfl) ?_
                  refine lv_icmp_ne (tgt := 142) hx hb dX2_amiss_94 (by decide) (fun c_19 => ?_) (fun c_19 => ?_)
                  · -- c_19: Rr 31 i ≠ p1
                    refine lv_iinc (v := nI (i + 1)) (lv' := [(5, .int (nI (i + 1))), (6, .int ((Rr 32 i) / 1440)), (0, .ref h), (1, .int p1), (2, .int p2), (3, .int p3), (4, .int x)]) hx hb dX2_amiss_142 hl (k := 6) rfl (mk_inc _) (by decide) rfl (fun ls hl => ?_)
                    refine lv_goto (tgt := 47) hx hb dX2_amiss_145 (by decide) ?_
                    exact L_15ih  (i + 1) x (by omega) (by first | (rw [itr_s, ← qx]; done) | (rw [itr_s, ← qx]; first | (simp [m_amissStep, em28, c_1, c_12, c_13, c_14, c_16, c_17, c_19, up_s, up_n, nI_1, b2i]; done) | (simp_all [m_amissStep]; done) | grind [m_amissStep])) (by omega) _ _ M ls (lv_sub hl [2, 3, 4, 5, 6, 0] rfl)
                  · -- c_19: Rr 31 i = p1
                    refine lv_iload hx hb dX2_amiss_97 (lv_at hl 0 rfl) ?_
                    refine lv_iload_n hx hb dX2_amiss_99 rfl (lv_at hl 3 rfl) ?_
                    refine lb_icmp_lt (tgt := 142) hx hb dX2_amiss_100 (by decide) (fun c_20 c_20' => ?_) (fun c_20 c_20' => ?_)
                    · -- c_20: (Rr 32 i) / 1440 < p2
                      refine lv_iinc (v := nI (i + 1)) (lv' := [(5, .int (nI (i + 1))), (6, .int ((Rr 32 i) / 1440)), (0, .ref h), (1, .int p1), (2, .int p2), (3, .int p3), (4, .int x)]) hx hb dX2_amiss_142 hl (k := 6) rfl (mk_inc _) (by decide) rfl (fun ls hl => ?_)
                      refine lv_goto (tgt := 47) hx hb dX2_amiss_145 (by decide) ?_
                      exact L_15ih  (i + 1) x (by omega) (by first | (rw [itr_s, ← qx]; done) | (rw [itr_s, ← qx]; first | (simp [m_amissStep, em28, c_1, c_12, c_13, c_14, c_16, c_17, c_19, c_20, c_20', up_s, up_n, nI_1, b2i]; done) | (simp_all [m_amissStep]; done) | grind [m_amissStep])) (by omega) _ _ M ls (lv_sub hl [2, 3, 4, 5, 6, 0] rfl)
                    · -- c_20: (Rr 32 i) / 1440 ≥ p2
                      refine lv_iload hx hb dX2_amiss_103 (lv_at hl 0 rfl) ?_
                      refine lv_iload_n hx hb dX2_amiss_105 rfl (lv_at hl 4 rfl) ?_
                      refine lb_icmp_gt (tgt := 142) hx hb dX2_amiss_106 (by decide) (fun c_21 c_21' => ?_) (fun c_21 c_21' => ?_)
                      · -- c_21: (Rr 32 i) / 1440 > p3
                        refine lv_iinc (v := nI (i + 1)) (lv' := [(5, .int (nI (i + 1))), (6, .int ((Rr 32 i) / 1440)), (0, .ref h), (1, .int p1), (2, .int p2), (3, .int p3), (4, .int x)]) hx hb dX2_amiss_142 hl (k := 6) rfl (mk_inc _) (by decide) rfl (fun ls hl => ?_)
                        refine lv_goto (tgt := 47) hx hb dX2_amiss_145 (by decide) ?_
                        exact L_15ih  (i + 1) x (by omega) (by first | (rw [itr_s, ← qx]; done) | (rw [itr_s, ← qx]; first | (simp [m_amissStep, em28, c_1, c_12, c_13, c_14, c_16, c_17, c_19, c_20, c_20', c_21, c_21', up_s, up_n, nI_1, b2i]; done) | (simp_all [m_amissStep]; done) | grind [m_amissStep])) (by omega) _ _ M ls (lv_sub hl [2, 3, 4, 5, 6, 0] rfl)
                      · -- c_21: (Rr 32 i) / 1440 ≤ p3
                        refine lv_iload hx hb dX2_amiss_109 (lv_at hl 5 rfl) ?_
                        refine lv_aload_n hx hb dX2_amiss_111 rfl (lv_at hl 1 rfl) ?_
                        refine lv_aload_n hx hb dX2_amiss_112 rfl (lv_at hl 1 rfl) ?_
                        refine mg_29 X M dX2_amiss_113 ?_
                        refine lv_iload hx hb dX2_amiss_116 (lv_at hl 6 rfl) ?_
                        refine mr_29 X M (f := Rr 29) rfl (j := i) (vp_in_nI (by omega) (by omega)) (nI_clamp (by omega)) dX2_amiss_118 ?_
                        have b_22 : (Rr 29 i).toNatClampNeg ≤ 15 := cnB_le (h29 i (by omega)).1 rfl
                        refine lv_asi (y := nI (Rr 29 i).toNatClampNeg) (nJ_of ((h29 i (by omega)).1).1) ?_
                        refine lv_aload_n hx hb dX2_amiss_119 rfl (lv_at hl 1 rfl) ?_
                        refine mg_31 X M dX2_amiss_120 ?_
                        refine lv_iload hx hb dX2_amiss_123 (lv_at hl 6 rfl) ?_
                        refine mr_31 X M (f := Rr 31) rfl (j := i) (vp_in_nI (by omega) (by omega)) (nI_clamp (by omega)) dX2_amiss_125 ?_
                        have b_23 : (Rr 31 i).toNatClampNeg ≤ 8 := cnB_le (h29 i (by omega)).2.1 rfl
                        refine lv_asi (y := nI (Rr 31 i).toNatClampNeg) (nJ_of ((h29 i (by omega)).2.1).1) ?_
                        refine lv_iload hx hb dX2_amiss_126 (lv_at hl 0 rfl) ?_
                        refine m_cQ (v := m_owedBy (F 10) Rr ((Rr 29 i).toNatClampNeg) ((Rr 31 i).toNatClampNeg) ((Rr 32 i) / 1440)) (As := [.int (nI ((Rr 29 i).toNatClampNeg)), .int (nI ((Rr 31 i).toNatClampNeg)), .int ((Rr 32 i) / 1440)]) (rest := [.int x]) X M (metX2_owedBy l D cl hcl h ad dA (va_up F 0 0) Rr ((Rr 29 i).toNatClampNeg) ((Rr 31 i).toNatClampNeg) ((Rr 32 i) / 1440) (by omega) (by omega) h10) (cwV 3 hts (lw_V q1781 q1783 qs42 q62 q1784) rfl rfl rfl (by decide +kernel) ⟨Nat.le_of_ble_eq_true rfl, Nat.le_of_ble_eq_true rfl⟩) rfl hl.1 rfl (Nat.le_of_ble_eq_true rfl) dX2_amiss_128 ⟨Nat.zero_le _, Nat.zero_le _⟩ ?_
                        refine lv_aload_n hx hb dX2_amiss_131 rfl (lv_at hl 1 rfl) ?_
                        refine mg_33 X M dX2_amiss_132 ?_
                        refine lv_iload hx hb dX2_amiss_135 (lv_at hl 6 rfl) ?_
                        refine mr_33 X M (f := Rr 33) rfl (j := i) (vp_in_nI (by omega) (by omega)) (nI_clamp (by omega)) dX2_amiss_137 ?_
                        refine lv_isub hx hb dX2_amiss_138 ?_
                        refine lv_iadd hx hb dX2_amiss_139 ?_
                        refine lv_istore (lv' := [(4, .int (x + ((m_owedBy (F 10) Rr ((Rr 29 i).toNatClampNeg) ((Rr 31 i).toNatClampNeg) ((Rr 32 i) / 1440)) - (Rr 33 i)))), (6, .int ((Rr 32 i) / 1440)), (0, .ref h), (1, .int p1), (2, .int p2), (3, .int p3), (5, .int (nI i))]) hx hb dX2_amiss_140 hl (by decide) rfl (fun ls hl => ?_)
                        refine lv_iinc (v := nI (i + 1)) (lv' := [(5, .int (nI (i + 1))), (4, .int (x + ((m_owedBy (F 10) Rr ((Rr 29 i).toNatClampNeg) ((Rr 31 i).toNatClampNeg) ((Rr 32 i) / 1440)) - (Rr 33 i)))), (6, .int ((Rr 32 i) / 1440)), (0, .ref h), (1, .int p1), (2, .int p2), (3, .int p3)]) hx hb dX2_amiss_142 hl (k := 6) rfl (mk_inc _) (by decide) rfl (fun ls hl => ?_)
                        refine lv_goto (tgt := 47) hx hb dX2_amiss_145 (by decide) ?_
                        exact L_15ih  (i + 1) (x + ((m_owedBy (F 10) Rr ((Rr 29 i).toNatClampNeg) ((Rr 31 i).toNatClampNeg) ((Rr 32 i) / 1440)) - (Rr 33 i))) (by omega) (by first | (rw [itr_s, ← qx]; done) | (rw [itr_s, ← qx]; first | (simp [m_amissStep, em28, c_1, c_12, c_13, c_14, c_16, c_17, c_19, c_20, c_20', c_21, c_21', up_s, up_n, nI_1, b2i]; done) | (simp_all [m_amissStep]; done) | grind [m_amissStep])) (by omega) _ _ M ls (lv_sub hl [3, 4, 5, 6, 1, 0] rfl)
          exact L_15 ((n28 - 0) + 1) 0 0 (Nat.zero_le _) (by first | rfl | (simp only [itr]; assumption) | (simp [itr, em28, c_1, c_12, c_13, c_14, up_s, up_n, nI_1, b2i]; done)) (Nat.lt_succ_self _) _ _ M ls (lv_sub hl [2, 3, 4, 5, 1, 0] rfl)
        · -- c_14: inB p2 999 p3 = false
          refine lv_ldc (v := (-1000001)) hx hb hown (hts _ q1627) dX2_amiss_38 ?_
          exact W.iret (v := (-1000001)) hx hb hr (fun t9 ht9 hW9 => ⟨⟨_, (va_up F 0 0, Rr), rfl, (by first | (simp [m_amiss, em28, c_1, c_12, c_13, c_14, up_s, up_n, nI_1, b2i]; done) | (simp_all [m_amiss]; done) | grind [m_amiss]), by show va_P _ _ _ t9.heap; rw [ht9]; exact M.1⟩, M.2.2.F ht9⟩) M.2.2.2.2 dX2_amiss_40

