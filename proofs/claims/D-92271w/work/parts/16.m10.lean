/-! THE REFERENCE, 10: laws read from the tape -/
def p_of (T : Nat → Int32) (z : Nat) (st : pS) (w : Int32) : Int32 × pS := if w = 0 then (0, st) else p_num T z st (if w = 5 ∨ w = 6 then 11 else 7)
def p_am (T : Nat → Int32) (z : Nat) (st : pS) (w : Int32) : Int32 × pS := if w < 3 then p_num T z st 999 else (0, st)
def p_rl1 (T : Nat → Int32) (z : Nat) (st : pS) : pS := p_need T z (if ¬ p_law T z st.1 = (-1000000) ∧ st.2.2.2 = 30 then p_bad st 3 else st) (!decide (p_law T z st.1 = (-1000000)))
def p_rl2 (T : Nat → Int32) (z : Nat) (st : pS) (w : Int32) : pS × Int32 × Int32 := ((p_am T z (p_of T z st w).2 w).2, (p_of T z st w).1, (p_am T z (p_of T z st w).2 w).1)
def p_rl (T : Nat → Int32) (z : Nat) (st : pS) (R : Nat → Nat → Int32) (day : Int32) : pS × (Nat → Nat → Int32) :=
  if 0 < (p_rl1 T z st).2.1 then (p_rl1 T z st, R) else
  (((p_rl2 T z (p_rl1 T z st) (p_law T z st.1)).1.1, (p_rl2 T z (p_rl1 T z st) (p_law T z st.1)).1.2.1, (p_rl2 T z (p_rl1 T z st) (p_law T z st.1)).1.2.2.1, st.2.2.2 + 1),
   mset (mset (mset (mset R 11 st.2.2.2 day) 12 st.2.2.2 (p_law T z st.1)) 13 st.2.2.2 (p_rl2 T z (p_rl1 T z st) (p_law T z st.1)).2.1) 14 st.2.2.2 (p_rl2 T z (p_rl1 T z st) (p_law T z st.1)).2.2)
theorem p_need_b3 {T : Nat → Int32} {z : Nat} {st : pS} (h : st.2.1 = 0) : (p_need T z (p_bad st 3) true).2.1 = 3 := by simp [p_need, p_pre, p_bad, h]
theorem p_need_b1 {T : Nat → Int32} {z : Nat} {st : pS} (h : st.2.1 = 0) : (p_need T z st false).2.1 = 1 := by simp [p_need, p_pre, p_bad, h]
set_option maxHeartbeats 4000000 in
set_option maxRecDepth 100000 in
theorem metX2_readLaw (l : Launch) (D : va_G) (cl : List vw_C) (hcl : cl[0]? = some (RX2, TX2, 61)) (h : Nat) (ad : Nat → Nat) (dA : ClassId) (G : Nat → Int32) (Rr : Nat → Nat → Int32) (T : Nat → Int32) (hT : Rr 16 = T) (z : Nat) (st : pS) (p1 : Int32) (hz4 : z ≤ 400) (hst : st.1 ≤ z) (hf0 : st.2.1 = 0) (hn30a : st.2.2.2 ≤ 30) : Met l yX2_readLaw (ws_ yX2_readLaw cX2_readLaw 3 none) ({ frames := 4, cells := 0, slots := 0, locals := 86 } : Room) (va_Pc [.ref h, .int p1] (mPre D cl h ad dA (pF G T z st) Rr)) (va_Qv (fun u => u = (pF G T z (p_rl T z st Rr p1).1, (p_rl T z st Rr p1).2)) (mB D cl h ad dA) (mN h ad)) 0 0 (mN h ad) := by
  subst hT
  refine Met.ofW (cc := cX2_readLaw) (maxL := 3) (ret := none) (by decide) rfl ?_
  intro p e s m args below meth c s₁ B hml hv
  obtain ⟨rfl, hK, hP, hD⟩ := hv
  have hx := B.exec
  have hb := B.bytes
  have hr := B.returns
  have hts := atoms_spec (ws := (ws_ yX2_readLaw cX2_readLaw 3 none)) B.pre
  have hts : ∀ w ∈ lw_all, w.before _ s = true := fun w h => hts w (List.mem_cons_of_mem _ h)
  have hown : s.vm.findClass RX2 = some m.cls := findClass_of_methodNamed B.named
  have hlocks := B.notSynchronized
  have S : CallFix p m c cX2_readLaw 3 s ([.ref h, .int p1] : List Value).toArray lw_all RX2 := ⟨hx, hb, hml, hown, hts⟩
  have X : mX p s m ([.ref h, .int p1] : List Value).toArray c cX2_readLaw 3 D cl dA := ⟨hx, hb, hml, hown, hts, hK, hcl⟩
  have M : mM D cl h ad dA (mN h ad) s (pF G (Rr 16) z st) Rr s.heap [] := ⟨hP, mW_self hD, va_S.rf⟩
  have hl := lv_entry ([.ref h, .int p1]) (n := 3) (Nat.le_of_ble_eq_true rfl)
  rw [lg_entry_eq]
  generalize (lg_sl ([.ref h, .int p1]) ++ List.replicate (3 - (lg_sl ([.ref h, .int p1])).length) Slot.unset).toArray = ls at hl ⊢
  have hl : lv_has ls 3 [(0, .ref h), (1, .int p1)] := hl
  refine lv_aload_n hx hb dX2_readLaw_0 rfl (lv_at hl 0 rfl) ?_
  refine m_cQ (v := p_law (Rr 16) z st.1) (As := []) (rest := []) X M (metX2_lawOfWord l D cl hcl h ad dA G Rr (Rr 16) rfl z st  hz4 hst) (cwV 0 hts (lw_V q1716 q1718 qs35 q62 q1719) rfl rfl rfl (by decide +kernel) ⟨Nat.le_of_ble_eq_true rfl, Nat.le_of_ble_eq_true rfl⟩) rfl hl.1 rfl (Nat.le_of_ble_eq_true rfl) dX2_readLaw_1 ⟨Nat.zero_le _, Nat.zero_le _⟩ ?_
  refine lv_istore_n (lv' := [(2, .int (p_law (Rr 16) z st.1)), (0, .ref h), (1, .int p1)]) hx hb dX2_readLaw_4 rfl hl (by decide) rfl (fun ls hl => ?_)
  refine lv_iload_n hx hb dX2_readLaw_5 rfl (lv_at hl 0 rfl) ?_
  refine lv_ldc (v := (-1000000)) hx hb hown (hts _ q1430) dX2_readLaw_6 ?_
  refine lv_icmp_eq (tgt := 25) hx hb dX2_readLaw_8 (by decide) (fun c_1 => ?_) (fun c_1 => ?_)
  · -- c_1: p_law (Rr 16) z st.1 = (-1000000)
    refine lv_aload_n hx hb dX2_readLaw_25 rfl (lv_at hl 1 rfl) ?_
    refine lv_iload_n hx hb dX2_readLaw_26 rfl (lv_at hl 0 rfl) ?_
    refine lv_ldc (v := (-1000000)) hx hb hown (hts _ q1430) dX2_readLaw_27 ?_
    refine lv_icmp_eq (tgt := 36) hx hb dX2_readLaw_29 (by decide) (fun c_2 => ?_) (fun c_2 => absurd c_1 c_2)
    refine lv_iconst (v := 0) hx hb dX2_readLaw_36 (by decide) ?_
    refine m_cUv (As := [.int 0]) (rest := []) X M (metX2_need l D cl hcl h ad dA G Rr (Rr 16) rfl z st false hz4 hst) (cwV 1 hts (lw_V q1700 q1702 qs31 q62 q1703) rfl rfl rfl (by decide +kernel) ⟨Nat.le_of_ble_eq_true rfl, Nat.le_of_ble_eq_true rfl⟩) rfl hl.1 rfl (Nat.le_of_ble_eq_true rfl) dX2_readLaw_37 ⟨Nat.zero_le _, Nat.zero_le _⟩ (fun F9 R9 hr9 H locs M => ?_)
    obtain ⟨rfl, rfl⟩ : F9 = pF G (Rr 16) z (p_need (Rr 16) z st false) ∧ Rr = R9 := ⟨congrArg Prod.fst hr9, (congrArg Prod.snd hr9).symm⟩
    obtain ⟨st_3, est_3⟩ : ∃ x9, x9 = p_need (Rr 16) z st false := ⟨_, rfl⟩
    rw [← est_3] at M
    have hst_3 : st_3.1 ≤ z := by rw [est_3]; exact p_need_le hst
    have nst_3 : st_3.2.2.2 = (st).2.2.2 := by rw [est_3]; exact p_need_n
    refine lv_aload_n hx hb dX2_readLaw_40 rfl (lv_at hl 1 rfl) ?_
    refine mg_24 X M (v := st_3.2.1) rfl dX2_readLaw_41 ?_
    refine lb_if_le (tgt := 48) hx hb dX2_readLaw_44 (by decide) (fun c_4 c_4' => ?_) (fun c_4 c_4' => ?_)
    · -- c_4: st_3.2.1 ≤ 0
      exact absurd (show 0 < st_3.2.1 by rw [est_3, p_need_b1 hf0]; decide) c_4'
    · -- c_4: st_3.2.1 > 0
      exact W.vret hx hb hr (fun t9 ht9 hW9 => ⟨⟨(pF G (Rr 16) z st_3, Rr), rfl, (by first | (simp [p_rl, p_rl1, p_rl2, p_of, p_am, c_1, ← est_3, nst_3, c_4, c_4']; done) | (rw [pF_15]; simp [p_rl, p_rl1, p_rl2, p_of, p_am, c_1, ← est_3, nst_3, c_4, c_4']; done) | (exfalso; clear M; grind)), by show va_P _ _ _ t9.heap; rw [ht9]; exact M.1⟩, M.2.2.F ht9⟩) M.2.2.2.2 dX2_readLaw_47
  · -- c_1: p_law (Rr 16) z st.1 ≠ (-1000000)
    refine lv_aload_n hx hb dX2_readLaw_11 rfl (lv_at hl 1 rfl) ?_
    refine mg_15 X M (v := nI st.2.2.2) rfl dX2_readLaw_12 ?_
    refine lv_bipush (v := 30) hx hb dX2_readLaw_15 (by decide) ?_
    refine lv_icmp_ne (tgt := 25) hx hb dX2_readLaw_17 (by decide) (fun c_5 => ?_) (fun c_5 => ?_)
    · -- c_5: nI st.2.2.2 ≠ 30
      have en30 : ¬ st.2.2.2 = 30 := fun q => c_5 (by rw [q]; rfl)
      refine lv_aload_n hx hb dX2_readLaw_25 rfl (lv_at hl 1 rfl) ?_
      refine lv_iload_n hx hb dX2_readLaw_26 rfl (lv_at hl 0 rfl) ?_
      refine lv_ldc (v := (-1000000)) hx hb hown (hts _ q1430) dX2_readLaw_27 ?_
      refine lv_icmp_eq (tgt := 36) hx hb dX2_readLaw_29 (by decide) (fun c_6 => absurd c_6 c_1) (fun c_6 => ?_)
      refine lv_iconst (v := 1) hx hb dX2_readLaw_32 (by decide) ?_
      refine lv_goto (tgt := 37) hx hb dX2_readLaw_33 (by decide) ?_
      refine m_cUv (As := [.int 1]) (rest := []) X M (metX2_need l D cl hcl h ad dA G Rr (Rr 16) rfl z st true hz4 hst) (cwV 1 hts (lw_V q1700 q1702 qs31 q62 q1703) rfl rfl rfl (by decide +kernel) ⟨Nat.le_of_ble_eq_true rfl, Nat.le_of_ble_eq_true rfl⟩) rfl hl.1 rfl (Nat.le_of_ble_eq_true rfl) dX2_readLaw_37 ⟨Nat.zero_le _, Nat.zero_le _⟩ (fun F9 R9 hr9 H locs M => ?_)
      obtain ⟨rfl, rfl⟩ : F9 = pF G (Rr 16) z (p_need (Rr 16) z st true) ∧ Rr = R9 := ⟨congrArg Prod.fst hr9, (congrArg Prod.snd hr9).symm⟩
      obtain ⟨st_7, est_7⟩ : ∃ x9, x9 = p_need (Rr 16) z st true := ⟨_, rfl⟩
      rw [← est_7] at M
      have hst_7 : st_7.1 ≤ z := by rw [est_7]; exact p_need_le hst
      have nst_7 : st_7.2.2.2 = (st).2.2.2 := by rw [est_7]; exact p_need_n
      refine lv_aload_n hx hb dX2_readLaw_40 rfl (lv_at hl 1 rfl) ?_
      refine mg_24 X M (v := st_7.2.1) rfl dX2_readLaw_41 ?_
      refine lb_if_le (tgt := 48) hx hb dX2_readLaw_44 (by decide) (fun c_8 c_8' => ?_) (fun c_8 c_8' => ?_)
      · -- c_8: st_7.2.1 ≤ 0
        have hn30 : st.2.2.2 < 30 := nI_lt_ne (N := 30) c_5 hn30a
        refine lv_aload_n hx hb dX2_readLaw_48 rfl (lv_at hl 1 rfl) ?_
        refine mg_11 X M dX2_readLaw_49 ?_
        refine lv_aload_n hx hb dX2_readLaw_52 rfl (lv_at hl 1 rfl) ?_
        refine mg_15 X M (v := nI st_7.2.2.2) rfl dX2_readLaw_53 ?_
        refine lv_iload_n hx hb dX2_readLaw_56 rfl (lv_at hl 2 rfl) ?_
        refine ms_11 X M (j := st_7.2.2.2) (vp_in_nI (by omega) (by omega)) (nI_clamp (by omega)) dX2_readLaw_57 (fun H locs M => ?_)
        refine lv_aload_n hx hb dX2_readLaw_58 rfl (lv_at hl 1 rfl) ?_
        refine mg_12 X M dX2_readLaw_59 ?_
        refine lv_aload_n hx hb dX2_readLaw_62 rfl (lv_at hl 1 rfl) ?_
        refine mg_15 X M (v := nI st_7.2.2.2) rfl dX2_readLaw_63 ?_
        refine lv_iload_n hx hb dX2_readLaw_66 rfl (lv_at hl 0 rfl) ?_
        refine ms_12 X M (j := st_7.2.2.2) (vp_in_nI (by omega) (by omega)) (nI_clamp (by omega)) dX2_readLaw_67 (fun H locs M => ?_)
        refine lv_aload_n hx hb dX2_readLaw_68 rfl (lv_at hl 1 rfl) ?_
        refine mg_13 X M dX2_readLaw_69 ?_
        refine lv_aload_n hx hb dX2_readLaw_72 rfl (lv_at hl 1 rfl) ?_
        refine mg_15 X M (v := nI st_7.2.2.2) rfl dX2_readLaw_73 ?_
        refine lv_iload_n hx hb dX2_readLaw_76 rfl (lv_at hl 0 rfl) ?_
        refine lv_if_ne (tgt := 84) hx hb dX2_readLaw_77 (by decide) (fun c_9 => ?_) (fun c_9 => ?_)
        · -- c_9: p_law (Rr 16) z st.1 ≠ 0
          refine lv_aload_n hx hb dX2_readLaw_84 rfl (lv_at hl 1 rfl) ?_
          refine lv_iload_n hx hb dX2_readLaw_85 rfl (lv_at hl 0 rfl) ?_
          refine lv_iconst (v := 5) hx hb dX2_readLaw_86 (by decide) ?_
          refine lv_icmp_eq (tgt := 96) hx hb dX2_readLaw_87 (by decide) (fun c_10 => ?_) (fun c_10 => ?_)
          · -- c_10: p_law (Rr 16) z st.1 = 5
            refine lv_bipush (v := 11) hx hb dX2_readLaw_96 (by decide) ?_
            refine lv_goto (tgt := 103) hx hb dX2_readLaw_98 (by decide) ?_
            refine m_cU (As := [.int 11]) (rest := [.int (nI st_7.2.2.2), .ref (ad 13)]) X M (metX2_numberTo l D cl hcl h ad dA G (mset (mset Rr 11 st_7.2.2.2 p1) 12 st_7.2.2.2 (p_law (Rr 16) z st.1)) (Rr 16) rfl z st_7 11 hz4 hst_7) (cwV 1 hts (lw_V q1708 q1710 qs33 q62 q1711) rfl rfl rfl (by decide +kernel) ⟨Nat.le_of_ble_eq_true rfl, Nat.le_of_ble_eq_true rfl⟩) rfl hl.1 rfl (Nat.le_of_ble_eq_true rfl) dX2_readLaw_103 ⟨Nat.zero_le _, Nat.zero_le _⟩ (fun r9 F9 R9 hr9 H locs M => ?_)
            obtain ⟨⟨v_12, st_11⟩, est_11⟩ : ∃ x9, x9 = (p_num (Rr 16) z st_7 11) := ⟨_, rfl⟩
            rw [← est_11] at hr9
            obtain ⟨rfl, rfl, rfl⟩ : v_12 = r9 ∧ F9 = pF G (Rr 16) z st_11 ∧ (mset (mset Rr 11 st_7.2.2.2 p1) 12 st_7.2.2.2 (p_law (Rr 16) z st.1)) = R9 := ⟨(congrArg Prod.fst hr9).symm, congrArg (fun z => z.2.1) hr9, (congrArg (fun z => z.2.2) hr9).symm⟩
            have hst_11 : st_11.1 ≤ z := by have q9 := p_num_le (T := Rr 16) (most := 11) hst_7; rw [← est_11] at q9; exact q9
            have nst_11 : st_11.2.2.2 = (st_7).2.2.2 := by have q9 := p_num_n (T := Rr 16) (z := z) (st := st_7) (most := 11); rw [← est_11] at q9; exact q9
            refine ms_13 X M (j := st_7.2.2.2) (vp_in_nI (by omega) (by omega)) (nI_clamp (by omega)) dX2_readLaw_106 (fun H locs M => ?_)
            refine lv_aload_n hx hb dX2_readLaw_107 rfl (lv_at hl 1 rfl) ?_
            refine mg_14 X M dX2_readLaw_108 ?_
            refine lv_aload_n hx hb dX2_readLaw_111 rfl (lv_at hl 1 rfl) ?_
            refine mg_15 X M (v := nI st_11.2.2.2) rfl dX2_readLaw_112 ?_
            refine lv_iload_n hx hb dX2_readLaw_115 rfl (lv_at hl 0 rfl) ?_
            refine lv_iconst (v := 3) hx hb dX2_readLaw_116 (by decide) ?_
            refine lb_icmp_ge (tgt := 130) hx hb dX2_readLaw_117 (by decide) (fun c_13 c_13' => ?_) (fun c_13 c_13' => ?_)
            · -- c_13: p_law (Rr 16) z st.1 ≥ 3
              refine lv_iconst (v := 0) hx hb dX2_readLaw_130 (by decide) ?_
              refine ms_14 X M (j := st_11.2.2.2) (vp_in_nI (by omega) (by omega)) (nI_clamp (by omega)) dX2_readLaw_131 (fun H locs M => ?_)
              refine lv_aload_n hx hb dX2_readLaw_132 rfl (lv_at hl 1 rfl) ?_
              refine lv_dup hx hb dX2_readLaw_133 rfl ?_
              refine mg_15 X M (v := nI st_11.2.2.2) rfl dX2_readLaw_134 ?_
              refine lv_iconst (v := 1) hx hb dX2_readLaw_137 (by decide) ?_
              refine lv_iadd hx hb dX2_readLaw_138 ?_
              refine lv_asi (y := nI (st_11.2.2.2 + 1)) (nI_add st_11.2.2.2 1) ?_
              refine mp_15 X M dX2_readLaw_139 (fun H locs M => ?_)
              exact W.vret hx hb hr (fun t9 ht9 hW9 => ⟨⟨(va_up (pF G (Rr 16) z st_11) 15 (nI (st_11.2.2.2 + 1)), mset (mset (mset (mset Rr 11 st_7.2.2.2 p1) 12 st_7.2.2.2 (p_law (Rr 16) z st.1)) 13 st_7.2.2.2 v_12) 14 st_11.2.2.2 0), rfl, (by first | (simp [p_rl, p_rl1, p_rl2, p_of, p_am, c_1, c_5, en30, ← est_7, nst_7, c_8, c_8', c_9, c_10, ← est_11, nst_11, c_13, c_13']; done) | (rw [pF_15]; simp [p_rl, p_rl1, p_rl2, p_of, p_am, c_1, c_5, en30, ← est_7, nst_7, c_8, c_8', c_9, c_10, ← est_11, nst_11, c_13, c_13']; done) | (exfalso; clear M; grind)), by show va_P _ _ _ t9.heap; rw [ht9]; exact M.1⟩, M.2.2.F ht9⟩) M.2.2.2.2 dX2_readLaw_142
            · -- c_13: p_law (Rr 16) z st.1 < 3
              refine lv_aload_n hx hb dX2_readLaw_120 rfl (lv_at hl 1 rfl) ?_
              refine lv_sipush (v := 999) hx hb dX2_readLaw_121 (by decide) ?_
              refine m_cU (As := [.int 999]) (rest := [.int (nI st_11.2.2.2), .ref (ad 14)]) X M (metX2_numberTo l D cl hcl h ad dA G (mset (mset (mset Rr 11 st_7.2.2.2 p1) 12 st_7.2.2.2 (p_law (Rr 16) z st.1)) 13 st_7.2.2.2 v_12) (Rr 16) rfl z st_11 999 hz4 hst_11) (cwV 1 hts (lw_V q1708 q1710 qs33 q62 q1711) rfl rfl rfl (by decide +kernel) ⟨Nat.le_of_ble_eq_true rfl, Nat.le_of_ble_eq_true rfl⟩) rfl hl.1 rfl (Nat.le_of_ble_eq_true rfl) dX2_readLaw_124 ⟨Nat.zero_le _, Nat.zero_le _⟩ (fun r9 F9 R9 hr9 H locs M => ?_)
              obtain ⟨⟨v_15, st_14⟩, est_14⟩ : ∃ x9, x9 = (p_num (Rr 16) z st_11 999) := ⟨_, rfl⟩
              rw [← est_14] at hr9
              obtain ⟨rfl, rfl, rfl⟩ : v_15 = r9 ∧ F9 = pF G (Rr 16) z st_14 ∧ (mset (mset (mset Rr 11 st_7.2.2.2 p1) 12 st_7.2.2.2 (p_law (Rr 16) z st.1)) 13 st_7.2.2.2 v_12) = R9 := ⟨(congrArg Prod.fst hr9).symm, congrArg (fun z => z.2.1) hr9, (congrArg (fun z => z.2.2) hr9).symm⟩
              have hst_14 : st_14.1 ≤ z := by have q9 := p_num_le (T := Rr 16) (most := 999) hst_11; rw [← est_14] at q9; exact q9
              have nst_14 : st_14.2.2.2 = (st_11).2.2.2 := by have q9 := p_num_n (T := Rr 16) (z := z) (st := st_11) (most := 999); rw [← est_14] at q9; exact q9
              refine lv_goto (tgt := 131) hx hb dX2_readLaw_127 (by decide) ?_
              refine ms_14 X M (j := st_11.2.2.2) (vp_in_nI (by omega) (by omega)) (nI_clamp (by omega)) dX2_readLaw_131 (fun H locs M => ?_)
              refine lv_aload_n hx hb dX2_readLaw_132 rfl (lv_at hl 1 rfl) ?_
              refine lv_dup hx hb dX2_readLaw_133 rfl ?_
              refine mg_15 X M (v := nI st_14.2.2.2) rfl dX2_readLaw_134 ?_
              refine lv_iconst (v := 1) hx hb dX2_readLaw_137 (by decide) ?_
              refine lv_iadd hx hb dX2_readLaw_138 ?_
              refine lv_asi (y := nI (st_14.2.2.2 + 1)) (nI_add st_14.2.2.2 1) ?_
              refine mp_15 X M dX2_readLaw_139 (fun H locs M => ?_)
              exact W.vret hx hb hr (fun t9 ht9 hW9 => ⟨⟨(va_up (pF G (Rr 16) z st_14) 15 (nI (st_14.2.2.2 + 1)), mset (mset (mset (mset Rr 11 st_7.2.2.2 p1) 12 st_7.2.2.2 (p_law (Rr 16) z st.1)) 13 st_7.2.2.2 v_12) 14 st_11.2.2.2 v_15), rfl, (by first | (simp [p_rl, p_rl1, p_rl2, p_of, p_am, c_1, c_5, en30, ← est_7, nst_7, c_8, c_8', c_9, c_10, ← est_11, nst_11, c_13, c_13', ← est_14, nst_14]; done) | (rw [pF_15]; simp [p_rl, p_rl1, p_rl2, p_of, p_am, c_1, c_5, en30, ← est_7, nst_7, c_8, c_8', c_9, c_10, ← est_11, nst_11, c_13, c_13', ← est_14, nst_14]; done) | (exfalso; clear M; grind)), by show va_P _ _ _ t9.heap; rw [ht9]; exact M.1⟩, M.2.2.F ht9⟩) M.2.2.2.2 dX2_readLaw_142
          · -- c_10: p_law (Rr 16) z st.1 ≠ 5
            refine lv_iload_n hx hb dX2_readLaw_90 rfl (lv_at hl 0 rfl) ?_
            refine lv_bipush (v := 6) hx hb dX2_readLaw_91 (by decide) ?_
            refine lv_icmp_ne (tgt := 101) hx hb dX2_readLaw_93 (by decide) (fun c_16 => ?_) (fun c_16 => ?_)
            · -- c_16: p_law (Rr 16) z st.1 ≠ 6
              refine lv_bipush (v := 7) hx hb dX2_readLaw_101 (by decide) ?_
              refine m_cU (As := [.int 7]) (rest := [.int (nI st_7.2.2.2), .ref (ad 13)]) X M (metX2_numberTo l D cl hcl h ad dA G (mset (mset Rr 11 st_7.2.2.2 p1) 12 st_7.2.2.2 (p_law (Rr 16) z st.1)) (Rr 16) rfl z st_7 7 hz4 hst_7) (cwV 1 hts (lw_V q1708 q1710 qs33 q62 q1711) rfl rfl rfl (by decide +kernel) ⟨Nat.le_of_ble_eq_true rfl, Nat.le_of_ble_eq_true rfl⟩) rfl hl.1 rfl (Nat.le_of_ble_eq_true rfl) dX2_readLaw_103 ⟨Nat.zero_le _, Nat.zero_le _⟩ (fun r9 F9 R9 hr9 H locs M => ?_)
              obtain ⟨⟨v_18, st_17⟩, est_17⟩ : ∃ x9, x9 = (p_num (Rr 16) z st_7 7) := ⟨_, rfl⟩
              rw [← est_17] at hr9
              obtain ⟨rfl, rfl, rfl⟩ : v_18 = r9 ∧ F9 = pF G (Rr 16) z st_17 ∧ (mset (mset Rr 11 st_7.2.2.2 p1) 12 st_7.2.2.2 (p_law (Rr 16) z st.1)) = R9 := ⟨(congrArg Prod.fst hr9).symm, congrArg (fun z => z.2.1) hr9, (congrArg (fun z => z.2.2) hr9).symm⟩
              have hst_17 : st_17.1 ≤ z := by have q9 := p_num_le (T := Rr 16) (most := 7) hst_7; rw [← est_17] at q9; exact q9
              have nst_17 : st_17.2.2.2 = (st_7).2.2.2 := by have q9 := p_num_n (T := Rr 16) (z := z) (st := st_7) (most := 7); rw [← est_17] at q9; exact q9
              refine ms_13 X M (j := st_7.2.2.2) (vp_in_nI (by omega) (by omega)) (nI_clamp (by omega)) dX2_readLaw_106 (fun H locs M => ?_)
              refine lv_aload_n hx hb dX2_readLaw_107 rfl (lv_at hl 1 rfl) ?_
              refine mg_14 X M dX2_readLaw_108 ?_
              refine lv_aload_n hx hb dX2_readLaw_111 rfl (lv_at hl 1 rfl) ?_
              refine mg_15 X M (v := nI st_17.2.2.2) rfl dX2_readLaw_112 ?_
              refine lv_iload_n hx hb dX2_readLaw_115 rfl (lv_at hl 0 rfl) ?_
              refine lv_iconst (v := 3) hx hb dX2_readLaw_116 (by decide) ?_
              refine lb_icmp_ge (tgt := 130) hx hb dX2_readLaw_117 (by decide) (fun c_19 c_19' => ?_) (fun c_19 c_19' => ?_)
              · -- c_19: p_law (Rr 16) z st.1 ≥ 3
                refine lv_iconst (v := 0) hx hb dX2_readLaw_130 (by decide) ?_
                refine ms_14 X M (j := st_17.2.2.2) (vp_in_nI (by omega) (by omega)) (nI_clamp (by omega)) dX2_readLaw_131 (fun H locs M => ?_)
                refine lv_aload_n hx hb dX2_readLaw_132 rfl (lv_at hl 1 rfl) ?_
                refine lv_dup hx hb dX2_readLaw_133 rfl ?_
                refine mg_15 X M (v := nI st_17.2.2.2) rfl dX2_readLaw_134 ?_
                refine lv_iconst (v := 1) hx hb dX2_readLaw_137 (by decide) ?_
                refine lv_iadd hx hb dX2_readLaw_138 ?_
                refine lv_asi (y := nI (st_17.2.2.2 + 1)) (nI_add st_17.2.2.2 1) ?_
                refine mp_15 X M dX2_readLaw_139 (fun H locs M => ?_)
                exact W.vret hx hb hr (fun t9 ht9 hW9 => ⟨⟨(va_up (pF G (Rr 16) z st_17) 15 (nI (st_17.2.2.2 + 1)), mset (mset (mset (mset Rr 11 st_7.2.2.2 p1) 12 st_7.2.2.2 (p_law (Rr 16) z st.1)) 13 st_7.2.2.2 v_18) 14 st_17.2.2.2 0), rfl, (by first | (simp [p_rl, p_rl1, p_rl2, p_of, p_am, c_1, c_5, en30, ← est_7, nst_7, c_8, c_8', c_9, c_10, c_16, ← est_17, nst_17, c_19, c_19']; done) | (rw [pF_15]; simp [p_rl, p_rl1, p_rl2, p_of, p_am, c_1, c_5, en30, ← est_7, nst_7, c_8, c_8', c_9, c_10, c_16, ← est_17, nst_17, c_19, c_19']; done) | (exfalso; clear M; grind)), by show va_P _ _ _ t9.heap; rw [ht9]; exact M.1⟩, M.2.2.F ht9⟩) M.2.2.2.2 dX2_readLaw_142
              · -- c_19: p_law (Rr 16) z st.1 < 3
                refine lv_aload_n hx hb dX2_readLaw_120 rfl (lv_at hl 1 rfl) ?_
                refine lv_sipush (v := 999) hx hb dX2_readLaw_121 (by decide) ?_
                refine m_cU (As := [.int 999]) (rest := [.int (nI st_17.2.2.2), .ref (ad 14)]) X M (metX2_numberTo l D cl hcl h ad dA G (mset (mset (mset Rr 11 st_7.2.2.2 p1) 12 st_7.2.2.2 (p_law (Rr 16) z st.1)) 13 st_7.2.2.2 v_18) (Rr 16) rfl z st_17 999 hz4 hst_17) (cwV 1 hts (lw_V q1708 q1710 qs33 q62 q1711) rfl rfl rfl (by decide +kernel) ⟨Nat.le_of_ble_eq_true rfl, Nat.le_of_ble_eq_true rfl⟩) rfl hl.1 rfl (Nat.le_of_ble_eq_true rfl) dX2_readLaw_124 ⟨Nat.zero_le _, Nat.zero_le _⟩ (fun r9 F9 R9 hr9 H locs M => ?_)
                obtain ⟨⟨v_21, st_20⟩, est_20⟩ : ∃ x9, x9 = (p_num (Rr 16) z st_17 999) := ⟨_, rfl⟩
                rw [← est_20] at hr9
                obtain ⟨rfl, rfl, rfl⟩ : v_21 = r9 ∧ F9 = pF G (Rr 16) z st_20 ∧ (mset (mset (mset Rr 11 st_7.2.2.2 p1) 12 st_7.2.2.2 (p_law (Rr 16) z st.1)) 13 st_7.2.2.2 v_18) = R9 := ⟨(congrArg Prod.fst hr9).symm, congrArg (fun z => z.2.1) hr9, (congrArg (fun z => z.2.2) hr9).symm⟩
                have hst_20 : st_20.1 ≤ z := by have q9 := p_num_le (T := Rr 16) (most := 999) hst_17; rw [← est_20] at q9; exact q9
                have nst_20 : st_20.2.2.2 = (st_17).2.2.2 := by have q9 := p_num_n (T := Rr 16) (z := z) (st := st_17) (most := 999); rw [← est_20] at q9; exact q9
                refine lv_goto (tgt := 131) hx hb dX2_readLaw_127 (by decide) ?_
                refine ms_14 X M (j := st_17.2.2.2) (vp_in_nI (by omega) (by omega)) (nI_clamp (by omega)) dX2_readLaw_131 (fun H locs M => ?_)
                refine lv_aload_n hx hb dX2_readLaw_132 rfl (lv_at hl 1 rfl) ?_
                refine lv_dup hx hb dX2_readLaw_133 rfl ?_
                refine mg_15 X M (v := nI st_20.2.2.2) rfl dX2_readLaw_134 ?_
                refine lv_iconst (v := 1) hx hb dX2_readLaw_137 (by decide) ?_
                refine lv_iadd hx hb dX2_readLaw_138 ?_
                refine lv_asi (y := nI (st_20.2.2.2 + 1)) (nI_add st_20.2.2.2 1) ?_
                refine mp_15 X M dX2_readLaw_139 (fun H locs M => ?_)
                exact W.vret hx hb hr (fun t9 ht9 hW9 => ⟨⟨(va_up (pF G (Rr 16) z st_20) 15 (nI (st_20.2.2.2 + 1)), mset (mset (mset (mset Rr 11 st_7.2.2.2 p1) 12 st_7.2.2.2 (p_law (Rr 16) z st.1)) 13 st_7.2.2.2 v_18) 14 st_17.2.2.2 v_21), rfl, (by first | (simp [p_rl, p_rl1, p_rl2, p_of, p_am, c_1, c_5, en30, ← est_7, nst_7, c_8, c_8', c_9, c_10, c_16, ← est_17, nst_17, c_19, c_19', ← est_20, nst_20]; done) | (rw [pF_15]; simp [p_rl, p_rl1, p_rl2, p_of, p_am, c_1, c_5, en30, ← est_7, nst_7, c_8, c_8', c_9, c_10, c_16, ← est_17, nst_17, c_19, c_19', ← est_20, nst_20]; done) | (exfalso; clear M; grind)), by show va_P _ _ _ t9.heap; rw [ht9]; exact M.1⟩, M.2.2.F ht9⟩) M.2.2.2.2 dX2_readLaw_142
            · -- c_16: p_law (Rr 16) z st.1 = 6
              refine lv_bipush (v := 11) hx hb dX2_readLaw_96 (by decide) ?_
              refine lv_goto (tgt := 103) hx hb dX2_readLaw_98 (by decide) ?_
              refine m_cU (As := [.int 11]) (rest := [.int (nI st_7.2.2.2), .ref (ad 13)]) X M (metX2_numberTo l D cl hcl h ad dA G (mset (mset Rr 11 st_7.2.2.2 p1) 12 st_7.2.2.2 (p_law (Rr 16) z st.1)) (Rr 16) rfl z st_7 11 hz4 hst_7) (cwV 1 hts (lw_V q1708 q1710 qs33 q62 q1711) rfl rfl rfl (by decide +kernel) ⟨Nat.le_of_ble_eq_true rfl, Nat.le_of_ble_eq_true rfl⟩) rfl hl.1 rfl (Nat.le_of_ble_eq_true rfl) dX2_readLaw_103 ⟨Nat.zero_le _, Nat.zero_le _⟩ (fun r9 F9 R9 hr9 H locs M => ?_)
              obtain ⟨⟨v_23, st_22⟩, est_22⟩ : ∃ x9, x9 = (p_num (Rr 16) z st_7 11) := ⟨_, rfl⟩
              rw [← est_22] at hr9
              obtain ⟨rfl, rfl, rfl⟩ : v_23 = r9 ∧ F9 = pF G (Rr 16) z st_22 ∧ (mset (mset Rr 11 st_7.2.2.2 p1) 12 st_7.2.2.2 (p_law (Rr 16) z st.1)) = R9 := ⟨(congrArg Prod.fst hr9).symm, congrArg (fun z => z.2.1) hr9, (congrArg (fun z => z.2.2) hr9).symm⟩
              have hst_22 : st_22.1 ≤ z := by have q9 := p_num_le (T := Rr 16) (most := 11) hst_7; rw [← est_22] at q9; exact q9
              have nst_22 : st_22.2.2.2 = (st_7).2.2.2 := by have q9 := p_num_n (T := Rr 16) (z := z) (st := st_7) (most := 11); rw [← est_22] at q9; exact q9
              refine ms_13 X M (j := st_7.2.2.2) (vp_in_nI (by omega) (by omega)) (nI_clamp (by omega)) dX2_readLaw_106 (fun H locs M => ?_)
              refine lv_aload_n hx hb dX2_readLaw_107 rfl (lv_at hl 1 rfl) ?_
              refine mg_14 X M dX2_readLaw_108 ?_
              refine lv_aload_n hx hb dX2_readLaw_111 rfl (lv_at hl 1 rfl) ?_
              refine mg_15 X M (v := nI st_22.2.2.2) rfl dX2_readLaw_112 ?_
              refine lv_iload_n hx hb dX2_readLaw_115 rfl (lv_at hl 0 rfl) ?_
              refine lv_iconst (v := 3) hx hb dX2_readLaw_116 (by decide) ?_
              refine lb_icmp_ge (tgt := 130) hx hb dX2_readLaw_117 (by decide) (fun c_24 c_24' => ?_) (fun c_24 c_24' => ?_)
              · -- c_24: p_law (Rr 16) z st.1 ≥ 3
                refine lv_iconst (v := 0) hx hb dX2_readLaw_130 (by decide) ?_
                refine ms_14 X M (j := st_22.2.2.2) (vp_in_nI (by omega) (by omega)) (nI_clamp (by omega)) dX2_readLaw_131 (fun H locs M => ?_)
                refine lv_aload_n hx hb dX2_readLaw_132 rfl (lv_at hl 1 rfl) ?_
                refine lv_dup hx hb dX2_readLaw_133 rfl ?_
                refine mg_15 X M (v := nI st_22.2.2.2) rfl dX2_readLaw_134 ?_
                refine lv_iconst (v := 1) hx hb dX2_readLaw_137 (by decide) ?_
                refine lv_iadd hx hb dX2_readLaw_138 ?_
                refine lv_asi (y := nI (st_22.2.2.2 + 1)) (nI_add st_22.2.2.2 1) ?_
                refine mp_15 X M dX2_readLaw_139 (fun H locs M => ?_)
                exact W.vret hx hb hr (fun t9 ht9 hW9 => ⟨⟨(va_up (pF G (Rr 16) z st_22) 15 (nI (st_22.2.2.2 + 1)), mset (mset (mset (mset Rr 11 st_7.2.2.2 p1) 12 st_7.2.2.2 (p_law (Rr 16) z st.1)) 13 st_7.2.2.2 v_23) 14 st_22.2.2.2 0), rfl, (by first | (simp [p_rl, p_rl1, p_rl2, p_of, p_am, c_1, c_5, en30, ← est_7, nst_7, c_8, c_8', c_9, c_10, c_16, ← est_22, nst_22, c_24, c_24']; done) | (rw [pF_15]; simp [p_rl, p_rl1, p_rl2, p_of, p_am, c_1, c_5, en30, ← est_7, nst_7, c_8, c_8', c_9, c_10, c_16, ← est_22, nst_22, c_24, c_24']; done) | (exfalso; clear M; grind)), by show va_P _ _ _ t9.heap; rw [ht9]; exact M.1⟩, M.2.2.F ht9⟩) M.2.2.2.2 dX2_readLaw_142
              · -- c_24: p_law (Rr 16) z st.1 < 3
                refine lv_aload_n hx hb dX2_readLaw_120 rfl (lv_at hl 1 rfl) ?_
                refine lv_sipush (v := 999) hx hb dX2_readLaw_121 (by decide) ?_
                refine m_cU (As := [.int 999]) (rest := [.int (nI st_22.2.2.2), .ref (ad 14)]) X M (metX2_numberTo l D cl hcl h ad dA G (mset (mset (mset Rr 11 st_7.2.2.2 p1) 12 st_7.2.2.2 (p_law (Rr 16) z st.1)) 13 st_7.2.2.2 v_23) (Rr 16) rfl z st_22 999 hz4 hst_22) (cwV 1 hts (lw_V q1708 q1710 qs33 q62 q1711) rfl rfl rfl (by decide +kernel) ⟨Nat.le_of_ble_eq_true rfl, Nat.le_of_ble_eq_true rfl⟩) rfl hl.1 rfl (Nat.le_of_ble_eq_true rfl) dX2_readLaw_124 ⟨Nat.zero_le _, Nat.zero_le _⟩ (fun r9 F9 R9 hr9 H locs M => ?_)
                obtain ⟨⟨v_26, st_25⟩, est_25⟩ : ∃ x9, x9 = (p_num (Rr 16) z st_22 999) := ⟨_, rfl⟩
                rw [← est_25] at hr9
                obtain ⟨rfl, rfl, rfl⟩ : v_26 = r9 ∧ F9 = pF G (Rr 16) z st_25 ∧ (mset (mset (mset Rr 11 st_7.2.2.2 p1) 12 st_7.2.2.2 (p_law (Rr 16) z st.1)) 13 st_7.2.2.2 v_23) = R9 := ⟨(congrArg Prod.fst hr9).symm, congrArg (fun z => z.2.1) hr9, (congrArg (fun z => z.2.2) hr9).symm⟩
                have hst_25 : st_25.1 ≤ z := by have q9 := p_num_le (T := Rr 16) (most := 999) hst_22; rw [← est_25] at q9; exact q9
                have nst_25 : st_25.2.2.2 = (st_22).2.2.2 := by have q9 := p_num_n (T := Rr 16) (z := z) (st := st_22) (most := 999); rw [← est_25] at q9; exact q9
                refine lv_goto (tgt := 131) hx hb dX2_readLaw_127 (by decide) ?_
                refine ms_14 X M (j := st_22.2.2.2) (vp_in_nI (by omega) (by omega)) (nI_clamp (by omega)) dX2_readLaw_131 (fun H locs M => ?_)
                refine lv_aload_n hx hb dX2_readLaw_132 rfl (lv_at hl 1 rfl) ?_
                refine lv_dup hx hb dX2_readLaw_133 rfl ?_
                refine mg_15 X M (v := nI st_25.2.2.2) rfl dX2_readLaw_134 ?_
                refine lv_iconst (v := 1) hx hb dX2_readLaw_137 (by decide) ?_
                refine lv_iadd hx hb dX2_readLaw_138 ?_
                refine lv_asi (y := nI (st_25.2.2.2 + 1)) (nI_add st_25.2.2.2 1) ?_
                refine mp_15 X M dX2_readLaw_139 (fun H locs M => ?_)
                exact W.vret hx hb hr (fun t9 ht9 hW9 => ⟨⟨(va_up (pF G (Rr 16) z st_25) 15 (nI (st_25.2.2.2 + 1)), mset (mset (mset (mset Rr 11 st_7.2.2.2 p1) 12 st_7.2.2.2 (p_law (Rr 16) z st.1)) 13 st_7.2.2.2 v_23) 14 st_22.2.2.2 v_26), rfl, (by first | (simp [p_rl, p_rl1, p_rl2, p_of, p_am, c_1, c_5, en30, ← est_7, nst_7, c_8, c_8', c_9, c_10, c_16, ← est_22, nst_22, c_24, c_24', ← est_25, nst_25]; done) | (rw [pF_15]; simp [p_rl, p_rl1, p_rl2, p_of, p_am, c_1, c_5, en30, ← est_7, nst_7, c_8, c_8', c_9, c_10, c_16, ← est_22, nst_22, c_24, c_24', ← est_25, nst_25]; done) | (exfalso; clear M; grind)), by show va_P _ _ _ t9.heap; rw [ht9]; exact M.1⟩, M.2.2.F ht9⟩) M.2.2.2.2 dX2_readLaw_142
        · -- c_9: p_law (Rr 16) z st.1 = 0
          refine lv_iconst (v := 0) hx hb dX2_readLaw_80 (by decide) ?_
          refine lv_goto (tgt := 106) hx hb dX2_readLaw_81 (by decide) ?_
          refine ms_13 X M (j := st_7.2.2.2) (vp_in_nI (by omega) (by omega)) (nI_clamp (by omega)) dX2_readLaw_106 (fun H locs M => ?_)
          refine lv_aload_n hx hb dX2_readLaw_107 rfl (lv_at hl 1 rfl) ?_
          refine mg_14 X M dX2_readLaw_108 ?_
          refine lv_aload_n hx hb dX2_readLaw_111 rfl (lv_at hl 1 rfl) ?_
          refine mg_15 X M (v := nI st_7.2.2.2) rfl dX2_readLaw_112 ?_
          refine lv_iload_n hx hb dX2_readLaw_115 rfl (lv_at hl 0 rfl) ?_
          refine lv_iconst (v := 3) hx hb dX2_readLaw_116 (by decide) ?_
          refine lb_icmp_ge (tgt := 130) hx hb dX2_readLaw_117 (by decide) (fun c_27 c_27' => ?_) (fun c_27 c_27' => ?_)
          · -- c_27: p_law (Rr 16) z st.1 ≥ 3
            refine lv_iconst (v := 0) hx hb dX2_readLaw_130 (by decide) ?_
            refine ms_14 X M (j := st_7.2.2.2) (vp_in_nI (by omega) (by omega)) (nI_clamp (by omega)) dX2_readLaw_131 (fun H locs M => ?_)
            refine lv_aload_n hx hb dX2_readLaw_132 rfl (lv_at hl 1 rfl) ?_
            refine lv_dup hx hb dX2_readLaw_133 rfl ?_
            refine mg_15 X M (v := nI st_7.2.2.2) rfl dX2_readLaw_134 ?_
            refine lv_iconst (v := 1) hx hb dX2_readLaw_137 (by decide) ?_
            refine lv_iadd hx hb dX2_readLaw_138 ?_
            refine lv_asi (y := nI (st_7.2.2.2 + 1)) (nI_add st_7.2.2.2 1) ?_
            refine mp_15 X M dX2_readLaw_139 (fun H locs M => ?_)
            exact W.vret hx hb hr (fun t9 ht9 hW9 => ⟨⟨(va_up (pF G (Rr 16) z st_7) 15 (nI (st_7.2.2.2 + 1)), mset (mset (mset (mset Rr 11 st_7.2.2.2 p1) 12 st_7.2.2.2 (p_law (Rr 16) z st.1)) 13 st_7.2.2.2 0) 14 st_7.2.2.2 0), rfl, (by first | (simp [p_rl, p_rl1, p_rl2, p_of, p_am, c_1, c_5, en30, ← est_7, nst_7, c_8, c_8', c_9, c_27, c_27']; done) | (rw [pF_15]; simp [p_rl, p_rl1, p_rl2, p_of, p_am, c_1, c_5, en30, ← est_7, nst_7, c_8, c_8', c_9, c_27, c_27']; done) | (exfalso; clear M; grind)), by show va_P _ _ _ t9.heap; rw [ht9]; exact M.1⟩, M.2.2.F ht9⟩) M.2.2.2.2 dX2_readLaw_142
          · -- c_27: p_law (Rr 16) z st.1 < 3
            refine lv_aload_n hx hb dX2_readLaw_120 rfl (lv_at hl 1 rfl) ?_
            refine lv_sipush (v := 999) hx hb dX2_readLaw_121 (by decide) ?_
            refine m_cU (As := [.int 999]) (rest := [.int (nI st_7.2.2.2), .ref (ad 14)]) X M (metX2_numberTo l D cl hcl h ad dA G (mset (mset (mset Rr 11 st_7.2.2.2 p1) 12 st_7.2.2.2 (p_law (Rr 16) z st.1)) 13 st_7.2.2.2 0) (Rr 16) rfl z st_7 999 hz4 hst_7) (cwV 1 hts (lw_V q1708 q1710 qs33 q62 q1711) rfl rfl rfl (by decide +kernel) ⟨Nat.le_of_ble_eq_true rfl, Nat.le_of_ble_eq_true rfl⟩) rfl hl.1 rfl (Nat.le_of_ble_eq_true rfl) dX2_readLaw_124 ⟨Nat.zero_le _, Nat.zero_le _⟩ (fun r9 F9 R9 hr9 H locs M => ?_)
            obtain ⟨⟨v_29, st_28⟩, est_28⟩ : ∃ x9, x9 = (p_num (Rr 16) z st_7 999) := ⟨_, rfl⟩
            rw [← est_28] at hr9
            obtain ⟨rfl, rfl, rfl⟩ : v_29 = r9 ∧ F9 = pF G (Rr 16) z st_28 ∧ (mset (mset (mset Rr 11 st_7.2.2.2 p1) 12 st_7.2.2.2 (p_law (Rr 16) z st.1)) 13 st_7.2.2.2 0) = R9 := ⟨(congrArg Prod.fst hr9).symm, congrArg (fun z => z.2.1) hr9, (congrArg (fun z => z.2.2) hr9).symm⟩
            have hst_28 : st_28.1 ≤ z := by have q9 := p_num_le (T := Rr 16) (most := 999) hst_7; rw [← est_28] at q9; exact q9
            have nst_28 : st_28.2.2.2 = (st_7).2.2.2 := by have q9 := p_num_n (T := Rr 16) (z := z) (st := st_7) (most := 999); rw [← est_28] at q9; exact q9
            refine lv_goto (tgt := 131) hx hb dX2_readLaw_127 (by decide) ?_
            refine ms_14 X M (j := st_7.2.2.2) (vp_in_nI (by omega) (by omega)) (nI_clamp (by omega)) dX2_readLaw_131 (fun H locs M => ?_)
            refine lv_aload_n hx hb dX2_readLaw_132 rfl (lv_at hl 1 rfl) ?_
            refine lv_dup hx hb dX2_readLaw_133 rfl ?_
            refine mg_15 X M (v := nI st_28.2.2.2) rfl dX2_readLaw_134 ?_
            refine lv_iconst (v := 1) hx hb dX2_readLaw_137 (by decide) ?_
            refine lv_iadd hx hb dX2_readLaw_138 ?_
            refine lv_asi (y := nI (st_28.2.2.2 + 1)) (nI_add st_28.2.2.2 1) ?_
            refine mp_15 X M dX2_readLaw_139 (fun H locs M => ?_)
            exact W.vret hx hb hr (fun t9 ht9 hW9 => ⟨⟨(va_up (pF G (Rr 16) z st_28) 15 (nI (st_28.2.2.2 + 1)), mset (mset (mset (mset Rr 11 st_7.2.2.2 p1) 12 st_7.2.2.2 (p_law (Rr 16) z st.1)) 13 st_7.2.2.2 0) 14 st_7.2.2.2 v_29), rfl, (by first | (simp [p_rl, p_rl1, p_rl2, p_of, p_am, c_1, c_5, en30, ← est_7, nst_7, c_8, c_8', c_9, c_27, c_27', ← est_28, nst_28]; done) | (rw [pF_15]; simp [p_rl, p_rl1, p_rl2, p_of, p_am, c_1, c_5, en30, ← est_7, nst_7, c_8, c_8', c_9, c_27, c_27', ← est_28, nst_28]; done) | (exfalso; clear M; grind)), by show va_P _ _ _ t9.heap; rw [ht9]; exact M.1⟩, M.2.2.F ht9⟩) M.2.2.2.2 dX2_readLaw_142
      · -- c_8: st_7.2.1 > 0
        exact W.vret hx hb hr (fun t9 ht9 hW9 => ⟨⟨(pF G (Rr 16) z st_7, Rr), rfl, (by first | (simp [p_rl, p_rl1, p_rl2, p_of, p_am, c_1, c_5, en30, ← est_7, nst_7, c_8, c_8']; done) | (rw [pF_15]; simp [p_rl, p_rl1, p_rl2, p_of, p_am, c_1, c_5, en30, ← est_7, nst_7, c_8, c_8']; done) | (exfalso; clear M; grind)), by show va_P _ _ _ t9.heap; rw [ht9]; exact M.1⟩, M.2.2.F ht9⟩) M.2.2.2.2 dX2_readLaw_47
    · -- c_5: nI st.2.2.2 = 30
      have en30 : st.2.2.2 = 30 := nI_inj (b := 30) c_5 (by omega) (by omega)
      refine lv_aload_n hx hb dX2_readLaw_20 rfl (lv_at hl 1 rfl) ?_
      refine lv_iconst (v := 3) hx hb dX2_readLaw_21 (by decide) ?_
      refine m_cUv (As := [.int 3]) (rest := []) X M (metX2_bad l D cl hcl h ad dA G Rr (Rr 16) rfl z st 3) (cwV 1 hts (lw_V q1704 q1706 qs32 q62 q1707) rfl rfl rfl (by decide +kernel) ⟨Nat.le_of_ble_eq_true rfl, Nat.le_of_ble_eq_true rfl⟩) rfl hl.1 rfl (Nat.le_of_ble_eq_true rfl) dX2_readLaw_22 ⟨Nat.zero_le _, Nat.zero_le _⟩ (fun F9 R9 hr9 H locs M => ?_)
      obtain ⟨rfl, rfl⟩ : F9 = pF G (Rr 16) z (p_bad st 3) ∧ Rr = R9 := ⟨congrArg Prod.fst hr9, (congrArg Prod.snd hr9).symm⟩
      refine lv_aload_n hx hb dX2_readLaw_25 rfl (lv_at hl 1 rfl) ?_
      refine lv_iload_n hx hb dX2_readLaw_26 rfl (lv_at hl 0 rfl) ?_
      refine lv_ldc (v := (-1000000)) hx hb hown (hts _ q1430) dX2_readLaw_27 ?_
      refine lv_icmp_eq (tgt := 36) hx hb dX2_readLaw_29 (by decide) (fun c_30 => absurd c_30 c_1) (fun c_30 => ?_)
      refine lv_iconst (v := 1) hx hb dX2_readLaw_32 (by decide) ?_
      refine lv_goto (tgt := 37) hx hb dX2_readLaw_33 (by decide) ?_
      refine m_cUv (As := [.int 1]) (rest := []) X M (metX2_need l D cl hcl h ad dA G Rr (Rr 16) rfl z (p_bad st 3) true hz4 hst) (cwV 1 hts (lw_V q1700 q1702 qs31 q62 q1703) rfl rfl rfl (by decide +kernel) ⟨Nat.le_of_ble_eq_true rfl, Nat.le_of_ble_eq_true rfl⟩) rfl hl.1 rfl (Nat.le_of_ble_eq_true rfl) dX2_readLaw_37 ⟨Nat.zero_le _, Nat.zero_le _⟩ (fun F9 R9 hr9 H locs M => ?_)
      obtain ⟨rfl, rfl⟩ : F9 = pF G (Rr 16) z (p_need (Rr 16) z (p_bad st 3) true) ∧ Rr = R9 := ⟨congrArg Prod.fst hr9, (congrArg Prod.snd hr9).symm⟩
      obtain ⟨st_31, est_31⟩ : ∃ x9, x9 = p_need (Rr 16) z (p_bad st 3) true := ⟨_, rfl⟩
      rw [← est_31] at M
      have hst_31 : st_31.1 ≤ z := by rw [est_31]; exact p_need_le hst
      have nst_31 : st_31.2.2.2 = ((p_bad st 3)).2.2.2 := by rw [est_31]; exact p_need_n
      refine lv_aload_n hx hb dX2_readLaw_40 rfl (lv_at hl 1 rfl) ?_
      refine mg_24 X M (v := st_31.2.1) rfl dX2_readLaw_41 ?_
      refine lb_if_le (tgt := 48) hx hb dX2_readLaw_44 (by decide) (fun c_32 c_32' => ?_) (fun c_32 c_32' => ?_)
      · -- c_32: st_31.2.1 ≤ 0
        exact absurd (show 0 < st_31.2.1 by rw [est_31, p_need_b3 hf0]; decide) c_32'
      · -- c_32: st_31.2.1 > 0
        exact W.vret hx hb hr (fun t9 ht9 hW9 => ⟨⟨(pF G (Rr 16) z st_31, Rr), rfl, (by first | (simp [p_rl, p_rl1, p_rl2, p_of, p_am, c_1, c_5, en30, ← est_31, nst_31, c_32, c_32']; done) | (rw [pF_15]; simp [p_rl, p_rl1, p_rl2, p_of, p_am, c_1, c_5, en30, ← est_31, nst_31, c_32, c_32']; done) | (exfalso; clear M; grind)), by show va_P _ _ _ t9.heap; rw [ht9]; exact M.1⟩, M.2.2.F ht9⟩) M.2.2.2.2 dX2_readLaw_47

