/-! THE REFERENCE, 6: items taken; sizes and marks; counts; the tape -/
theorem m_look_ok {F : Nat → Int32} {Rr : Nat → Nat → Int32} {s i n : Int32} (h : 0 ≤ (m_lookItems F Rr s i n).1) : m_lookItems F Rr s i n = (0, F, Rr) ∧ ¬ Rr 2 s.toNatClampNeg < 0 ∧ 0 ≤ i ∧ i.toInt64 + n.toInt64 ≤ (Rr 3 s.toNatClampNeg).toInt64 := by
  unfold m_lookItems at h ⊢
  by_cases a : Rr 2 s.toNatClampNeg < 0
  · rw [if_pos a] at h; exact absurd h (by simp [m_finding])
  · rw [if_neg a] at h ⊢
    by_cases b : i < 0 ∨ (Rr 3 s.toNatClampNeg).toInt64 < i.toInt64 + n.toInt64
    · rw [if_pos b] at h; exact absurd h (by simp [m_finding])
    · rw [if_neg b] at h ⊢
      exact ⟨rfl, a, Int32.not_lt.mp fun q => b (Or.inl q), Int64.not_lt.mp fun q => b (Or.inr q)⟩
def m_cartOk (Rr : Nat → Nat → Int32) (a : Nat) (k : Nat) : Bool := inB 0 (if k = 0 then 4 else 99) (Rr 4 (a + k))
def m_cart (F : Nat → Int32) (Rr : Nat → Nat → Int32) (s i : Int32) : Int32 × mST := if inB 0 7 s = false then ((-1000001), F, Rr) else if F 26 = 16 then ((-1000003), F, Rr) else if (m_lookItems F Rr s i 9).1 < 0 then m_lookItems F Rr s i 9 else if ∀ k, k < 9 → m_cartOk Rr (64 * s.toNatClampNeg + i.toNatClampNeg) k = true then (F 26, va_up (va_up F 1 0) 26 (F 26 + 1), itr (fun k R => mset R 27 (9 * (F 26).toNatClampNeg + k) (R 4 (64 * s.toNatClampNeg + i.toNatClampNeg + k))) 9 Rr) else ((-1000001), F, Rr)
set_option maxHeartbeats 4000000 in
set_option maxRecDepth 100000 in
theorem metX2_cart (l : Launch) (D : va_G) (cl : List vw_C) (hcl : cl[0]? = some (RX2, TX2, 61)) (h : Nat) (ad : Nat → Nat) (dA : ClassId) (F : Nat → Int32) (Rr : Nat → Nat → Int32) (p1 : Int32) (p2 : Int32) (h26 : cnB (F 26) 16) (h3 : ∀ k, k < 8 → cnB (Rr 3 k) 64) : Met l yX2_cart (ws_ yX2_cart cX2_cart 6 (some .int)) ({ frames := 2, cells := 0, slots := 0, locals := 45 } : Room) (va_Pc [.ref h, .int p1, .int p2] (mPre D cl h ad dA F Rr)) (va_Qi (fun r u => (r, u) = m_cart (va_up F 0 0) Rr p1 p2) (mB D cl h ad dA) (mN h ad)) 0 0 (mN h ad) := by
  refine Met.ofW (cc := cX2_cart) (maxL := 6) (ret := (some .int)) (by decide) rfl ?_
  intro p e s m args below meth c s₁ B hml hv
  obtain ⟨rfl, hK, hP, hD⟩ := hv
  have hx := B.exec
  have hb := B.bytes
  have hr := B.returns
  have hts := atoms_spec (ws := (ws_ yX2_cart cX2_cart 6 (some .int))) B.pre
  have hts : ∀ w ∈ lw_all, w.before _ s = true := fun w h => hts w (List.mem_cons_of_mem _ h)
  have hown : s.vm.findClass RX2 = some m.cls := findClass_of_methodNamed B.named
  have hlocks := B.notSynchronized
  have S : CallFix p m c cX2_cart 6 s ([.ref h, .int p1, .int p2] : List Value).toArray lw_all RX2 := ⟨hx, hb, hml, hown, hts⟩
  have X : mX p s m ([.ref h, .int p1, .int p2] : List Value).toArray c cX2_cart 6 D cl dA := ⟨hx, hb, hml, hown, hts, hK, hcl⟩
  have M : mM D cl h ad dA (mN h ad) s F Rr s.heap [] := ⟨hP, mW_self hD, va_S.rf⟩
  have hl := lv_entry ([.ref h, .int p1, .int p2]) (n := 6) (Nat.le_of_ble_eq_true rfl)
  rw [lg_entry_eq]
  generalize (lg_sl ([.ref h, .int p1, .int p2]) ++ List.replicate (6 - (lg_sl ([.ref h, .int p1, .int p2])).length) Slot.unset).toArray = ls at hl ⊢
  have hl : lv_has ls 6 [(0, .ref h), (1, .int p1), (2, .int p2)] := hl
  obtain ⟨n26, hn26, en26⟩ := cnB_ex h26 (n := 16) rfl
  have em26 : (F 26).toNatClampNeg = n26 := by rw [en26]; exact nI_clamp (by omega)
  have ec26 : (nI n26).toNatClampNeg = n26 := nI_clamp (by omega)
  refine lv_aload_n hx hb dX2_cart_0 rfl (lv_at hl 0 rfl) ?_
  refine lv_iconst (v := 0) hx hb dX2_cart_1 (by decide) ?_
  refine mp_0 X M dX2_cart_2 (fun H locs M => ?_)
  refine lv_iload_n hx hb dX2_cart_5 rfl (lv_at hl 1 rfl) ?_
  refine s_cI (v := b2i (inB 0 7 p1)) (As := [.int p1]) (rest := []) S (metX2_isSheet l p1) (va_cwS 1 hts (lw_S q1619 q1620 q62 q1621) rfl rfl rfl (by decide +kernel) ⟨Nat.le_of_ble_eq_true rfl, Nat.le_of_ble_eq_true rfl⟩) rfl hl.1 rfl (Nat.le_of_ble_eq_true rfl) dX2_cart_6 ⟨Nat.zero_le _, Nat.zero_le _⟩ ?_
  refine lz_if_ne (tgt := 15) hx hb dX2_cart_9 (by decide) (fun c_1 => ?_) (fun c_1 => ?_)
  · -- c_1: inB 0 7 p1 = true
    obtain ⟨s1, hs1, rfl⟩ := inB_ex c_1 (n := 7) rfl
    have es1 : (nI s1).toNatClampNeg = s1 := nI_clamp (by omega)
    refine lv_aload_n hx hb dX2_cart_15 rfl (lv_at hl 0 rfl) ?_
    refine mg_26 X M (v := F 26) rfl dX2_cart_16 ?_
    refine lv_asi (y := nI n26) en26 ?_
    refine lv_bipush (v := 16) hx hb dX2_cart_19 (by decide) ?_
    refine lv_icmp_ne (tgt := 27) hx hb dX2_cart_21 (by decide) (fun c_2 => ?_) (fun c_2 => ?_)
    · -- c_2: nI n26 ≠ 16
      have hn26b : n26 < 16 := nI_lt_ne (N := 16) c_2 hn26
      refine lv_aload_n hx hb dX2_cart_27 rfl (lv_at hl 0 rfl) ?_
      refine lv_iload_n hx hb dX2_cart_28 rfl (lv_at hl 1 rfl) ?_
      refine lv_iload_n hx hb dX2_cart_29 rfl (lv_at hl 2 rfl) ?_
      refine lv_bipush (v := 9) hx hb dX2_cart_30 (by decide) ?_
      refine m_cU (As := [.int (nI s1), .int p2, .int 9]) (rest := []) X M (metX2_lookItems l D cl hcl h ad dA (va_up F 0 0) Rr (nI s1) p2 9 (vp_in_nI (by omega) (by omega))) (cwV 3 hts (lw_V q1767 q1769 qs40 q62 q1770) rfl rfl rfl (by decide +kernel) ⟨Nat.le_of_ble_eq_true rfl, Nat.le_of_ble_eq_true rfl⟩) rfl hl.1 rfl (Nat.le_of_ble_eq_true rfl) dX2_cart_32 ⟨Nat.zero_le _, Nat.zero_le _⟩ (fun r9 F9 R9 hr9 H locs M => ?_)
      obtain ⟨Z_3, eZ_3⟩ : ∃ z, z = m_lookItems (va_up F 0 0) Rr (nI s1) p2 9 := ⟨_, rfl⟩
      rw [← eZ_3] at hr9
      obtain ⟨rfl, rfl, rfl⟩ : r9 = Z_3.1 ∧ F9 = Z_3.2.1 ∧ R9 = Z_3.2.2 := ⟨congrArg Prod.fst hr9, congrArg (fun z => z.2.1) hr9, congrArg (fun z => z.2.2) hr9⟩
      refine lv_istore_n (lv' := [(3, .int Z_3.1), (0, .ref h), (1, .int (nI s1)), (2, .int p2)]) hx hb dX2_cart_35 rfl hl (by decide) rfl (fun ls hl => ?_)
      refine lv_iload_n hx hb dX2_cart_36 rfl (lv_at hl 0 rfl) ?_
      refine lb_if_ge (tgt := 42) hx hb dX2_cart_37 (by decide) (fun c_4 c_4' => ?_) (fun c_4 c_4' => ?_)
      · -- c_4: Z_3.1 ≥ 0
        obtain ⟨look0, look1, look2, look3⟩ := m_look_ok (by rw [← eZ_3]; exact c_4)
        rw [look0] at eZ_3
        subst eZ_3
        have M : mM D cl h ad dA (mN h ad) s (va_up F 0 0) Rr H locs := M
        obtain ⟨i1, hi1, rfl⟩ := nat_ge0 look2
        have ei1 : (nI i1).toNatClampNeg = i1 := nI_clamp (by omega)
        have hs1 := add64 hi1 (b := 9) (by omega) look3 (h3 _ (by rw [es1]; omega)) (n := 64) rfl
        refine lv_bipush (v := 64) hx hb dX2_cart_42 (by decide) ?_
        refine lv_iload_n hx hb dX2_cart_44 rfl (lv_at hl 2 rfl) ?_
        refine lv_imul hx hb dX2_cart_45 ?_
        refine lv_asi (y := nI (64 * s1)) (nI_mul 64 s1) ?_
        refine lv_iload_n hx hb dX2_cart_46 rfl (lv_at hl 3 rfl) ?_
        refine lv_iadd hx hb dX2_cart_47 ?_
        refine lv_asi (y := nI ((64 * s1) + i1)) (nI_add (64 * s1) i1) ?_
        refine lv_istore (lv' := [(4, .int (nI ((64 * s1) + i1))), (3, .int 0), (0, .ref h), (1, .int (nI s1)), (2, .int (nI i1))]) hx hb dX2_cart_48 hl (by decide) rfl (fun ls hl => ?_)
        refine lv_iconst (v := 0) hx hb dX2_cart_50 (by decide) ?_
        refine lv_istore (lv' := [(5, .int 0), (4, .int (nI ((64 * s1) + i1))), (3, .int 0), (0, .ref h), (1, .int (nI s1)), (2, .int (nI i1))]) hx hb dX2_cart_51 hl (by decide) rfl (fun ls hl => ?_)
        have L_5 : ∀ (fuL_5 : Nat) (i : Nat), (i ≤ 9) → (∀ j, j < i → m_cartOk Rr (64 * s1 + i1) j = true) → 9 - i < fuL_5 → ∀ (H : Heap) (locs : List Loc), mM D cl h ad dA (mN h ad) s (va_up F 0 0) Rr H locs → ∀ ls, lv_has ls 6 [(0, .ref h), (1, .int (nI s1)), (2, .int (nI i1)), (3, .int 0), (4, .int (nI ((64 * s1) + i1))), (5, .int (nI i))] → W p l e ({ frames := 2, cells := 0, slots := 0, locals := 45 } : Room) s m ([.ref h, .int (nI s1), .int (nI i1)] : List Value).toArray below meth c H locs 0 0 (MQ below (va_Qi (fun r u => (r, u) = m_cart (va_up F 0 0) Rr (nI s1) (nI i1)) (mB D cl h ad dA) (mN h ad)) ([.ref h, .int (nI s1), .int (nI i1)] : List Value).toArray s 0 0 (mN h ad)) (F0 m 53 ls []) := by
          intro fuL_5
          induction fuL_5 with
          | zero => intro i hi hall hfuL_5; exact absurd hfuL_5 (Nat.not_lt_zero _)
          | succ fuL_5 L_5ih =>
            intro i hi hall hfuL_5 H locs M ls hl
            refine lv_iload hx hb dX2_cart_53 (lv_at hl 5 rfl) ?_
            refine lv_bipush (v := 9) hx hb dX2_cart_55 (by decide) ?_
            refine ln_icmp_ge (tgt := 101) hx hb (a := i) (b := 9) (by omega) (by omega) dX2_cart_57 (by decide) (fun c_6 => ?_) (fun c_6 => ?_)
            · -- c_6: nI i ≥ 9
              have hall9 : ∀ k, k < 9 → m_cartOk Rr (64 * s1 + i1) k = true := fun k hk => hall k (by omega)
              refine lv_aload_n hx hb dX2_cart_101 rfl (lv_at hl 0 rfl) ?_
              refine lv_iconst (v := 0) hx hb dX2_cart_102 (by decide) ?_
              refine mp_1 X M dX2_cart_103 (fun H locs M => ?_)
              refine lv_iconst (v := 0) hx hb dX2_cart_106 (by decide) ?_
              refine lv_istore (lv' := [(5, .int 0), (0, .ref h), (1, .int (nI s1)), (2, .int (nI i1)), (3, .int 0), (4, .int (nI ((64 * s1) + i1)))]) hx hb dX2_cart_107 hl (by decide) rfl (fun ls hl => ?_)
              have L_7 : ∀ (fuL_7 : Nat) (j : Nat) (R1 : Nat → Nat → Int32), (j ≤ 9) → (R1 = itr (fun k R => mset R 27 (9 * n26 + k) (R 4 (64 * s1 + i1 + k))) j Rr) → 9 - j < fuL_7 → ∀ (H : Heap) (locs : List Loc), mM D cl h ad dA (mN h ad) s (va_up (va_up F 0 0) 1 0) R1 H locs → ∀ ls, lv_has ls 6 [(0, .ref h), (1, .int (nI s1)), (2, .int (nI i1)), (3, .int 0), (4, .int (nI ((64 * s1) + i1))), (5, .int (nI j))] → W p l e ({ frames := 2, cells := 0, slots := 0, locals := 45 } : Room) s m ([.ref h, .int (nI s1), .int (nI i1)] : List Value).toArray below meth c H locs 0 0 (MQ below (va_Qi (fun r u => (r, u) = m_cart (va_up F 0 0) Rr (nI s1) (nI i1)) (mB D cl h ad dA) (mN h ad)) ([.ref h, .int (nI s1), .int (nI i1)] : List Value).toArray s 0 0 (mN h ad)) (F0 m 109 ls []) := by
                intro fuL_7
                induction fuL_7 with
                | zero => intro j R1 hj qR1 hfuL_7; exact absurd hfuL_7 (Nat.not_lt_zero _)
                | succ fuL_7 L_7ih =>
                  intro j R1 hj qR1 hfuL_7 H locs M ls hl
                  refine lv_iload hx hb dX2_cart_109 (lv_at hl 5 rfl) ?_
                  refine lv_bipush (v := 9) hx hb dX2_cart_111 (by decide) ?_
                  refine ln_icmp_ge (tgt := 147) hx hb (a := j) (b := 9) (by omega) (by omega) dX2_cart_113 (by decide) (fun c_8 => ?_) (fun c_8 => ?_)
                  · -- c_8: nI j ≥ 9
                    have ej : j = 9 := by omega
                    rw [ej] at qR1
                    refine lv_aload_n hx hb dX2_cart_147 rfl (lv_at hl 0 rfl) ?_
                    refine lv_dup hx hb dX2_cart_148 rfl ?_
                    refine mg_26 X M (v := F 26) rfl dX2_cart_149 ?_
                    refine lv_asi (y := nI n26) en26 ?_
                    refine lv_iconst (v := 1) hx hb dX2_cart_152 (by decide) ?_
                    refine lv_iadd hx hb dX2_cart_153 ?_
                    refine lv_asi (y := nI (n26 + 1)) (nI_add n26 1) ?_
                    refine mp_26 X M dX2_cart_154 (fun H locs M => ?_)
                    refine lv_aload_n hx hb dX2_cart_157 rfl (lv_at hl 0 rfl) ?_
                    refine mg_26 X M (v := nI (n26 + 1)) rfl dX2_cart_158 ?_
                    refine lv_iconst (v := 1) hx hb dX2_cart_161 (by decide) ?_
                    refine lv_isub hx hb dX2_cart_162 ?_
                    exact W.iret (v := (nI (n26 + 1)) - 1) hx hb hr (fun t9 ht9 hW9 => ⟨⟨_, (va_up (va_up (va_up F 0 0) 1 0) 26 (nI (n26 + 1)), R1), rfl, (by simp [m_cart, up_s, up_n, if_pos hall9, nI_1, nI_pred, en26, ec26, c_1, es1, c_2, look0, ei1, c_6, hall9, c_8, ← qR1]), by show va_P _ _ _ t9.heap; rw [ht9]; exact M.1⟩, M.2.2.F ht9⟩) M.2.2.2.2 dX2_cart_163
                  · -- c_8: nI j < 9
                    refine lv_aload_n hx hb dX2_cart_116 rfl (lv_at hl 0 rfl) ?_
                    refine mg_27 X M dX2_cart_117 ?_
                    refine lv_bipush (v := 9) hx hb dX2_cart_120 (by decide) ?_
                    refine lv_aload_n hx hb dX2_cart_122 rfl (lv_at hl 0 rfl) ?_
                    refine mg_26 X M (v := F 26) rfl dX2_cart_123 ?_
                    refine lv_asi (y := nI n26) en26 ?_
                    refine lv_imul hx hb dX2_cart_126 ?_
                    refine lv_asi (y := nI (9 * n26)) (nI_mul 9 n26) ?_
                    refine lv_iload hx hb dX2_cart_127 (lv_at hl 5 rfl) ?_
                    refine lv_iadd hx hb dX2_cart_129 ?_
                    refine lv_asi (y := nI ((9 * n26) + j)) (nI_add (9 * n26) j) ?_
                    refine lv_aload_n hx hb dX2_cart_130 rfl (lv_at hl 0 rfl) ?_
                    refine mg_4 X M dX2_cart_131 ?_
                    refine lv_iload hx hb dX2_cart_134 (lv_at hl 4 rfl) ?_
                    refine lv_iload hx hb dX2_cart_136 (lv_at hl 5 rfl) ?_
                    refine lv_iadd hx hb dX2_cart_138 ?_
                    refine lv_asi (y := nI (((64 * s1) + i1) + j)) (nI_add ((64 * s1) + i1) j) ?_
                    refine mr_4 X M (f := R1 4) rfl (j := ((64 * s1) + i1) + j) (vp_in_nI (by omega) (by omega)) (nI_clamp (by omega)) dX2_cart_139 ?_
                    refine ms_27 X M (j := (9 * n26) + j) (vp_in_nI (by omega) (by omega)) (nI_clamp (by omega)) dX2_cart_140 (fun H locs M => ?_)
                    refine lv_iinc (v := nI (j + 1)) (lv' := [(5, .int (nI (j + 1))), (0, .ref h), (1, .int (nI s1)), (2, .int (nI i1)), (3, .int 0), (4, .int (nI ((64 * s1) + i1)))]) hx hb dX2_cart_141 hl (k := 5) rfl (mk_inc _) (by decide) rfl (fun ls hl => ?_)
                    refine lv_goto (tgt := 109) hx hb dX2_cart_144 (by decide) ?_
                    exact L_7ih  (j + 1) (mset R1 27 ((9 * n26) + j) (R1 4 (((64 * s1) + i1) + j))) (by omega) (by first | (rw [itr_s, ← qR1]; done) | (rw [itr_s, ← qR1]; first | (simp [en26, ec26, c_1, es1, c_2, look0, ei1, c_6, hall9, c_8, up_s, up_n, nI_1, b2i]; done) | (simp_all []; done) | grind [])) (by omega) _ _ M ls (lv_sub hl [1, 2, 3, 4, 5, 0] rfl)
              exact L_7 ((9 - 0) + 1) 0 Rr (by omega) rfl (Nat.lt_succ_self _) _ _ M ls (lv_sub hl [1, 2, 3, 4, 5, 0] rfl)
            · -- c_6: nI i < 9
              refine lv_aload_n hx hb dX2_cart_60 rfl (lv_at hl 0 rfl) ?_
              refine mg_4 X M dX2_cart_61 ?_
              refine lv_iload hx hb dX2_cart_64 (lv_at hl 4 rfl) ?_
              refine lv_iload hx hb dX2_cart_66 (lv_at hl 5 rfl) ?_
              refine lv_iadd hx hb dX2_cart_68 ?_
              refine lv_asi (y := nI (((64 * s1) + i1) + i)) (nI_add ((64 * s1) + i1) i) ?_
              refine mr_4 X M (f := Rr 4) rfl (j := ((64 * s1) + i1) + i) (vp_in_nI (by omega) (by omega)) (nI_clamp (by omega)) dX2_cart_69 ?_
              refine lv_i2l (v := (Rr 4 (((64 * s1) + i1) + i)).toInt64) hx hb dX2_cart_70 rfl ?_
              refine lv_lconst (v := 0) hx hb dX2_cart_71 (by decide) ?_
              refine lv_iload hx hb dX2_cart_72 (lv_at hl 5 rfl) ?_
              refine lv_if_ne (tgt := 83) hx hb dX2_cart_74 (by decide) (fun c_9 => ?_) (fun c_9 => ?_)
              · -- c_9: nI i ≠ 0
                have ek : ¬ i = 0 := fun q => c_9 (by rw [q]; rfl)
                refine lv_ldc2 (v := 99) hx hb hown (hts _ q1772) dX2_cart_83 ?_
                refine s_cI (v := b2i (inB 0 99 (Rr 4 (((64 * s1) + i1) + i)))) (As := [.long ((Rr 4 (((64 * s1) + i1) + i)).toInt64), .long 0, .long 99]) (rest := []) S (metX2_inI l (Rr 4 (((64 * s1) + i1) + i)) 0 99 ((Rr 4 (((64 * s1) + i1) + i)).toInt64) 0 99 rfl rfl rfl) (va_cwS 3 hts (lw_S q1623 q1624 q62 q1625) rfl rfl rfl (by decide +kernel) ⟨Nat.le_of_ble_eq_true rfl, Nat.le_of_ble_eq_true rfl⟩) rfl hl.1 rfl (Nat.le_of_ble_eq_true rfl) dX2_cart_86 ⟨Nat.zero_le _, Nat.zero_le _⟩ ?_
                refine lz_if_ne (tgt := 95) hx hb dX2_cart_89 (by decide) (fun c_10 => ?_) (fun c_10 => ?_)
                · -- c_10: inB 0 99 (Rr 4 (((64 * s1) + i1) + i)) = true
                  refine lv_iinc (v := nI (i + 1)) (lv' := [(5, .int (nI (i + 1))), (0, .ref h), (1, .int (nI s1)), (2, .int (nI i1)), (3, .int 0), (4, .int (nI ((64 * s1) + i1)))]) hx hb dX2_cart_95 hl (k := 5) rfl (mk_inc _) (by decide) rfl (fun ls hl => ?_)
                  refine lv_goto (tgt := 53) hx hb dX2_cart_98 (by decide) ?_
                  exact L_5ih  (i + 1) (by omega) (all_succ hall (by first | (simp [m_cartOk, en26, ec26, c_1, es1, c_2, look0, ei1, c_6, c_9, ek, c_10]; done) | (unfold m_cartOk; rw [if_pos ek]; assumption))) (by omega) _ _ M ls (lv_sub hl [1, 2, 3, 4, 5, 0] rfl)
                · -- c_10: inB 0 99 (Rr 4 (((64 * s1) + i1) + i)) = false
                  refine lv_ldc (v := (-1000001)) hx hb hown (hts _ q1627) dX2_cart_92 ?_
                  exact W.iret (v := (-1000001)) hx hb hr (fun t9 ht9 hW9 => ⟨⟨_, (va_up F 0 0, Rr), rfl, (by have hne : ¬ ∀ k, k < 9 → m_cartOk Rr (64 * s1 + i1) k = true := (fun q => by have q1 := q i (by omega); unfold m_cartOk at q1; (first | rw [if_pos ek] at q1 | rw [if_neg ek] at q1); rw [q1] at c_10; cases c_10); simp [m_cart, up_s, up_n, if_neg hne, en26, ec26, c_1, es1, c_2, look0, ei1, c_6, c_9, ek, c_10]), by show va_P _ _ _ t9.heap; rw [ht9]; exact M.1⟩, M.2.2.F ht9⟩) M.2.2.2.2 dX2_cart_94
              · -- c_9: nI i = 0
                have ek : i = 0 := nI_inj (b := 0) c_9 (by omega) (by omega)
                refine lv_ldc2 (v := 4) hx hb hown (hts _ q1771) dX2_cart_77 ?_
                refine lv_goto (tgt := 86) hx hb dX2_cart_80 (by decide) ?_
                refine s_cI (v := b2i (inB 0 4 (Rr 4 (((64 * s1) + i1) + i)))) (As := [.long ((Rr 4 (((64 * s1) + i1) + i)).toInt64), .long 0, .long 4]) (rest := []) S (metX2_inI l (Rr 4 (((64 * s1) + i1) + i)) 0 4 ((Rr 4 (((64 * s1) + i1) + i)).toInt64) 0 4 rfl rfl rfl) (va_cwS 3 hts (lw_S q1623 q1624 q62 q1625) rfl rfl rfl (by decide +kernel) ⟨Nat.le_of_ble_eq_true rfl, Nat.le_of_ble_eq_true rfl⟩) rfl hl.1 rfl (Nat.le_of_ble_eq_true rfl) dX2_cart_86 ⟨Nat.zero_le _, Nat.zero_le _⟩ ?_
                refine lz_if_ne (tgt := 95) hx hb dX2_cart_89 (by decide) (fun c_11 => ?_) (fun c_11 => ?_)
                · -- c_11: inB 0 4 (Rr 4 (((64 * s1) + i1) + i)) = true
                  refine lv_iinc (v := nI (i + 1)) (lv' := [(5, .int (nI (i + 1))), (0, .ref h), (1, .int (nI s1)), (2, .int (nI i1)), (3, .int 0), (4, .int (nI ((64 * s1) + i1)))]) hx hb dX2_cart_95 hl (k := 5) rfl (mk_inc _) (by decide) rfl (fun ls hl => ?_)
                  refine lv_goto (tgt := 53) hx hb dX2_cart_98 (by decide) ?_
                  exact L_5ih  (i + 1) (by omega) (all_succ hall (by first | (simp [m_cartOk, en26, ec26, c_1, es1, c_2, look0, ei1, c_6, c_9, ek, c_11]; done) | (unfold m_cartOk; rw [if_pos ek]; assumption))) (by omega) _ _ M ls (lv_sub hl [1, 2, 3, 4, 5, 0] rfl)
                · -- c_11: inB 0 4 (Rr 4 (((64 * s1) + i1) + i)) = false
                  refine lv_ldc (v := (-1000001)) hx hb hown (hts _ q1627) dX2_cart_92 ?_
                  exact W.iret (v := (-1000001)) hx hb hr (fun t9 ht9 hW9 => ⟨⟨_, (va_up F 0 0, Rr), rfl, (by have hne : ¬ ∀ k, k < 9 → m_cartOk Rr (64 * s1 + i1) k = true := (fun q => by have q1 := q i (by omega); unfold m_cartOk at q1; (first | rw [if_pos ek] at q1 | rw [if_neg ek] at q1); rw [q1] at c_11; cases c_11); simp [m_cart, up_s, up_n, if_neg hne, en26, ec26, c_1, es1, c_2, look0, ei1, c_6, c_9, ek, c_11]), by show va_P _ _ _ t9.heap; rw [ht9]; exact M.1⟩, M.2.2.F ht9⟩) M.2.2.2.2 dX2_cart_94
        exact L_5 ((9 - 0) + 1) 0 (by omega) (fun j hj => absurd hj (Nat.not_lt_zero j)) (Nat.lt_succ_self _) _ _ M ls (lv_sub hl [3, 4, 5, 2, 1, 0] rfl)
      · -- c_4: Z_3.1 < 0
        refine lv_iload_n hx hb dX2_cart_40 rfl (lv_at hl 0 rfl) ?_
        exact W.iret (v := Z_3.1) hx hb hr (fun t9 ht9 hW9 => ⟨⟨_, (Z_3.2.1, Z_3.2.2), rfl, (by first | (simp [m_cart, en26, ec26, c_1, es1, c_2, ← eZ_3, c_4, c_4', up_s, up_n, nI_1, b2i]; done) | (simp [m_cart, en26, ec26, c_1, es1, c_2, eZ_3, c_4, c_4', up_s, up_n, nI_1, b2i]; done) | (simp_all [m_cart]; done) | grind [m_cart]), by show va_P _ _ _ t9.heap; rw [ht9]; exact M.1⟩, M.2.2.F ht9⟩) M.2.2.2.2 dX2_cart_41
    · -- c_2: nI n26 = 16
      refine lv_ldc (v := (-1000003)) hx hb hown (hts _ q1675) dX2_cart_24 ?_
      exact W.iret (v := (-1000003)) hx hb hr (fun t9 ht9 hW9 => ⟨⟨_, (va_up F 0 0, Rr), rfl, (by first | (simp [m_cart, en26, ec26, c_1, es1, c_2, up_s, up_n, nI_1, b2i]; done) | (simp_all [m_cart]; done) | grind [m_cart]), by show va_P _ _ _ t9.heap; rw [ht9]; exact M.1⟩, M.2.2.F ht9⟩) M.2.2.2.2 dX2_cart_26
  · -- c_1: inB 0 7 p1 = false
    refine lv_ldc (v := (-1000001)) hx hb hown (hts _ q1627) dX2_cart_12 ?_
    exact W.iret (v := (-1000001)) hx hb hr (fun t9 ht9 hW9 => ⟨⟨_, (va_up F 0 0, Rr), rfl, (by first | (simp [m_cart, en26, ec26, c_1, up_s, up_n, nI_1, b2i]; done) | (simp_all [m_cart]; done) | grind [m_cart]), by show va_P _ _ _ t9.heap; rw [ht9]; exact M.1⟩, M.2.2.F ht9⟩) M.2.2.2.2 dX2_cart_14

def m_sealOk (Rr : Nat → Nat → Int32) (a : Nat) : Bool := inB 0 3 (Rr 4 a) && inB 0 11 (Rr 4 (a + 1)) && inB 0 99 (Rr 4 (a + 2)) && inB 0 9 (Rr 4 (a + 3)) && inB 0 7 (Rr 4 (a + 4)) && inB 0 999 (Rr 4 (a + 5)) && inB (Rr 4 (a + 5)) 999 (Rr 4 (a + 6))
def m_seal (F : Nat → Int32) (Rr : Nat → Nat → Int32) (s i : Int32) : Int32 × mST := if inB 0 7 s = false then ((-1000001), F, Rr) else if F 42 = 16 then ((-1000003), F, Rr) else if (m_lookItems F Rr s i 7).1 < 0 then m_lookItems F Rr s i 7 else if m_sealOk Rr (64 * s.toNatClampNeg + i.toNatClampNeg) = true then (F 42, va_up (va_up F 1 0) 42 (F 42 + 1), itr (fun k R => mset R 43 (7 * (F 42).toNatClampNeg + k) (R 4 (64 * s.toNatClampNeg + i.toNatClampNeg + k))) 7 Rr) else ((-1000001), F, Rr)
set_option maxHeartbeats 4000000 in
set_option maxRecDepth 100000 in
theorem metX2_seal (l : Launch) (D : va_G) (cl : List vw_C) (hcl : cl[0]? = some (RX2, TX2, 61)) (h : Nat) (ad : Nat → Nat) (dA : ClassId) (F : Nat → Int32) (Rr : Nat → Nat → Int32) (p1 : Int32) (p2 : Int32) (h42 : cnB (F 42) 16) (h3 : ∀ k, k < 8 → cnB (Rr 3 k) 64) : Met l yX2_seal (ws_ yX2_seal cX2_seal 6 (some .int)) ({ frames := 2, cells := 0, slots := 0, locals := 45 } : Room) (va_Pc [.ref h, .int p1, .int p2] (mPre D cl h ad dA F Rr)) (va_Qi (fun r u => (r, u) = m_seal (va_up F 0 0) Rr p1 p2) (mB D cl h ad dA) (mN h ad)) 0 0 (mN h ad) := by
  refine Met.ofW (cc := cX2_seal) (maxL := 6) (ret := (some .int)) (by decide) rfl ?_
  intro p e s m args below meth c s₁ B hml hv
  obtain ⟨rfl, hK, hP, hD⟩ := hv
  have hx := B.exec
  have hb := B.bytes
  have hr := B.returns
  have hts := atoms_spec (ws := (ws_ yX2_seal cX2_seal 6 (some .int))) B.pre
  have hts : ∀ w ∈ lw_all, w.before _ s = true := fun w h => hts w (List.mem_cons_of_mem _ h)
  have hown : s.vm.findClass RX2 = some m.cls := findClass_of_methodNamed B.named
  have hlocks := B.notSynchronized
  have S : CallFix p m c cX2_seal 6 s ([.ref h, .int p1, .int p2] : List Value).toArray lw_all RX2 := ⟨hx, hb, hml, hown, hts⟩
  have X : mX p s m ([.ref h, .int p1, .int p2] : List Value).toArray c cX2_seal 6 D cl dA := ⟨hx, hb, hml, hown, hts, hK, hcl⟩
  have M : mM D cl h ad dA (mN h ad) s F Rr s.heap [] := ⟨hP, mW_self hD, va_S.rf⟩
  have hl := lv_entry ([.ref h, .int p1, .int p2]) (n := 6) (Nat.le_of_ble_eq_true rfl)
  rw [lg_entry_eq]
  generalize (lg_sl ([.ref h, .int p1, .int p2]) ++ List.replicate (6 - (lg_sl ([.ref h, .int p1, .int p2])).length) Slot.unset).toArray = ls at hl ⊢
  have hl : lv_has ls 6 [(0, .ref h), (1, .int p1), (2, .int p2)] := hl
  obtain ⟨n42, hn42, en42⟩ := cnB_ex h42 (n := 16) rfl
  have em42 : (F 42).toNatClampNeg = n42 := by rw [en42]; exact nI_clamp (by omega)
  have ec42 : (nI n42).toNatClampNeg = n42 := nI_clamp (by omega)
  refine lv_aload_n hx hb dX2_seal_0 rfl (lv_at hl 0 rfl) ?_
  refine lv_iconst (v := 0) hx hb dX2_seal_1 (by decide) ?_
  refine mp_0 X M dX2_seal_2 (fun H locs M => ?_)
  refine lv_iload_n hx hb dX2_seal_5 rfl (lv_at hl 1 rfl) ?_
  refine s_cI (v := b2i (inB 0 7 p1)) (As := [.int p1]) (rest := []) S (metX2_isSheet l p1) (va_cwS 1 hts (lw_S q1619 q1620 q62 q1621) rfl rfl rfl (by decide +kernel) ⟨Nat.le_of_ble_eq_true rfl, Nat.le_of_ble_eq_true rfl⟩) rfl hl.1 rfl (Nat.le_of_ble_eq_true rfl) dX2_seal_6 ⟨Nat.zero_le _, Nat.zero_le _⟩ ?_
  refine lz_if_ne (tgt := 15) hx hb dX2_seal_9 (by decide) (fun c_1 => ?_) (fun c_1 => ?_)
  · -- c_1: inB 0 7 p1 = true
    obtain ⟨s1, hs1, rfl⟩ := inB_ex c_1 (n := 7) rfl
    have es1 : (nI s1).toNatClampNeg = s1 := nI_clamp (by omega)
    refine lv_aload_n hx hb dX2_seal_15 rfl (lv_at hl 0 rfl) ?_
    refine mg_42 X M (v := F 42) rfl dX2_seal_16 ?_
    refine lv_asi (y := nI n42) en42 ?_
    refine lv_bipush (v := 16) hx hb dX2_seal_19 (by decide) ?_
    refine lv_icmp_ne (tgt := 27) hx hb dX2_seal_21 (by decide) (fun c_2 => ?_) (fun c_2 => ?_)
    · -- c_2: nI n42 ≠ 16
      have hn42b : n42 < 16 := nI_lt_ne (N := 16) c_2 hn42
      refine lv_aload_n hx hb dX2_seal_27 rfl (lv_at hl 0 rfl) ?_
      refine lv_iload_n hx hb dX2_seal_28 rfl (lv_at hl 1 rfl) ?_
      refine lv_iload_n hx hb dX2_seal_29 rfl (lv_at hl 2 rfl) ?_
      refine lv_bipush (v := 7) hx hb dX2_seal_30 (by decide) ?_
      refine m_cU (As := [.int (nI s1), .int p2, .int 7]) (rest := []) X M (metX2_lookItems l D cl hcl h ad dA (va_up F 0 0) Rr (nI s1) p2 7 (vp_in_nI (by omega) (by omega))) (cwV 3 hts (lw_V q1767 q1769 qs40 q62 q1770) rfl rfl rfl (by decide +kernel) ⟨Nat.le_of_ble_eq_true rfl, Nat.le_of_ble_eq_true rfl⟩) rfl hl.1 rfl (Nat.le_of_ble_eq_true rfl) dX2_seal_32 ⟨Nat.zero_le _, Nat.zero_le _⟩ (fun r9 F9 R9 hr9 H locs M => ?_)
      obtain ⟨Z_3, eZ_3⟩ : ∃ z, z = m_lookItems (va_up F 0 0) Rr (nI s1) p2 7 := ⟨_, rfl⟩
      rw [← eZ_3] at hr9
      obtain ⟨rfl, rfl, rfl⟩ : r9 = Z_3.1 ∧ F9 = Z_3.2.1 ∧ R9 = Z_3.2.2 := ⟨congrArg Prod.fst hr9, congrArg (fun z => z.2.1) hr9, congrArg (fun z => z.2.2) hr9⟩
      refine lv_istore_n (lv' := [(3, .int Z_3.1), (0, .ref h), (1, .int (nI s1)), (2, .int p2)]) hx hb dX2_seal_35 rfl hl (by decide) rfl (fun ls hl => ?_)
      refine lv_iload_n hx hb dX2_seal_36 rfl (lv_at hl 0 rfl) ?_
      refine lb_if_ge (tgt := 42) hx hb dX2_seal_37 (by decide) (fun c_4 c_4' => ?_) (fun c_4 c_4' => ?_)
      · -- c_4: Z_3.1 ≥ 0
        obtain ⟨look0, look1, look2, look3⟩ := m_look_ok (by rw [← eZ_3]; exact c_4)
        rw [look0] at eZ_3
        subst eZ_3
        have M : mM D cl h ad dA (mN h ad) s (va_up F 0 0) Rr H locs := M
        obtain ⟨i1, hi1, rfl⟩ := nat_ge0 look2
        have ei1 : (nI i1).toNatClampNeg = i1 := nI_clamp (by omega)
        have hs1 := add64 hi1 (b := 7) (by omega) look3 (h3 _ (by rw [es1]; omega)) (n := 64) rfl
        refine lv_bipush (v := 64) hx hb dX2_seal_42 (by decide) ?_
        refine lv_iload_n hx hb dX2_seal_44 rfl (lv_at hl 2 rfl) ?_
        refine lv_imul hx hb dX2_seal_45 ?_
        refine lv_asi (y := nI (64 * s1)) (nI_mul 64 s1) ?_
        refine lv_iload_n hx hb dX2_seal_46 rfl (lv_at hl 3 rfl) ?_
        refine lv_iadd hx hb dX2_seal_47 ?_
        refine lv_asi (y := nI ((64 * s1) + i1)) (nI_add (64 * s1) i1) ?_
        refine lv_istore (lv' := [(4, .int (nI ((64 * s1) + i1))), (3, .int 0), (0, .ref h), (1, .int (nI s1)), (2, .int (nI i1))]) hx hb dX2_seal_48 hl (by decide) rfl (fun ls hl => ?_)
        refine lv_aload_n hx hb dX2_seal_50 rfl (lv_at hl 2 rfl) ?_
        refine mg_4 X M dX2_seal_51 ?_
        refine lv_iload hx hb dX2_seal_54 (lv_at hl 0 rfl) ?_
        refine mr_4 X M (f := Rr 4) rfl (j := (64 * s1) + i1) (vp_in_nI (by omega) (by omega)) (nI_clamp (by omega)) dX2_seal_56 ?_
        refine lv_i2l (v := (Rr 4 ((64 * s1) + i1)).toInt64) hx hb dX2_seal_57 rfl ?_
        refine lv_lconst (v := 0) hx hb dX2_seal_58 (by decide) ?_
        refine lv_ldc2 (v := 3) hx hb hown (hts _ q1822) dX2_seal_59 ?_
        refine s_cI (v := b2i (inB 0 3 (Rr 4 ((64 * s1) + i1)))) (As := [.long ((Rr 4 ((64 * s1) + i1)).toInt64), .long 0, .long 3]) (rest := []) S (metX2_inI l (Rr 4 ((64 * s1) + i1)) 0 3 ((Rr 4 ((64 * s1) + i1)).toInt64) 0 3 rfl rfl rfl) (va_cwS 3 hts (lw_S q1623 q1624 q62 q1625) rfl rfl rfl (by decide +kernel) ⟨Nat.le_of_ble_eq_true rfl, Nat.le_of_ble_eq_true rfl⟩) rfl hl.1 rfl (Nat.le_of_ble_eq_true rfl) dX2_seal_62 ⟨Nat.zero_le _, Nat.zero_le _⟩ ?_
        refine lz_if_eq (tgt := 183) hx hb dX2_seal_65 (by decide) (fun c_5 => ?_) (fun c_5 => ?_)
        · -- c_5: inB 0 3 (Rr 4 ((64 * s1) + i1)) = false
          refine lv_ldc (v := (-1000001)) hx hb hown (hts _ q1627) dX2_seal_183 ?_
          exact W.iret (v := (-1000001)) hx hb hr (fun t9 ht9 hW9 => ⟨⟨_, (va_up F 0 0, Rr), rfl, (by first | (simp [m_seal, m_sealOk, en42, ec42, c_1, es1, c_2, look0, ei1, c_5, up_s, up_n, nI_1, b2i]; done) | (simp_all [m_seal, m_sealOk]; done) | grind [m_seal, m_sealOk]), by show va_P _ _ _ t9.heap; rw [ht9]; exact M.1⟩, M.2.2.F ht9⟩) M.2.2.2.2 dX2_seal_185
        · -- c_5: inB 0 3 (Rr 4 ((64 * s1) + i1)) = true
          refine lv_aload_n hx hb dX2_seal_68 rfl (lv_at hl 2 rfl) ?_
          refine mg_4 X M dX2_seal_69 ?_
          refine lv_iload hx hb dX2_seal_72 (lv_at hl 0 rfl) ?_
          refine lv_iconst (v := 1) hx hb dX2_seal_74 (by decide) ?_
          refine lv_iadd hx hb dX2_seal_75 ?_
          refine lv_asi (y := nI (((64 * s1) + i1) + 1)) (nI_add ((64 * s1) + i1) 1) ?_
          refine mr_4 X M (f := Rr 4) rfl (j := ((64 * s1) + i1) + 1) (vp_in_nI (by omega) (by omega)) (nI_clamp (by omega)) dX2_seal_76 ?_
          refine s_cI (v := b2i (inB 0 11 (Rr 4 (((64 * s1) + i1) + 1)))) (As := [.int (Rr 4 (((64 * s1) + i1) + 1))]) (rest := []) S (metX2_isPerson l (Rr 4 (((64 * s1) + i1) + 1))) (va_cwS 1 hts (lw_S q1823 q1824 q62 q1825) rfl rfl rfl (by decide +kernel) ⟨Nat.le_of_ble_eq_true rfl, Nat.le_of_ble_eq_true rfl⟩) rfl hl.1 rfl (Nat.le_of_ble_eq_true rfl) dX2_seal_77 ⟨Nat.zero_le _, Nat.zero_le _⟩ ?_
          refine lz_if_eq (tgt := 183) hx hb dX2_seal_80 (by decide) (fun c_6 => ?_) (fun c_6 => ?_)
          · -- c_6: inB 0 11 (Rr 4 (((64 * s1) + i1) + 1)) = false
            refine lv_ldc (v := (-1000001)) hx hb hown (hts _ q1627) dX2_seal_183 ?_
            exact W.iret (v := (-1000001)) hx hb hr (fun t9 ht9 hW9 => ⟨⟨_, (va_up F 0 0, Rr), rfl, (by first | (simp [m_seal, m_sealOk, en42, ec42, c_1, es1, c_2, look0, ei1, c_5, c_6, up_s, up_n, nI_1, b2i]; done) | (simp_all [m_seal, m_sealOk]; done) | grind [m_seal, m_sealOk]), by show va_P _ _ _ t9.heap; rw [ht9]; exact M.1⟩, M.2.2.F ht9⟩) M.2.2.2.2 dX2_seal_185
          · -- c_6: inB 0 11 (Rr 4 (((64 * s1) + i1) + 1)) = true
            refine lv_aload_n hx hb dX2_seal_83 rfl (lv_at hl 2 rfl) ?_
            refine mg_4 X M dX2_seal_84 ?_
            refine lv_iload hx hb dX2_seal_87 (lv_at hl 0 rfl) ?_
            refine lv_iconst (v := 2) hx hb dX2_seal_89 (by decide) ?_
            refine lv_iadd hx hb dX2_seal_90 ?_
            refine lv_asi (y := nI (((64 * s1) + i1) + 2)) (nI_add ((64 * s1) + i1) 2) ?_
            refine mr_4 X M (f := Rr 4) rfl (j := ((64 * s1) + i1) + 2) (vp_in_nI (by omega) (by omega)) (nI_clamp (by omega)) dX2_seal_91 ?_
            refine lv_i2l (v := (Rr 4 (((64 * s1) + i1) + 2)).toInt64) hx hb dX2_seal_92 rfl ?_
            refine lv_lconst (v := 0) hx hb dX2_seal_93 (by decide) ?_
            refine lv_ldc2 (v := 99) hx hb hown (hts _ q1772) dX2_seal_94 ?_
            refine s_cI (v := b2i (inB 0 99 (Rr 4 (((64 * s1) + i1) + 2)))) (As := [.long ((Rr 4 (((64 * s1) + i1) + 2)).toInt64), .long 0, .long 99]) (rest := []) S (metX2_inI l (Rr 4 (((64 * s1) + i1) + 2)) 0 99 ((Rr 4 (((64 * s1) + i1) + 2)).toInt64) 0 99 rfl rfl rfl) (va_cwS 3 hts (lw_S q1623 q1624 q62 q1625) rfl rfl rfl (by decide +kernel) ⟨Nat.le_of_ble_eq_true rfl, Nat.le_of_ble_eq_true rfl⟩) rfl hl.1 rfl (Nat.le_of_ble_eq_true rfl) dX2_seal_97 ⟨Nat.zero_le _, Nat.zero_le _⟩ ?_
            refine lz_if_eq (tgt := 183) hx hb dX2_seal_100 (by decide) (fun c_7 => ?_) (fun c_7 => ?_)
            · -- c_7: inB 0 99 (Rr 4 (((64 * s1) + i1) + 2)) = false
              refine lv_ldc (v := (-1000001)) hx hb hown (hts _ q1627) dX2_seal_183 ?_
              exact W.iret (v := (-1000001)) hx hb hr (fun t9 ht9 hW9 => ⟨⟨_, (va_up F 0 0, Rr), rfl, (by first | (simp [m_seal, m_sealOk, en42, ec42, c_1, es1, c_2, look0, ei1, c_5, c_6, c_7, up_s, up_n, nI_1, b2i]; done) | (simp_all [m_seal, m_sealOk]; done) | grind [m_seal, m_sealOk]), by show va_P _ _ _ t9.heap; rw [ht9]; exact M.1⟩, M.2.2.F ht9⟩) M.2.2.2.2 dX2_seal_185
            · -- c_7: inB 0 99 (Rr 4 (((64 * s1) + i1) + 2)) = true
              refine lv_aload_n hx hb dX2_seal_103 rfl (lv_at hl 2 rfl) ?_
              refine mg_4 X M dX2_seal_104 ?_
              refine lv_iload hx hb dX2_seal_107 (lv_at hl 0 rfl) ?_
              refine lv_iconst (v := 3) hx hb dX2_seal_109 (by decide) ?_
              refine lv_iadd hx hb dX2_seal_110 ?_
              refine lv_asi (y := nI (((64 * s1) + i1) + 3)) (nI_add ((64 * s1) + i1) 3) ?_
              refine mr_4 X M (f := Rr 4) rfl (j := ((64 * s1) + i1) + 3) (vp_in_nI (by omega) (by omega)) (nI_clamp (by omega)) dX2_seal_111 ?_
              refine lv_i2l (v := (Rr 4 (((64 * s1) + i1) + 3)).toInt64) hx hb dX2_seal_112 rfl ?_
              refine lv_lconst (v := 0) hx hb dX2_seal_113 (by decide) ?_
              refine lv_ldc2 (v := 9) hx hb hown (hts _ q1827) dX2_seal_114 ?_
              refine s_cI (v := b2i (inB 0 9 (Rr 4 (((64 * s1) + i1) + 3)))) (As := [.long ((Rr 4 (((64 * s1) + i1) + 3)).toInt64), .long 0, .long 9]) (rest := []) S (metX2_inI l (Rr 4 (((64 * s1) + i1) + 3)) 0 9 ((Rr 4 (((64 * s1) + i1) + 3)).toInt64) 0 9 rfl rfl rfl) (va_cwS 3 hts (lw_S q1623 q1624 q62 q1625) rfl rfl rfl (by decide +kernel) ⟨Nat.le_of_ble_eq_true rfl, Nat.le_of_ble_eq_true rfl⟩) rfl hl.1 rfl (Nat.le_of_ble_eq_true rfl) dX2_seal_117 ⟨Nat.zero_le _, Nat.zero_le _⟩ ?_
              refine lz_if_eq (tgt := 183) hx hb dX2_seal_120 (by decide) (fun c_8 => ?_) (fun c_8 => ?_)
              · -- c_8: inB 0 9 (Rr 4 (((64 * s1) + i1) + 3)) = false
                refine lv_ldc (v := (-1000001)) hx hb hown (hts _ q1627) dX2_seal_183 ?_
                exact W.iret (v := (-1000001)) hx hb hr (fun t9 ht9 hW9 => ⟨⟨_, (va_up F 0 0, Rr), rfl, (by first | (simp [m_seal, m_sealOk, en42, ec42, c_1, es1, c_2, look0, ei1, c_5, c_6, c_7, c_8, up_s, up_n, nI_1, b2i]; done) | (simp_all [m_seal, m_sealOk]; done) | grind [m_seal, m_sealOk]), by show va_P _ _ _ t9.heap; rw [ht9]; exact M.1⟩, M.2.2.F ht9⟩) M.2.2.2.2 dX2_seal_185
              · -- c_8: inB 0 9 (Rr 4 (((64 * s1) + i1) + 3)) = true
                refine lv_aload_n hx hb dX2_seal_123 rfl (lv_at hl 2 rfl) ?_
                refine mg_4 X M dX2_seal_124 ?_
                refine lv_iload hx hb dX2_seal_127 (lv_at hl 0 rfl) ?_
                refine lv_iconst (v := 4) hx hb dX2_seal_129 (by decide) ?_
                refine lv_iadd hx hb dX2_seal_130 ?_
                refine lv_asi (y := nI (((64 * s1) + i1) + 4)) (nI_add ((64 * s1) + i1) 4) ?_
                refine mr_4 X M (f := Rr 4) rfl (j := ((64 * s1) + i1) + 4) (vp_in_nI (by omega) (by omega)) (nI_clamp (by omega)) dX2_seal_131 ?_
                refine s_cI (v := b2i (inB 0 7 (Rr 4 (((64 * s1) + i1) + 4)))) (As := [.int (Rr 4 (((64 * s1) + i1) + 4))]) (rest := []) S (metX2_isTown l (Rr 4 (((64 * s1) + i1) + 4))) (va_cwS 1 hts (lw_S q1810 q1811 q62 q1812) rfl rfl rfl (by decide +kernel) ⟨Nat.le_of_ble_eq_true rfl, Nat.le_of_ble_eq_true rfl⟩) rfl hl.1 rfl (Nat.le_of_ble_eq_true rfl) dX2_seal_132 ⟨Nat.zero_le _, Nat.zero_le _⟩ ?_
                refine lz_if_eq (tgt := 183) hx hb dX2_seal_135 (by decide) (fun c_9 => ?_) (fun c_9 => ?_)
                · -- c_9: inB 0 7 (Rr 4 (((64 * s1) + i1) + 4)) = false
                  refine lv_ldc (v := (-1000001)) hx hb hown (hts _ q1627) dX2_seal_183 ?_
                  exact W.iret (v := (-1000001)) hx hb hr (fun t9 ht9 hW9 => ⟨⟨_, (va_up F 0 0, Rr), rfl, (by first | (simp [m_seal, m_sealOk, en42, ec42, c_1, es1, c_2, look0, ei1, c_5, c_6, c_7, c_8, c_9, up_s, up_n, nI_1, b2i]; done) | (simp_all [m_seal, m_sealOk]; done) | grind [m_seal, m_sealOk]), by show va_P _ _ _ t9.heap; rw [ht9]; exact M.1⟩, M.2.2.F ht9⟩) M.2.2.2.2 dX2_seal_185
                · -- c_9: inB 0 7 (Rr 4 (((64 * s1) + i1) + 4)) = true
                  refine lv_aload_n hx hb dX2_seal_138 rfl (lv_at hl 2 rfl) ?_
                  refine mg_4 X M dX2_seal_139 ?_
                  refine lv_iload hx hb dX2_seal_142 (lv_at hl 0 rfl) ?_
                  refine lv_iconst (v := 5) hx hb dX2_seal_144 (by decide) ?_
                  refine lv_iadd hx hb dX2_seal_145 ?_
                  refine lv_asi (y := nI (((64 * s1) + i1) + 5)) (nI_add ((64 * s1) + i1) 5) ?_
                  refine mr_4 X M (f := Rr 4) rfl (j := ((64 * s1) + i1) + 5) (vp_in_nI (by omega) (by omega)) (nI_clamp (by omega)) dX2_seal_146 ?_
                  refine s_cI (v := b2i (inB 0 999 (Rr 4 (((64 * s1) + i1) + 5)))) (As := [.int (Rr 4 (((64 * s1) + i1) + 5))]) (rest := []) S (metX2_isDay l (Rr 4 (((64 * s1) + i1) + 5))) (va_cwS 1 hts (lw_S q1736 q1737 q62 q1738) rfl rfl rfl (by decide +kernel) ⟨Nat.le_of_ble_eq_true rfl, Nat.le_of_ble_eq_true rfl⟩) rfl hl.1 rfl (Nat.le_of_ble_eq_true rfl) dX2_seal_147 ⟨Nat.zero_le _, Nat.zero_le _⟩ ?_
                  refine lz_if_eq (tgt := 183) hx hb dX2_seal_150 (by decide) (fun c_10 => ?_) (fun c_10 => ?_)
                  · -- c_10: inB 0 999 (Rr 4 (((64 * s1) + i1) + 5)) = false
                    refine lv_ldc (v := (-1000001)) hx hb hown (hts _ q1627) dX2_seal_183 ?_
                    exact W.iret (v := (-1000001)) hx hb hr (fun t9 ht9 hW9 => ⟨⟨_, (va_up F 0 0, Rr), rfl, (by first | (simp [m_seal, m_sealOk, en42, ec42, c_1, es1, c_2, look0, ei1, c_5, c_6, c_7, c_8, c_9, c_10, up_s, up_n, nI_1, b2i]; done) | (simp_all [m_seal, m_sealOk]; done) | grind [m_seal, m_sealOk]), by show va_P _ _ _ t9.heap; rw [ht9]; exact M.1⟩, M.2.2.F ht9⟩) M.2.2.2.2 dX2_seal_185
                  · -- c_10: inB 0 999 (Rr 4 (((64 * s1) + i1) + 5)) = true
                    refine lv_aload_n hx hb dX2_seal_153 rfl (lv_at hl 2 rfl) ?_
                    refine mg_4 X M dX2_seal_154 ?_
                    refine lv_iload hx hb dX2_seal_157 (lv_at hl 0 rfl) ?_
                    refine lv_bipush (v := 6) hx hb dX2_seal_159 (by decide) ?_
                    refine lv_iadd hx hb dX2_seal_161 ?_
                    refine lv_asi (y := nI (((64 * s1) + i1) + 6)) (nI_add ((64 * s1) + i1) 6) ?_
                    refine mr_4 X M (f := Rr 4) rfl (j := ((64 * s1) + i1) + 6) (vp_in_nI (by omega) (by omega)) (nI_clamp (by omega)) dX2_seal_162 ?_
                    refine lv_i2l (v := (Rr 4 (((64 * s1) + i1) + 6)).toInt64) hx hb dX2_seal_163 rfl ?_
                    refine lv_aload_n hx hb dX2_seal_164 rfl (lv_at hl 2 rfl) ?_
                    refine mg_4 X M dX2_seal_165 ?_
                    refine lv_iload hx hb dX2_seal_168 (lv_at hl 0 rfl) ?_
                    refine lv_iconst (v := 5) hx hb dX2_seal_170 (by decide) ?_
                    refine lv_iadd hx hb dX2_seal_171 ?_
                    refine lv_asi (y := nI (((64 * s1) + i1) + 5)) (nI_add ((64 * s1) + i1) 5) ?_
                    refine mr_4 X M (f := Rr 4) rfl (j := ((64 * s1) + i1) + 5) (vp_in_nI (by omega) (by omega)) (nI_clamp (by omega)) dX2_seal_172 ?_
                    refine lv_i2l (v := (Rr 4 (((64 * s1) + i1) + 5)).toInt64) hx hb dX2_seal_173 rfl ?_
                    refine lv_ldc2 (v := 999) hx hb hown (hts _ q1670) dX2_seal_174 ?_
                    refine s_cI (v := b2i (inB (Rr 4 (((64 * s1) + i1) + 5)) 999 (Rr 4 (((64 * s1) + i1) + 6)))) (As := [.long ((Rr 4 (((64 * s1) + i1) + 6)).toInt64), .long ((Rr 4 (((64 * s1) + i1) + 5)).toInt64), .long 999]) (rest := []) S (metX2_inI l (Rr 4 (((64 * s1) + i1) + 6)) (Rr 4 (((64 * s1) + i1) + 5)) 999 ((Rr 4 (((64 * s1) + i1) + 6)).toInt64) ((Rr 4 (((64 * s1) + i1) + 5)).toInt64) 999 rfl rfl rfl) (va_cwS 3 hts (lw_S q1623 q1624 q62 q1625) rfl rfl rfl (by decide +kernel) ⟨Nat.le_of_ble_eq_true rfl, Nat.le_of_ble_eq_true rfl⟩) rfl hl.1 rfl (Nat.le_of_ble_eq_true rfl) dX2_seal_177 ⟨Nat.zero_le _, Nat.zero_le _⟩ ?_
                    refine lz_if_ne (tgt := 186) hx hb dX2_seal_180 (by decide) (fun c_11 => ?_) (fun c_11 => ?_)
                    · -- c_11: inB (Rr 4 (((64 * s1) + i1) + 5)) 999 (Rr 4 (((64 * s1) + i1) + 6)) = true
                      refine lv_aload_n hx hb dX2_seal_186 rfl (lv_at hl 2 rfl) ?_
                      refine lv_iconst (v := 0) hx hb dX2_seal_187 (by decide) ?_
                      refine mp_1 X M dX2_seal_188 (fun H locs M => ?_)
                      refine lv_iconst (v := 0) hx hb dX2_seal_191 (by decide) ?_
                      refine lv_istore (lv' := [(5, .int 0), (4, .int (nI ((64 * s1) + i1))), (3, .int 0), (0, .ref h), (1, .int (nI s1)), (2, .int (nI i1))]) hx hb dX2_seal_192 hl (by decide) rfl (fun ls hl => ?_)
                      have L_12 : ∀ (fuL_12 : Nat) (j : Nat) (R1 : Nat → Nat → Int32), (j ≤ 7) → (R1 = itr (fun k R => mset R 43 (7 * n42 + k) (R 4 (64 * s1 + i1 + k))) j Rr) → 7 - j < fuL_12 → ∀ (H : Heap) (locs : List Loc), mM D cl h ad dA (mN h ad) s (va_up (va_up F 0 0) 1 0) R1 H locs → ∀ ls, lv_has ls 6 [(0, .ref h), (1, .int (nI s1)), (2, .int (nI i1)), (3, .int 0), (4, .int (nI ((64 * s1) + i1))), (5, .int (nI j))] → W p l e ({ frames := 2, cells := 0, slots := 0, locals := 45 } : Room) s m ([.ref h, .int (nI s1), .int (nI i1)] : List Value).toArray below meth c H locs 0 0 (MQ below (va_Qi (fun r u => (r, u) = m_seal (va_up F 0 0) Rr (nI s1) (nI i1)) (mB D cl h ad dA) (mN h ad)) ([.ref h, .int (nI s1), .int (nI i1)] : List Value).toArray s 0 0 (mN h ad)) (F0 m 194 ls []) := by
                        intro fuL_12
                        induction fuL_12 with
                        | zero => intro j R1 hj qR1 hfuL_12; exact absurd hfuL_12 (Nat.not_lt_zero _)
                        | succ fuL_12 L_12ih =>
                          intro j R1 hj qR1 hfuL_12 H locs M ls hl
                          refine lv_iload hx hb dX2_seal_194 (lv_at hl 5 rfl) ?_
                          refine lv_bipush (v := 7) hx hb dX2_seal_196 (by decide) ?_
                          refine ln_icmp_ge (tgt := 232) hx hb (a := j) (b := 7) (by omega) (by omega) dX2_seal_198 (by decide) (fun c_13 => ?_) (fun c_13 => ?_)
                          · -- c_13: nI j ≥ 7
                            have ej : j = 7 := by omega
                            rw [ej] at qR1
                            refine lv_aload_n hx hb dX2_seal_232 rfl (lv_at hl 0 rfl) ?_
                            refine lv_dup hx hb dX2_seal_233 rfl ?_
                            refine mg_42 X M (v := F 42) rfl dX2_seal_234 ?_
                            refine lv_asi (y := nI n42) en42 ?_
                            refine lv_iconst (v := 1) hx hb dX2_seal_237 (by decide) ?_
                            refine lv_iadd hx hb dX2_seal_238 ?_
                            refine lv_asi (y := nI (n42 + 1)) (nI_add n42 1) ?_
                            refine mp_42 X M dX2_seal_239 (fun H locs M => ?_)
                            refine lv_aload_n hx hb dX2_seal_242 rfl (lv_at hl 0 rfl) ?_
                            refine mg_42 X M (v := nI (n42 + 1)) rfl dX2_seal_243 ?_
                            refine lv_iconst (v := 1) hx hb dX2_seal_246 (by decide) ?_
                            refine lv_isub hx hb dX2_seal_247 ?_
                            exact W.iret (v := (nI (n42 + 1)) - 1) hx hb hr (fun t9 ht9 hW9 => ⟨⟨_, (va_up (va_up (va_up F 0 0) 1 0) 42 (nI (n42 + 1)), R1), rfl, (by simp [m_seal, m_sealOk, up_s, up_n, nI_1, nI_pred, en42, ec42, c_1, es1, c_2, look0, ei1, c_5, c_6, c_7, c_8, c_9, c_10, c_11, c_13, ← qR1]), by show va_P _ _ _ t9.heap; rw [ht9]; exact M.1⟩, M.2.2.F ht9⟩) M.2.2.2.2 dX2_seal_248
                          · -- c_13: nI j < 7
                            refine lv_aload_n hx hb dX2_seal_201 rfl (lv_at hl 0 rfl) ?_
                            refine mg_43 X M dX2_seal_202 ?_
                            refine lv_bipush (v := 7) hx hb dX2_seal_205 (by decide) ?_
                            refine lv_aload_n hx hb dX2_seal_207 rfl (lv_at hl 0 rfl) ?_
                            refine mg_42 X M (v := F 42) rfl dX2_seal_208 ?_
                            refine lv_asi (y := nI n42) en42 ?_
                            refine lv_imul hx hb dX2_seal_211 ?_
                            refine lv_asi (y := nI (7 * n42)) (nI_mul 7 n42) ?_
                            refine lv_iload hx hb dX2_seal_212 (lv_at hl 5 rfl) ?_
                            refine lv_iadd hx hb dX2_seal_214 ?_
                            refine lv_asi (y := nI ((7 * n42) + j)) (nI_add (7 * n42) j) ?_
                            refine lv_aload_n hx hb dX2_seal_215 rfl (lv_at hl 0 rfl) ?_
                            refine mg_4 X M dX2_seal_216 ?_
                            refine lv_iload hx hb dX2_seal_219 (lv_at hl 4 rfl) ?_
                            refine lv_iload hx hb dX2_seal_221 (lv_at hl 5 rfl) ?_
                            refine lv_iadd hx hb dX2_seal_223 ?_
                            refine lv_asi (y := nI (((64 * s1) + i1) + j)) (nI_add ((64 * s1) + i1) j) ?_
                            refine mr_4 X M (f := R1 4) rfl (j := ((64 * s1) + i1) + j) (vp_in_nI (by omega) (by omega)) (nI_clamp (by omega)) dX2_seal_224 ?_
                            refine ms_43 X M (j := (7 * n42) + j) (vp_in_nI (by omega) (by omega)) (nI_clamp (by omega)) dX2_seal_225 (fun H locs M => ?_)
                            refine lv_iinc (v := nI (j + 1)) (lv' := [(5, .int (nI (j + 1))), (0, .ref h), (1, .int (nI s1)), (2, .int (nI i1)), (3, .int 0), (4, .int (nI ((64 * s1) + i1)))]) hx hb dX2_seal_226 hl (k := 5) rfl (mk_inc _) (by decide) rfl (fun ls hl => ?_)
                            refine lv_goto (tgt := 194) hx hb dX2_seal_229 (by decide) ?_
                            exact L_12ih  (j + 1) (mset R1 43 ((7 * n42) + j) (R1 4 (((64 * s1) + i1) + j))) (by omega) (by first | (rw [itr_s, ← qR1]; done) | (rw [itr_s, ← qR1]; first | (simp [en42, ec42, c_1, es1, c_2, look0, ei1, c_5, c_6, c_7, c_8, c_9, c_10, c_11, c_13, up_s, up_n, nI_1, b2i]; done) | (simp_all []; done) | grind [])) (by omega) _ _ M ls (lv_sub hl [1, 2, 3, 4, 5, 0] rfl)
                      exact L_12 ((7 - 0) + 1) 0 Rr (by omega) rfl (Nat.lt_succ_self _) _ _ M ls (lv_sub hl [3, 4, 5, 2, 1, 0] rfl)
                    · -- c_11: inB (Rr 4 (((64 * s1) + i1) + 5)) 999 (Rr 4 (((64 * s1) + i1) + 6)) = false
                      refine lv_ldc (v := (-1000001)) hx hb hown (hts _ q1627) dX2_seal_183 ?_
                      exact W.iret (v := (-1000001)) hx hb hr (fun t9 ht9 hW9 => ⟨⟨_, (va_up F 0 0, Rr), rfl, (by first | (simp [m_seal, m_sealOk, en42, ec42, c_1, es1, c_2, look0, ei1, c_5, c_6, c_7, c_8, c_9, c_10, c_11, up_s, up_n, nI_1, b2i]; done) | (simp_all [m_seal, m_sealOk]; done) | grind [m_seal, m_sealOk]), by show va_P _ _ _ t9.heap; rw [ht9]; exact M.1⟩, M.2.2.F ht9⟩) M.2.2.2.2 dX2_seal_185
      · -- c_4: Z_3.1 < 0
        refine lv_iload_n hx hb dX2_seal_40 rfl (lv_at hl 0 rfl) ?_
        exact W.iret (v := Z_3.1) hx hb hr (fun t9 ht9 hW9 => ⟨⟨_, (Z_3.2.1, Z_3.2.2), rfl, (by first | (simp [m_seal, m_sealOk, en42, ec42, c_1, es1, c_2, ← eZ_3, c_4, c_4', up_s, up_n, nI_1, b2i]; done) | (simp [m_seal, m_sealOk, en42, ec42, c_1, es1, c_2, eZ_3, c_4, c_4', up_s, up_n, nI_1, b2i]; done) | (simp_all [m_seal, m_sealOk]; done) | grind [m_seal, m_sealOk]), by show va_P _ _ _ t9.heap; rw [ht9]; exact M.1⟩, M.2.2.F ht9⟩) M.2.2.2.2 dX2_seal_41
    · -- c_2: nI n42 = 16
      refine lv_ldc (v := (-1000003)) hx hb hown (hts _ q1675) dX2_seal_24 ?_
      exact W.iret (v := (-1000003)) hx hb hr (fun t9 ht9 hW9 => ⟨⟨_, (va_up F 0 0, Rr), rfl, (by first | (simp [m_seal, m_sealOk, en42, ec42, c_1, es1, c_2, up_s, up_n, nI_1, b2i]; done) | (simp_all [m_seal, m_sealOk]; done) | grind [m_seal, m_sealOk]), by show va_P _ _ _ t9.heap; rw [ht9]; exact M.1⟩, M.2.2.F ht9⟩) M.2.2.2.2 dX2_seal_26
  · -- c_1: inB 0 7 p1 = false
    refine lv_ldc (v := (-1000001)) hx hb hown (hts _ q1627) dX2_seal_12 ?_
    exact W.iret (v := (-1000001)) hx hb hr (fun t9 ht9 hW9 => ⟨⟨_, (va_up F 0 0, Rr), rfl, (by first | (simp [m_seal, m_sealOk, en42, ec42, c_1, up_s, up_n, nI_1, b2i]; done) | (simp_all [m_seal, m_sealOk]; done) | grind [m_seal, m_sealOk]), by show va_P _ _ _ t9.heap; rw [ht9]; exact M.1⟩, M.2.2.F ht9⟩) M.2.2.2.2 dX2_seal_14

def m_watchOk (Rr : Nat → Nat → Int32) (a : Nat) (k : Nat) : Bool := inB 0 4095 (Rr 4 (a + k))
def m_hasS (Rr : Nat → Nat → Int32) (a : Nat) (set : Nat) (k : Nat) (h : Int32) : Int32 := h ||| (if ((nI set) >>> (nI k &&& 31)) &&& 1 = 1 then Rr 4 (a + k) else 0)
def m_watS (n55 : Int32) (Rr : Nat → Nat → Int32) (a n : Nat) (set : Nat) (best : Int32) : Int32 := if m_breaches n55 Rr &&& (itr (m_hasS Rr a set) n 0 ^^^ (-1)) = 0 ∧ (best = (-1000000) ∨ m_bits (nI set) < m_bits best) then nI set else best
def m_watch (F : Nat → Int32) (Rr : Nat → Nat → Int32) (s i n : Int32) : Int32 × mST := if inB 0 7 s = false ∨ inB 1 12 n = false then ((-1000001), F, Rr) else if (m_lookItems F Rr s i n).1 < 0 then m_lookItems F Rr s i n else if ∀ k, k < n.toNatClampNeg → m_watchOk Rr (64 * s.toNatClampNeg + i.toNatClampNeg) k = true then (itr (m_watS (F 55) Rr (64 * s.toNatClampNeg + i.toNatClampNeg) n.toNatClampNeg) (2 ^ n.toNatClampNeg) (-1000000), va_up F 1 0, Rr) else ((-1000001), F, Rr)
set_option maxHeartbeats 4000000 in
set_option maxRecDepth 100000 in
theorem metX2_watch (l : Launch) (D : va_G) (cl : List vw_C) (hcl : cl[0]? = some (RX2, TX2, 61)) (h : Nat) (ad : Nat → Nat) (dA : ClassId) (F : Nat → Int32) (Rr : Nat → Nat → Int32) (p1 : Int32) (p2 : Int32) (p3 : Int32) (h55 : cnB (F 55) 20) (h3 : ∀ k, k < 8 → cnB (Rr 3 k) 64) : Met l yX2_watch (ws_ yX2_watch cX2_watch 11 (some .int)) ({ frames := 2, cells := 0, slots := 0, locals := 45 } : Room) (va_Pc [.ref h, .int p1, .int p2, .int p3] (mPre D cl h ad dA F Rr)) (va_Qi (fun r u => (r, u) = m_watch (va_up F 0 0) Rr p1 p2 p3) (mB D cl h ad dA) (mN h ad)) 0 0 (mN h ad) := by
  refine Met.ofW (cc := cX2_watch) (maxL := 11) (ret := (some .int)) (by decide) rfl ?_
  intro p e s m args below meth c s₁ B hml hv
  obtain ⟨rfl, hK, hP, hD⟩ := hv
  have hx := B.exec
  have hb := B.bytes
  have hr := B.returns
  have hts := atoms_spec (ws := (ws_ yX2_watch cX2_watch 11 (some .int))) B.pre
  have hts : ∀ w ∈ lw_all, w.before _ s = true := fun w h => hts w (List.mem_cons_of_mem _ h)
  have hown : s.vm.findClass RX2 = some m.cls := findClass_of_methodNamed B.named
  have hlocks := B.notSynchronized
  have S : CallFix p m c cX2_watch 11 s ([.ref h, .int p1, .int p2, .int p3] : List Value).toArray lw_all RX2 := ⟨hx, hb, hml, hown, hts⟩
  have X : mX p s m ([.ref h, .int p1, .int p2, .int p3] : List Value).toArray c cX2_watch 11 D cl dA := ⟨hx, hb, hml, hown, hts, hK, hcl⟩
  have M : mM D cl h ad dA (mN h ad) s F Rr s.heap [] := ⟨hP, mW_self hD, va_S.rf⟩
  have hl := lv_entry ([.ref h, .int p1, .int p2, .int p3]) (n := 11) (Nat.le_of_ble_eq_true rfl)
  rw [lg_entry_eq]
  generalize (lg_sl ([.ref h, .int p1, .int p2, .int p3]) ++ List.replicate (11 - (lg_sl ([.ref h, .int p1, .int p2, .int p3])).length) Slot.unset).toArray = ls at hl ⊢
  have hl : lv_has ls 11 [(0, .ref h), (1, .int p1), (2, .int p2), (3, .int p3)] := hl
  refine lv_aload_n hx hb dX2_watch_0 rfl (lv_at hl 0 rfl) ?_
  refine lv_iconst (v := 0) hx hb dX2_watch_1 (by decide) ?_
  refine mp_0 X M dX2_watch_2 (fun H locs M => ?_)
  refine lv_iload_n hx hb dX2_watch_5 rfl (lv_at hl 1 rfl) ?_
  refine s_cI (v := b2i (inB 0 7 p1)) (As := [.int p1]) (rest := []) S (metX2_isSheet l p1) (va_cwS 1 hts (lw_S q1619 q1620 q62 q1621) rfl rfl rfl (by decide +kernel) ⟨Nat.le_of_ble_eq_true rfl, Nat.le_of_ble_eq_true rfl⟩) rfl hl.1 rfl (Nat.le_of_ble_eq_true rfl) dX2_watch_6 ⟨Nat.zero_le _, Nat.zero_le _⟩ ?_
  refine lz_if_eq (tgt := 24) hx hb dX2_watch_9 (by decide) (fun c_1 => ?_) (fun c_1 => ?_)
  · -- c_1: inB 0 7 p1 = false
    refine lv_ldc (v := (-1000001)) hx hb hown (hts _ q1627) dX2_watch_24 ?_
    exact W.iret (v := (-1000001)) hx hb hr (fun t9 ht9 hW9 => ⟨⟨_, (va_up F 0 0, Rr), rfl, (by first | (simp [m_watch, c_1, up_s, up_n, nI_1, b2i]; done) | (simp_all [m_watch]; done) | grind [m_watch]), by show va_P _ _ _ t9.heap; rw [ht9]; exact M.1⟩, M.2.2.F ht9⟩) M.2.2.2.2 dX2_watch_26
  · -- c_1: inB 0 7 p1 = true
    obtain ⟨s1, hs1, rfl⟩ := inB_ex c_1 (n := 7) rfl
    have es1 : (nI s1).toNatClampNeg = s1 := nI_clamp (by omega)
    refine lv_iload_n hx hb dX2_watch_12 rfl (lv_at hl 3 rfl) ?_
    refine lv_i2l (v := p3.toInt64) hx hb dX2_watch_13 rfl ?_
    refine lv_lconst (v := 1) hx hb dX2_watch_14 (by decide) ?_
    refine lv_ldc2 (v := 12) hx hb hown (hts _ q1905) dX2_watch_15 ?_
    refine s_cI (v := b2i (inB 1 12 p3)) (As := [.long p3.toInt64, .long 1, .long 12]) (rest := []) S (metX2_inI l p3 1 12 p3.toInt64 1 12 rfl rfl rfl) (va_cwS 3 hts (lw_S q1623 q1624 q62 q1625) rfl rfl rfl (by decide +kernel) ⟨Nat.le_of_ble_eq_true rfl, Nat.le_of_ble_eq_true rfl⟩) rfl hl.1 rfl (Nat.le_of_ble_eq_true rfl) dX2_watch_18 ⟨Nat.zero_le _, Nat.zero_le _⟩ ?_
    refine lz_if_ne (tgt := 27) hx hb dX2_watch_21 (by decide) (fun c_2 => ?_) (fun c_2 => ?_)
    · -- c_2: inB 1 12 p3 = true
      obtain ⟨n1, hn1, rfl⟩ := inB_ex (show inB 0 12 p3 = true from inB_t.mpr ⟨Int32.le_trans (by decide) (inB_t.mp c_2).1, (inB_t.mp c_2).2⟩) (n := 12) rfl
      have en1 : (nI n1).toNatClampNeg = n1 := nI_clamp (by omega)
      have hn1p : 1 ≤ n1 := Nat.pos_of_ne_zero (fun q => by rw [q] at c_2; exact absurd (inB_t.mp c_2).1 (by decide))
      refine lv_aload_n hx hb dX2_watch_27 rfl (lv_at hl 0 rfl) ?_
      refine lv_iload_n hx hb dX2_watch_28 rfl (lv_at hl 1 rfl) ?_
      refine lv_iload_n hx hb dX2_watch_29 rfl (lv_at hl 2 rfl) ?_
      refine lv_iload_n hx hb dX2_watch_30 rfl (lv_at hl 3 rfl) ?_
      refine m_cU (As := [.int (nI s1), .int p2, .int (nI n1)]) (rest := []) X M (metX2_lookItems l D cl hcl h ad dA (va_up F 0 0) Rr (nI s1) p2 (nI n1) (vp_in_nI (by omega) (by omega))) (cwV 3 hts (lw_V q1767 q1769 qs40 q62 q1770) rfl rfl rfl (by decide +kernel) ⟨Nat.le_of_ble_eq_true rfl, Nat.le_of_ble_eq_true rfl⟩) rfl hl.1 rfl (Nat.le_of_ble_eq_true rfl) dX2_watch_31 ⟨Nat.zero_le _, Nat.zero_le _⟩ (fun r9 F9 R9 hr9 H locs M => ?_)
      obtain ⟨Z_3, eZ_3⟩ : ∃ z, z = m_lookItems (va_up F 0 0) Rr (nI s1) p2 (nI n1) := ⟨_, rfl⟩
      rw [← eZ_3] at hr9
      obtain ⟨rfl, rfl, rfl⟩ : r9 = Z_3.1 ∧ F9 = Z_3.2.1 ∧ R9 = Z_3.2.2 := ⟨congrArg Prod.fst hr9, congrArg (fun z => z.2.1) hr9, congrArg (fun z => z.2.2) hr9⟩
      refine lv_istore (lv' := [(4, .int Z_3.1), (0, .ref h), (1, .int (nI s1)), (2, .int p2), (3, .int (nI n1))]) hx hb dX2_watch_34 hl (by decide) rfl (fun ls hl => ?_)
      refine lv_iload hx hb dX2_watch_36 (lv_at hl 0 rfl) ?_
      refine lb_if_ge (tgt := 44) hx hb dX2_watch_38 (by decide) (fun c_4 c_4' => ?_) (fun c_4 c_4' => ?_)
      · -- c_4: Z_3.1 ≥ 0
        obtain ⟨look0, look1, look2, look3⟩ := m_look_ok (by rw [← eZ_3]; exact c_4)
        rw [look0] at eZ_3
        subst eZ_3
        have M : mM D cl h ad dA (mN h ad) s (va_up F 0 0) Rr H locs := M
        obtain ⟨i1, hi1, rfl⟩ := nat_ge0 look2
        have ei1 : (nI i1).toNatClampNeg = i1 := nI_clamp (by omega)
        have hs1 := add64 hi1 (b := n1) (by omega) look3 (h3 _ (by rw [es1]; omega)) (n := 64) rfl
        refine lv_bipush (v := 64) hx hb dX2_watch_44 (by decide) ?_
        refine lv_iload_n hx hb dX2_watch_46 rfl (lv_at hl 2 rfl) ?_
        refine lv_imul hx hb dX2_watch_47 ?_
        refine lv_asi (y := nI (64 * s1)) (nI_mul 64 s1) ?_
        refine lv_iload_n hx hb dX2_watch_48 rfl (lv_at hl 3 rfl) ?_
        refine lv_iadd hx hb dX2_watch_49 ?_
        refine lv_asi (y := nI ((64 * s1) + i1)) (nI_add (64 * s1) i1) ?_
        refine lv_istore (lv' := [(5, .int (nI ((64 * s1) + i1))), (4, .int 0), (0, .ref h), (1, .int (nI s1)), (2, .int (nI i1)), (3, .int (nI n1))]) hx hb dX2_watch_50 hl (by decide) rfl (fun ls hl => ?_)
        refine lv_iconst (v := 0) hx hb dX2_watch_52 (by decide) ?_
        refine lv_istore (lv' := [(6, .int 0), (5, .int (nI ((64 * s1) + i1))), (4, .int 0), (0, .ref h), (1, .int (nI s1)), (2, .int (nI i1)), (3, .int (nI n1))]) hx hb dX2_watch_53 hl (by decide) rfl (fun ls hl => ?_)
        have L_5 : ∀ (fuL_5 : Nat) (i : Nat), (i ≤ n1) → (∀ j, j < i → m_watchOk Rr (64 * s1 + i1) j = true) → n1 - i < fuL_5 → ∀ (H : Heap) (locs : List Loc), mM D cl h ad dA (mN h ad) s (va_up F 0 0) Rr H locs → ∀ ls, lv_has ls 11 [(0, .ref h), (1, .int (nI s1)), (2, .int (nI i1)), (3, .int (nI n1)), (4, .int 0), (5, .int (nI ((64 * s1) + i1))), (6, .int (nI i))] → W p l e ({ frames := 2, cells := 0, slots := 0, locals := 45 } : Room) s m ([.ref h, .int (nI s1), .int (nI i1), .int (nI n1)] : List Value).toArray below meth c H locs 0 0 (MQ below (va_Qi (fun r u => (r, u) = m_watch (va_up F 0 0) Rr (nI s1) (nI i1) (nI n1)) (mB D cl h ad dA) (mN h ad)) ([.ref h, .int (nI s1), .int (nI i1), .int (nI n1)] : List Value).toArray s 0 0 (mN h ad)) (F0 m 55 ls []) := by
          intro fuL_5
          induction fuL_5 with
          | zero => intro i hi hall hfuL_5; exact absurd hfuL_5 (Nat.not_lt_zero _)
          | succ fuL_5 L_5ih =>
            intro i hi hall hfuL_5 H locs M ls hl
            refine lv_iload hx hb dX2_watch_55 (lv_at hl 6 rfl) ?_
            refine lv_iload_n hx hb dX2_watch_57 rfl (lv_at hl 3 rfl) ?_
            refine ln_icmp_ge (tgt := 91) hx hb (a := i) (b := n1) (by omega) (by omega) dX2_watch_58 (by decide) (fun c_6 => ?_) (fun c_6 => ?_)
            · -- c_6: nI i ≥ nI n1
              have hall9 : ∀ k, k < n1 → m_watchOk Rr (64 * s1 + i1) k = true := fun k hk => hall k (by omega)
              have hpw := pow_le n1 (by omega)
              refine lv_aload_n hx hb dX2_watch_91 rfl (lv_at hl 0 rfl) ?_
              refine lv_iconst (v := 0) hx hb dX2_watch_92 (by decide) ?_
              refine mp_1 X M dX2_watch_93 (fun H locs M => ?_)
              refine lv_aload_n hx hb dX2_watch_96 rfl (lv_at hl 0 rfl) ?_
              refine m_cQ (v := m_breaches (F 55) Rr) (As := []) (rest := []) X M (metX2_breachesNow l D cl hcl h ad dA (va_up (va_up F 0 0) 1 0) Rr  h55) (cwV 0 hts (lw_V q1897 q1899 qs50 q62 q1900) rfl rfl rfl (by decide +kernel) ⟨Nat.le_of_ble_eq_true rfl, Nat.le_of_ble_eq_true rfl⟩) rfl hl.1 rfl (Nat.le_of_ble_eq_true rfl) dX2_watch_97 ⟨Nat.zero_le _, Nat.zero_le _⟩ ?_
              refine lv_istore (lv' := [(6, .int (m_breaches (F 55) Rr)), (0, .ref h), (1, .int (nI s1)), (2, .int (nI i1)), (3, .int (nI n1)), (4, .int 0), (5, .int (nI ((64 * s1) + i1)))]) hx hb dX2_watch_100 hl (by decide) rfl (fun ls hl => ?_)
              refine lv_ldc (v := (-1000000)) hx hb hown (hts _ q1430) dX2_watch_102 ?_
              refine lv_istore (lv' := [(7, .int (-1000000)), (6, .int (m_breaches (F 55) Rr)), (0, .ref h), (1, .int (nI s1)), (2, .int (nI i1)), (3, .int (nI n1)), (4, .int 0), (5, .int (nI ((64 * s1) + i1)))]) hx hb dX2_watch_104 hl (by decide) rfl (fun ls hl => ?_)
              refine lv_iconst (v := 0) hx hb dX2_watch_106 (by decide) ?_
              refine lv_istore (lv' := [(8, .int 0), (7, .int (-1000000)), (6, .int (m_breaches (F 55) Rr)), (0, .ref h), (1, .int (nI s1)), (2, .int (nI i1)), (3, .int (nI n1)), (4, .int 0), (5, .int (nI ((64 * s1) + i1)))]) hx hb dX2_watch_107 hl (by decide) rfl (fun ls hl => ?_)
              have L_7 : ∀ (fuL_7 : Nat) (j : Nat) (x : Int32), (j ≤ 2 ^ n1) → (x = itr (m_watS (F 55) Rr (64 * s1 + i1) n1) j (-1000000)) → 2 ^ n1 - j < fuL_7 → ∀ (H : Heap) (locs : List Loc), mM D cl h ad dA (mN h ad) s (va_up (va_up F 0 0) 1 0) Rr H locs → ∀ ls, lv_has ls 11 [(0, .ref h), (1, .int (nI s1)), (2, .int (nI i1)), (3, .int (nI n1)), (4, .int 0), (5, .int (nI ((64 * s1) + i1))), (6, .int (m_breaches (F 55) Rr)), (7, .int x), (8, .int (nI j))] → W p l e ({ frames := 2, cells := 0, slots := 0, locals := 45 } : Room) s m ([.ref h, .int (nI s1), .int (nI i1), .int (nI n1)] : List Value).toArray below meth c H locs 0 0 (MQ below (va_Qi (fun r u => (r, u) = m_watch (va_up F 0 0) Rr (nI s1) (nI i1) (nI n1)) (mB D cl h ad dA) (mN h ad)) ([.ref h, .int (nI s1), .int (nI i1), .int (nI n1)] : List Value).toArray s 0 0 (mN h ad)) (F0 m 109 ls []) := by
                intro fuL_7
                induction fuL_7 with
                | zero => intro j x hj qx hfuL_7; exact absurd hfuL_7 (Nat.not_lt_zero _)
                | succ fuL_7 L_7ih =>
                  intro j x hj qx hfuL_7 H locs M ls hl
                  refine lv_iload hx hb dX2_watch_109 (lv_at hl 8 rfl) ?_
                  refine lv_iconst (v := 1) hx hb dX2_watch_111 (by decide) ?_
                  refine lv_iload_n hx hb dX2_watch_112 rfl (lv_at hl 3 rfl) ?_
                  refine lv_ishl hx hb dX2_watch_113 ?_
                  refine lv_asi (y := nI (2 ^ n1)) (shl_pow n1 (by omega)) ?_
                  refine ln_icmp_ge (tgt := 210) hx hb (a := j) (b := 2 ^ n1) (by omega) (by omega) dX2_watch_114 (by decide) (fun c_8 => ?_) (fun c_8 => ?_)
                  · -- c_8: nI j ≥ nI (2 ^ n1)
                    have ej : j = 2 ^ n1 := by omega
                    rw [ej] at qx
                    refine lv_iload hx hb dX2_watch_210 (lv_at hl 7 rfl) ?_
                    exact W.iret (v := x) hx hb hr (fun t9 ht9 hW9 => ⟨⟨_, (va_up (va_up F 0 0) 1 0, Rr), rfl, (by simp [m_watch, up_s, up_n, if_pos hall9, c_1, es1, c_2, en1, look0, ei1, c_6, hall9, c_8, ← qx]), by show va_P _ _ _ t9.heap; rw [ht9]; exact M.1⟩, M.2.2.F ht9⟩) M.2.2.2.2 dX2_watch_212
                  · -- c_8: nI j < nI (2 ^ n1)
                    refine lv_iconst (v := 0) hx hb dX2_watch_117 (by decide) ?_
                    refine lv_istore (lv' := [(9, .int 0), (0, .ref h), (1, .int (nI s1)), (2, .int (nI i1)), (3, .int (nI n1)), (4, .int 0), (5, .int (nI ((64 * s1) + i1))), (6, .int (m_breaches (F 55) Rr)), (7, .int x), (8, .int (nI j))]) hx hb dX2_watch_118 hl (by decide) rfl (fun ls hl => ?_)
                    refine lv_iconst (v := 0) hx hb dX2_watch_120 (by decide) ?_
                    refine lv_istore (lv' := [(10, .int 0), (9, .int 0), (0, .ref h), (1, .int (nI s1)), (2, .int (nI i1)), (3, .int (nI n1)), (4, .int 0), (5, .int (nI ((64 * s1) + i1))), (6, .int (m_breaches (F 55) Rr)), (7, .int x), (8, .int (nI j))]) hx hb dX2_watch_121 hl (by decide) rfl (fun ls hl => ?_)
                    have L_9 : ∀ (fuL_9 : Nat) (k : Nat) (a : Int32), (k ≤ n1) → (a = itr (m_hasS Rr (64 * s1 + i1) j) k 0) → n1 - k < fuL_9 → ∀ (H : Heap) (locs : List Loc), mM D cl h ad dA (mN h ad) s (va_up (va_up F 0 0) 1 0) Rr H locs → ∀ ls, lv_has ls 11 [(0, .ref h), (1, .int (nI s1)), (2, .int (nI i1)), (3, .int (nI n1)), (4, .int 0), (5, .int (nI ((64 * s1) + i1))), (6, .int (m_breaches (F 55) Rr)), (7, .int x), (8, .int (nI j)), (9, .int a), (10, .int (nI k))] → W p l e ({ frames := 2, cells := 0, slots := 0, locals := 45 } : Room) s m ([.ref h, .int (nI s1), .int (nI i1), .int (nI n1)] : List Value).toArray below meth c H locs 0 0 (MQ below (va_Qi (fun r u => (r, u) = m_watch (va_up F 0 0) Rr (nI s1) (nI i1) (nI n1)) (mB D cl h ad dA) (mN h ad)) ([.ref h, .int (nI s1), .int (nI i1), .int (nI n1)] : List Value).toArray s 0 0 (mN h ad)) (F0 m 123 ls []) := by
                      intro fuL_9
                      induction fuL_9 with
                      | zero => intro k a hk qa hfuL_9; exact absurd hfuL_9 (Nat.not_lt_zero _)
                      | succ fuL_9 L_9ih =>
                        intro k a hk qa hfuL_9 H locs M ls hl
                        refine lv_iload hx hb dX2_watch_123 (lv_at hl 10 rfl) ?_
                        refine lv_iload_n hx hb dX2_watch_125 rfl (lv_at hl 3 rfl) ?_
                        refine ln_icmp_ge (tgt := 165) hx hb (a := k) (b := n1) (by omega) (by omega) dX2_watch_126 (by decide) (fun c_10 => ?_) (fun c_10 => ?_)
                        · -- c_10: nI k ≥ nI n1
                          have ek : k = n1 := by omega
                          rw [ek] at qa
                          refine lv_iload hx hb dX2_watch_165 (lv_at hl 6 rfl) ?_
                          refine lv_iload hx hb dX2_watch_167 (lv_at hl 9 rfl) ?_
                          refine lv_iconst (v := (-1)) hx hb dX2_watch_169 (by decide) ?_
                          refine lv_ixor hx hb dX2_watch_170 ?_
                          refine lv_iand hx hb dX2_watch_171 ?_
                          refine lv_if_ne (tgt := 200) hx hb dX2_watch_172 (by decide) (fun c_11 => ?_) (fun c_11 => ?_)
                          · -- c_11: (m_breaches (F 55) Rr) &&& (a ^^^ (-1)) ≠ 0
                            refine lv_iload hx hb dX2_watch_200 (lv_at hl 7 rfl) ?_
                            refine lv_istore (lv' := [(7, .int x), (0, .ref h), (1, .int (nI s1)), (2, .int (nI i1)), (3, .int (nI n1)), (4, .int 0), (5, .int (nI ((64 * s1) + i1))), (6, .int (m_breaches (F 55) Rr)), (8, .int (nI j)), (9, .int a), (10, .int (nI k))]) hx hb dX2_watch_202 hl (by decide) rfl (fun ls hl => ?_)
                            refine lv_iinc (v := nI (j + 1)) (lv' := [(8, .int (nI (j + 1))), (7, .int x), (0, .ref h), (1, .int (nI s1)), (2, .int (nI i1)), (3, .int (nI n1)), (4, .int 0), (5, .int (nI ((64 * s1) + i1))), (6, .int (m_breaches (F 55) Rr)), (9, .int a), (10, .int (nI k))]) hx hb dX2_watch_204 hl (k := 8) rfl (mk_inc _) (by decide) rfl (fun ls hl => ?_)
                            refine lv_goto (tgt := 109) hx hb dX2_watch_207 (by decide) ?_
                            exact L_7ih  (j + 1) x (by omega) (by rw [itr_s, ← qx]; unfold m_watS; rw [← qa]; rw [if_neg (fun h => c_11 h.1)]) (by omega) _ _ M ls (lv_sub hl [2, 3, 4, 5, 6, 7, 8, 1, 0] rfl)
                          · -- c_11: (m_breaches (F 55) Rr) &&& (a ^^^ (-1)) = 0
                            refine lv_iload hx hb dX2_watch_175 (lv_at hl 7 rfl) ?_
                            refine lv_ldc (v := (-1000000)) hx hb hown (hts _ q1430) dX2_watch_177 ?_
                            refine lv_icmp_eq (tgt := 195) hx hb dX2_watch_179 (by decide) (fun c_12 => ?_) (fun c_12 => ?_)
                            · -- c_12: x = (-1000000)
                              refine lv_iload hx hb dX2_watch_195 (lv_at hl 8 rfl) ?_
                              refine lv_goto (tgt := 202) hx hb dX2_watch_197 (by decide) ?_
                              refine lv_istore (lv' := [(7, .int (nI j)), (0, .ref h), (1, .int (nI s1)), (2, .int (nI i1)), (3, .int (nI n1)), (4, .int 0), (5, .int (nI ((64 * s1) + i1))), (6, .int (m_breaches (F 55) Rr)), (8, .int (nI j)), (9, .int a), (10, .int (nI k))]) hx hb dX2_watch_202 hl (by decide) rfl (fun ls hl => ?_)
                              refine lv_iinc (v := nI (j + 1)) (lv' := [(8, .int (nI (j + 1))), (7, .int (nI j)), (0, .ref h), (1, .int (nI s1)), (2, .int (nI i1)), (3, .int (nI n1)), (4, .int 0), (5, .int (nI ((64 * s1) + i1))), (6, .int (m_breaches (F 55) Rr)), (9, .int a), (10, .int (nI k))]) hx hb dX2_watch_204 hl (k := 8) rfl (mk_inc _) (by decide) rfl (fun ls hl => ?_)
                              refine lv_goto (tgt := 109) hx hb dX2_watch_207 (by decide) ?_
                              exact L_7ih  (j + 1) (nI j) (by omega) (by rw [itr_s, ← qx]; unfold m_watS; rw [← qa]; rw [if_pos ⟨c_11, Or.inl c_12⟩]) (by omega) _ _ M ls (lv_sub hl [2, 3, 4, 5, 6, 7, 8, 1, 0] rfl)
                            · -- c_12: x ≠ (-1000000)
                              refine lv_iload hx hb dX2_watch_182 (lv_at hl 8 rfl) ?_
                              refine s_cI (v := m_bits (nI j)) (As := [.int (nI j)]) (rest := []) S (metX2_bits l (nI j)) (va_cwS 1 hts (lw_S q1879 q1880 q62 q1881) rfl rfl rfl (by decide +kernel) ⟨Nat.le_of_ble_eq_true rfl, Nat.le_of_ble_eq_true rfl⟩) rfl hl.1 rfl (Nat.le_of_ble_eq_true rfl) dX2_watch_184 ⟨Nat.zero_le _, Nat.zero_le _⟩ ?_
                              refine lv_iload hx hb dX2_watch_187 (lv_at hl 7 rfl) ?_
                              refine s_cI (v := m_bits x) (As := [.int x]) (rest := [.int (m_bits (nI j))]) S (metX2_bits l x) (va_cwS 1 hts (lw_S q1879 q1880 q62 q1881) rfl rfl rfl (by decide +kernel) ⟨Nat.le_of_ble_eq_true rfl, Nat.le_of_ble_eq_true rfl⟩) rfl hl.1 rfl (Nat.le_of_ble_eq_true rfl) dX2_watch_189 ⟨Nat.zero_le _, Nat.zero_le _⟩ ?_
                              refine lb_icmp_ge (tgt := 200) hx hb dX2_watch_192 (by decide) (fun c_13 c_13' => ?_) (fun c_13 c_13' => ?_)
                              · -- c_13: m_bits (nI j) ≥ m_bits x
                                refine lv_iload hx hb dX2_watch_200 (lv_at hl 7 rfl) ?_
                                refine lv_istore (lv' := [(7, .int x), (0, .ref h), (1, .int (nI s1)), (2, .int (nI i1)), (3, .int (nI n1)), (4, .int 0), (5, .int (nI ((64 * s1) + i1))), (6, .int (m_breaches (F 55) Rr)), (8, .int (nI j)), (9, .int a), (10, .int (nI k))]) hx hb dX2_watch_202 hl (by decide) rfl (fun ls hl => ?_)
                                refine lv_iinc (v := nI (j + 1)) (lv' := [(8, .int (nI (j + 1))), (7, .int x), (0, .ref h), (1, .int (nI s1)), (2, .int (nI i1)), (3, .int (nI n1)), (4, .int 0), (5, .int (nI ((64 * s1) + i1))), (6, .int (m_breaches (F 55) Rr)), (9, .int a), (10, .int (nI k))]) hx hb dX2_watch_204 hl (k := 8) rfl (mk_inc _) (by decide) rfl (fun ls hl => ?_)
                                refine lv_goto (tgt := 109) hx hb dX2_watch_207 (by decide) ?_
                                exact L_7ih  (j + 1) x (by omega) (by rw [itr_s, ← qx]; unfold m_watS; rw [← qa]; rw [if_neg (fun h => h.2.elim c_12 c_13')]) (by omega) _ _ M ls (lv_sub hl [2, 3, 4, 5, 6, 7, 8, 1, 0] rfl)
                              · -- c_13: m_bits (nI j) < m_bits x
                                refine lv_iload hx hb dX2_watch_195 (lv_at hl 8 rfl) ?_
                                refine lv_goto (tgt := 202) hx hb dX2_watch_197 (by decide) ?_
                                refine lv_istore (lv' := [(7, .int (nI j)), (0, .ref h), (1, .int (nI s1)), (2, .int (nI i1)), (3, .int (nI n1)), (4, .int 0), (5, .int (nI ((64 * s1) + i1))), (6, .int (m_breaches (F 55) Rr)), (8, .int (nI j)), (9, .int a), (10, .int (nI k))]) hx hb dX2_watch_202 hl (by decide) rfl (fun ls hl => ?_)
                                refine lv_iinc (v := nI (j + 1)) (lv' := [(8, .int (nI (j + 1))), (7, .int (nI j)), (0, .ref h), (1, .int (nI s1)), (2, .int (nI i1)), (3, .int (nI n1)), (4, .int 0), (5, .int (nI ((64 * s1) + i1))), (6, .int (m_breaches (F 55) Rr)), (9, .int a), (10, .int (nI k))]) hx hb dX2_watch_204 hl (k := 8) rfl (mk_inc _) (by decide) rfl (fun ls hl => ?_)
                                refine lv_goto (tgt := 109) hx hb dX2_watch_207 (by decide) ?_
                                exact L_7ih  (j + 1) (nI j) (by omega) (by rw [itr_s, ← qx]; unfold m_watS; rw [← qa]; rw [if_pos ⟨c_11, Or.inr c_13⟩]) (by omega) _ _ M ls (lv_sub hl [2, 3, 4, 5, 6, 7, 8, 1, 0] rfl)
                        · -- c_10: nI k < nI n1
                          refine lv_iload hx hb dX2_watch_129 (lv_at hl 9 rfl) ?_
                          refine lv_iload hx hb dX2_watch_131 (lv_at hl 8 rfl) ?_
                          refine lv_iload hx hb dX2_watch_133 (lv_at hl 10 rfl) ?_
                          refine lv_ishr hx hb dX2_watch_135 ?_
                          refine lv_iconst (v := 1) hx hb dX2_watch_136 (by decide) ?_
                          refine lv_iand hx hb dX2_watch_137 ?_
                          refine lv_iconst (v := 1) hx hb dX2_watch_138 (by decide) ?_
                          refine lv_icmp_ne (tgt := 155) hx hb dX2_watch_139 (by decide) (fun c_14 => ?_) (fun c_14 => ?_)
                          · -- c_14: ((nI j) >>> ((nI k) &&& 31)) &&& 1 ≠ 1
                            refine lv_iconst (v := 0) hx hb dX2_watch_155 (by decide) ?_
                            refine lv_ior hx hb dX2_watch_156 ?_
                            refine lv_istore (lv' := [(9, .int (a ||| 0)), (0, .ref h), (1, .int (nI s1)), (2, .int (nI i1)), (3, .int (nI n1)), (4, .int 0), (5, .int (nI ((64 * s1) + i1))), (6, .int (m_breaches (F 55) Rr)), (7, .int x), (8, .int (nI j)), (10, .int (nI k))]) hx hb dX2_watch_157 hl (by decide) rfl (fun ls hl => ?_)
                            refine lv_iinc (v := nI (k + 1)) (lv' := [(10, .int (nI (k + 1))), (9, .int (a ||| 0)), (0, .ref h), (1, .int (nI s1)), (2, .int (nI i1)), (3, .int (nI n1)), (4, .int 0), (5, .int (nI ((64 * s1) + i1))), (6, .int (m_breaches (F 55) Rr)), (7, .int x), (8, .int (nI j))]) hx hb dX2_watch_159 hl (k := 10) rfl (mk_inc _) (by decide) rfl (fun ls hl => ?_)
                            refine lv_goto (tgt := 123) hx hb dX2_watch_162 (by decide) ?_
                            exact L_9ih  (k + 1) (a ||| 0) (by omega) (by first | (rw [itr_s, ← qa]; done) | (rw [itr_s, ← qa]; first | (simp [m_hasS, c_1, es1, c_2, en1, look0, ei1, c_6, hall9, c_8, c_10, c_14, up_s, up_n, nI_1, b2i]; done) | (simp_all [m_hasS]; done) | grind [m_hasS])) (by omega) _ _ M ls (lv_sub hl [2, 3, 4, 5, 6, 7, 8, 9, 10, 1, 0] rfl)
                          · -- c_14: ((nI j) >>> ((nI k) &&& 31)) &&& 1 = 1
                            refine lv_aload_n hx hb dX2_watch_142 rfl (lv_at hl 0 rfl) ?_
                            refine mg_4 X M dX2_watch_143 ?_
                            refine lv_iload hx hb dX2_watch_146 (lv_at hl 5 rfl) ?_
                            refine lv_iload hx hb dX2_watch_148 (lv_at hl 10 rfl) ?_
                            refine lv_iadd hx hb dX2_watch_150 ?_
                            refine lv_asi (y := nI (((64 * s1) + i1) + k)) (nI_add ((64 * s1) + i1) k) ?_
                            refine mr_4 X M (f := Rr 4) rfl (j := ((64 * s1) + i1) + k) (vp_in_nI (by omega) (by omega)) (nI_clamp (by omega)) dX2_watch_151 ?_
                            refine lv_goto (tgt := 156) hx hb dX2_watch_152 (by decide) ?_
                            refine lv_ior hx hb dX2_watch_156 ?_
                            refine lv_istore (lv' := [(9, .int (a ||| (Rr 4 (((64 * s1) + i1) + k)))), (0, .ref h), (1, .int (nI s1)), (2, .int (nI i1)), (3, .int (nI n1)), (4, .int 0), (5, .int (nI ((64 * s1) + i1))), (6, .int (m_breaches (F 55) Rr)), (7, .int x), (8, .int (nI j)), (10, .int (nI k))]) hx hb dX2_watch_157 hl (by decide) rfl (fun ls hl => ?_)
                            refine lv_iinc (v := nI (k + 1)) (lv' := [(10, .int (nI (k + 1))), (9, .int (a ||| (Rr 4 (((64 * s1) + i1) + k)))), (0, .ref h), (1, .int (nI s1)), (2, .int (nI i1)), (3, .int (nI n1)), (4, .int 0), (5, .int (nI ((64 * s1) + i1))), (6, .int (m_breaches (F 55) Rr)), (7, .int x), (8, .int (nI j))]) hx hb dX2_watch_159 hl (k := 10) rfl (mk_inc _) (by decide) rfl (fun ls hl => ?_)
                            refine lv_goto (tgt := 123) hx hb dX2_watch_162 (by decide) ?_
                            exact L_9ih  (k + 1) (a ||| (Rr 4 (((64 * s1) + i1) + k))) (by omega) (by first | (rw [itr_s, ← qa]; done) | (rw [itr_s, ← qa]; first | (simp [m_hasS, c_1, es1, c_2, en1, look0, ei1, c_6, hall9, c_8, c_10, c_14, up_s, up_n, nI_1, b2i]; done) | (simp_all [m_hasS]; done) | grind [m_hasS])) (by omega) _ _ M ls (lv_sub hl [2, 3, 4, 5, 6, 7, 8, 9, 10, 1, 0] rfl)
                    exact L_9 ((n1 - 0) + 1) 0 0 (Nat.zero_le _) (by first | rfl | (simp only [itr]; assumption) | (simp [itr, c_1, es1, c_2, en1, look0, ei1, c_6, hall9, c_8, up_s, up_n, nI_1, b2i]; done)) (Nat.lt_succ_self _) _ _ M ls (lv_sub hl [2, 3, 4, 5, 6, 7, 8, 9, 10, 1, 0] rfl)
              exact L_7 ((2 ^ n1 - 0) + 1) 0 (-1000000) (Nat.zero_le _) (by first | rfl | (simp only [itr]; assumption) | (simp [itr, c_1, es1, c_2, en1, look0, ei1, c_6, hall9, up_s, up_n, nI_1, b2i]; done)) (Nat.lt_succ_self _) _ _ M ls (lv_sub hl [3, 4, 5, 6, 7, 8, 2, 1, 0] rfl)
            · -- c_6: nI i < nI n1
              refine lv_aload_n hx hb dX2_watch_61 rfl (lv_at hl 0 rfl) ?_
              refine mg_4 X M dX2_watch_62 ?_
              refine lv_iload hx hb dX2_watch_65 (lv_at hl 5 rfl) ?_
              refine lv_iload hx hb dX2_watch_67 (lv_at hl 6 rfl) ?_
              refine lv_iadd hx hb dX2_watch_69 ?_
              refine lv_asi (y := nI (((64 * s1) + i1) + i)) (nI_add ((64 * s1) + i1) i) ?_
              refine mr_4 X M (f := Rr 4) rfl (j := ((64 * s1) + i1) + i) (vp_in_nI (by omega) (by omega)) (nI_clamp (by omega)) dX2_watch_70 ?_
              refine lv_i2l (v := (Rr 4 (((64 * s1) + i1) + i)).toInt64) hx hb dX2_watch_71 rfl ?_
              refine lv_lconst (v := 0) hx hb dX2_watch_72 (by decide) ?_
              refine lv_ldc2 (v := 4095) hx hb hown (hts _ q1906) dX2_watch_73 ?_
              refine s_cI (v := b2i (inB 0 4095 (Rr 4 (((64 * s1) + i1) + i)))) (As := [.long ((Rr 4 (((64 * s1) + i1) + i)).toInt64), .long 0, .long 4095]) (rest := []) S (metX2_inI l (Rr 4 (((64 * s1) + i1) + i)) 0 4095 ((Rr 4 (((64 * s1) + i1) + i)).toInt64) 0 4095 rfl rfl rfl) (va_cwS 3 hts (lw_S q1623 q1624 q62 q1625) rfl rfl rfl (by decide +kernel) ⟨Nat.le_of_ble_eq_true rfl, Nat.le_of_ble_eq_true rfl⟩) rfl hl.1 rfl (Nat.le_of_ble_eq_true rfl) dX2_watch_76 ⟨Nat.zero_le _, Nat.zero_le _⟩ ?_
              refine lz_if_ne (tgt := 85) hx hb dX2_watch_79 (by decide) (fun c_15 => ?_) (fun c_15 => ?_)
              · -- c_15: inB 0 4095 (Rr 4 (((64 * s1) + i1) + i)) = true
                refine lv_iinc (v := nI (i + 1)) (lv' := [(6, .int (nI (i + 1))), (0, .ref h), (1, .int (nI s1)), (2, .int (nI i1)), (3, .int (nI n1)), (4, .int 0), (5, .int (nI ((64 * s1) + i1)))]) hx hb dX2_watch_85 hl (k := 6) rfl (mk_inc _) (by decide) rfl (fun ls hl => ?_)
                refine lv_goto (tgt := 55) hx hb dX2_watch_88 (by decide) ?_
                exact L_5ih  (i + 1) (by omega) (all_succ hall (by first | (simp [m_watchOk, c_1, es1, c_2, en1, look0, ei1, c_6, c_15]; done) | (unfold m_watchOk; rw [if_pos ek]; assumption))) (by omega) _ _ M ls (lv_sub hl [1, 2, 3, 4, 5, 6, 0] rfl)
              · -- c_15: inB 0 4095 (Rr 4 (((64 * s1) + i1) + i)) = false
                refine lv_ldc (v := (-1000001)) hx hb hown (hts _ q1627) dX2_watch_82 ?_
                exact W.iret (v := (-1000001)) hx hb hr (fun t9 ht9 hW9 => ⟨⟨_, (va_up F 0 0, Rr), rfl, (by have hne : ¬ ∀ k, k < n1 → m_watchOk Rr (64 * s1 + i1) k = true := (fun q => by have q1 := q i (by omega); unfold m_watchOk at q1; rw [q1] at c_15; cases c_15); simp [m_watch, up_s, up_n, if_neg hne, c_1, es1, c_2, en1, look0, ei1, c_6, c_15]), by show va_P _ _ _ t9.heap; rw [ht9]; exact M.1⟩, M.2.2.F ht9⟩) M.2.2.2.2 dX2_watch_84
        exact L_5 ((n1 - 0) + 1) 0 (by omega) (fun j hj => absurd hj (Nat.not_lt_zero j)) (Nat.lt_succ_self _) _ _ M ls (lv_sub hl [3, 4, 5, 6, 2, 1, 0] rfl)
      · -- c_4: Z_3.1 < 0
        refine lv_iload hx hb dX2_watch_41 (lv_at hl 0 rfl) ?_
        exact W.iret (v := Z_3.1) hx hb hr (fun t9 ht9 hW9 => ⟨⟨_, (Z_3.2.1, Z_3.2.2), rfl, (by first | (simp [m_watch, c_1, es1, c_2, en1, ← eZ_3, c_4, c_4', up_s, up_n, nI_1, b2i]; done) | (simp [m_watch, c_1, es1, c_2, en1, eZ_3, c_4, c_4', up_s, up_n, nI_1, b2i]; done) | (simp_all [m_watch]; done) | grind [m_watch]), by show va_P _ _ _ t9.heap; rw [ht9]; exact M.1⟩, M.2.2.F ht9⟩) M.2.2.2.2 dX2_watch_43
    · -- c_2: inB 1 12 p3 = false
      refine lv_ldc (v := (-1000001)) hx hb hown (hts _ q1627) dX2_watch_24 ?_
      exact W.iret (v := (-1000001)) hx hb hr (fun t9 ht9 hW9 => ⟨⟨_, (va_up F 0 0, Rr), rfl, (by first | (simp [m_watch, c_1, es1, c_2, up_s, up_n, nI_1, b2i]; done) | (simp_all [m_watch]; done) | grind [m_watch]), by show va_P _ _ _ t9.heap; rw [ht9]; exact M.1⟩, M.2.2.F ht9⟩) M.2.2.2.2 dX2_watch_26

