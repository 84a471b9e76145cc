/-! THE REFERENCE, 2: laws that hold, carts -/
def m_lawStep (Rr : Nat → Nat → Int32) (day what or of : Int32) (k : Nat) (best : Int32) : Int32 := if (Rr 12 k = what ∨ Rr 12 k = or) ∧ Rr 13 k = of ∧ Rr 11 k ≤ day ∧ (best = (-1000000) ∨ Rr 11 best.toNatClampNeg ≤ Rr 11 k) then nI k else best
def m_lawFor (n : Int32) (Rr : Nat → Nat → Int32) (day what or of : Int32) : Int32 := itr (m_lawStep Rr day what or of) n.toNatClampNeg (-1000000)
theorem m_lawFor_in {n : Int32} {Rr : Nat → Nat → Int32} {day what or of : Int32} (hn : cnB n 30) : m_lawFor n Rr day what or of = (-1000000) ∨ vp_in (m_lawFor n Rr day what or of) 30 := by
  obtain ⟨k, hk, rfl⟩ := cnB_ex hn (n := 30) rfl
  unfold m_lawFor
  rw [nI_clamp (by omega)]
  refine (itr_in ?_ k (by omega)).imp id (fun z => vp_mono z hk)
  intro k x; unfold m_lawStep; split <;> simp
set_option maxHeartbeats 4000000 in
set_option maxRecDepth 100000 in
theorem metX2_lawFor (l : Launch) (D : va_G) (cl : List vw_C) (hcl : cl[0]? = some (RX2, TX2, 61)) (h : Nat) (ad : Nat → Nat) (dA : ClassId) (F : Nat → Int32) (Rr : Nat → Nat → Int32) (p1 : Int32) (p2 : Int32) (p3 : Int32) (p4 : Int32) (h10 : cnB (F 10) 30) : Met l yX2_lawFor (ws_ yX2_lawFor cX2_lawFor 8 (some .int)) ({ frames := 0, cells := 0, slots := 0, locals := 0 } : Room) (va_Pc [.ref h, .int p1, .int p2, .int p3, .int p4] (mPre D cl h ad dA F Rr)) (vp_Si (fun r => r = m_lawFor (F 10) Rr p1 p2 p3 p4)) 0 0 (fun _ => False) := by
  refine Met.ofW (cc := cX2_lawFor) (maxL := 8) (ret := (some .int)) (by decide) rfl ?_
  intro p e s m args below meth c s₁ B hml hv
  obtain ⟨rfl, hK, hP, hD⟩ := hv
  have hx := B.exec
  have hb := B.bytes
  have hr := B.returns
  have hts := atoms_spec (ws := (ws_ yX2_lawFor cX2_lawFor 8 (some .int))) B.pre
  have hts : ∀ w ∈ lw_all, w.before _ s = true := fun w h => hts w (List.mem_cons_of_mem _ h)
  have hown : s.vm.findClass RX2 = some m.cls := findClass_of_methodNamed B.named
  have hlocks := B.notSynchronized
  have S : CallFix p m c cX2_lawFor 8 s ([.ref h, .int p1, .int p2, .int p3, .int p4] : List Value).toArray lw_all RX2 := ⟨hx, hb, hml, hown, hts⟩
  have X : mX p s m ([.ref h, .int p1, .int p2, .int p3, .int p4] : List Value).toArray c cX2_lawFor 8 D cl dA := ⟨hx, hb, hml, hown, hts, hK, hcl⟩
  have M : mM D cl h ad dA (mN h ad) s F Rr s.heap [] := ⟨hP, mW_self hD, va_S.rf⟩
  have hl := lv_entry ([.ref h, .int p1, .int p2, .int p3, .int p4]) (n := 8) (Nat.le_of_ble_eq_true rfl)
  rw [lg_entry_eq]
  generalize (lg_sl ([.ref h, .int p1, .int p2, .int p3, .int p4]) ++ List.replicate (8 - (lg_sl ([.ref h, .int p1, .int p2, .int p3, .int p4])).length) Slot.unset).toArray = ls at hl ⊢
  have hl : lv_has ls 8 [(0, .ref h), (1, .int p1), (2, .int p2), (3, .int p3), (4, .int p4)] := hl
  obtain ⟨n, hn, en⟩ := cnB_ex h10 (n := 30) rfl
  have en2 : (F 10).toNatClampNeg = n := by rw [en]; exact nI_clamp (by omega)
  refine lv_ldc (v := (-1000000)) hx hb hown (hts _ q1430) dX2_lawFor_0 ?_
  refine lv_istore (lv' := [(5, .int (-1000000)), (0, .ref h), (1, .int p1), (2, .int p2), (3, .int p3), (4, .int p4)]) hx hb dX2_lawFor_2 hl (by decide) rfl (fun ls hl => ?_)
  refine lv_iconst (v := 0) hx hb dX2_lawFor_4 (by decide) ?_
  refine lv_istore (lv' := [(6, .int 0), (5, .int (-1000000)), (0, .ref h), (1, .int p1), (2, .int p2), (3, .int p3), (4, .int p4)]) hx hb dX2_lawFor_5 hl (by decide) rfl (fun ls hl => ?_)
  have L_1 : ∀ (fuL_1 : Nat) (i : Nat) (x : Int32), (i ≤ n) → (x = itr (m_lawStep Rr p1 p2 p3 p4) i (-1000000)) → n - i < fuL_1 → ∀ ls, lv_has ls 8 [(0, .ref h), (1, .int p1), (2, .int p2), (3, .int p3), (4, .int p4), (5, .int x), (6, .int (nI i))] → W p l e ({ frames := 0, cells := 0, slots := 0, locals := 0 } : Room) s m ([.ref h, .int p1, .int p2, .int p3, .int p4] : List Value).toArray below meth c s.heap [] 0 0 (MQ below (vp_Si (fun r => r = m_lawFor (F 10) Rr p1 p2 p3 p4)) ([.ref h, .int p1, .int p2, .int p3, .int p4] : List Value).toArray s 0 0 (fun _ => False)) (F0 m 7 ls []) := by
    intro fuL_1
    induction fuL_1 with
    | zero => intro i x hi qx hfuL_1; exact absurd hfuL_1 (Nat.not_lt_zero _)
    | succ fuL_1 L_1ih =>
      intro i x hi qx hfuL_1 ls hl
      have hb9 : x = (-1000000) ∨ vp_in x i := by rw [qx]; exact itr_in (fun k x => by unfold m_lawStep; split <;> simp) i (by omega)
      refine lv_iload hx hb dX2_lawFor_7 (lv_at hl 6 rfl) ?_
      refine lv_aload_n hx hb dX2_lawFor_9 rfl (lv_at hl 0 rfl) ?_
      refine mg_10 X M (v := F 10) rfl dX2_lawFor_10 ?_
      refine lv_asi (y := nI n) en ?_
      refine ln_icmp_ge (tgt := 112) hx hb (a := i) (b := n) (by omega) (by omega) dX2_lawFor_13 (by decide) (fun c_2 => ?_) (fun c_2 => ?_)
      · -- c_2: nI i ≥ nI n
        have ei : i = n := by omega
        rw [ei] at qx
        refine lv_iload hx hb dX2_lawFor_112 (lv_at hl 5 rfl) ?_
        exact W.iret (v := x) hx hb hr (fun t9 ht9 hW9 => ⟨_, rfl, (by unfold m_lawFor; rw [en2]; exact qx), ht9⟩) (fun _ h9 => by cases h9) dX2_lawFor_114
      · -- c_2: nI i < nI n
        refine lv_aload_n hx hb dX2_lawFor_16 rfl (lv_at hl 0 rfl) ?_
        refine mg_12 X M dX2_lawFor_17 ?_
        refine lv_iload hx hb dX2_lawFor_20 (lv_at hl 6 rfl) ?_
        refine mr_12 X M (f := Rr 12) rfl (j := i) (vp_in_nI (by omega) (by omega)) (nI_clamp (by omega)) dX2_lawFor_22 ?_
        refine lv_iload_n hx hb dX2_lawFor_23 rfl (lv_at hl 2 rfl) ?_
        refine lv_icmp_eq (tgt := 38) hx hb dX2_lawFor_24 (by decide) (fun c_3 => ?_) (fun c_3 => ?_)
        · -- c_3: Rr 12 i = p2
          refine lv_aload_n hx hb dX2_lawFor_38 rfl (lv_at hl 0 rfl) ?_
          refine mg_13 X M dX2_lawFor_39 ?_
          refine lv_iload hx hb dX2_lawFor_42 (lv_at hl 6 rfl) ?_
          refine mr_13 X M (f := Rr 13) rfl (j := i) (vp_in_nI (by omega) (by omega)) (nI_clamp (by omega)) dX2_lawFor_44 ?_
          refine lv_iload hx hb dX2_lawFor_45 (lv_at hl 4 rfl) ?_
          refine lv_icmp_ne (tgt := 65) hx hb dX2_lawFor_47 (by decide) (fun c_4 => ?_) (fun c_4 => ?_)
          · -- c_4: Rr 13 i ≠ p4
            refine lv_iconst (v := 0) hx hb dX2_lawFor_65 (by decide) ?_
            refine lv_istore (lv' := [(7, .int 0), (0, .ref h), (1, .int p1), (2, .int p2), (3, .int p3), (4, .int p4), (5, .int x), (6, .int (nI i))]) hx hb dX2_lawFor_66 hl (by decide) rfl (fun ls hl => ?_)
            refine lv_iload hx hb dX2_lawFor_68 (lv_at hl 0 rfl) ?_
            refine lv_if_eq (tgt := 102) hx hb dX2_lawFor_70 (by decide) (fun c_5 => ?_) (fun c_5 => absurd c_5 (by decide))
            refine lv_iload hx hb dX2_lawFor_102 (lv_at hl 6 rfl) ?_
            refine lv_istore (lv' := [(5, .int x), (7, .int 0), (0, .ref h), (1, .int p1), (2, .int p2), (3, .int p3), (4, .int p4), (6, .int (nI i))]) hx hb dX2_lawFor_104 hl (by decide) rfl (fun ls hl => ?_)
            refine lv_iinc (v := nI (i + 1)) (lv' := [(6, .int (nI (i + 1))), (5, .int x), (7, .int 0), (0, .ref h), (1, .int p1), (2, .int p2), (3, .int p3), (4, .int p4)]) hx hb dX2_lawFor_106 hl (k := 7) rfl (mk_inc _) (by decide) rfl (fun ls hl => ?_)
            refine lv_goto (tgt := 7) hx hb dX2_lawFor_109 (by decide) ?_
            exact L_1ih  (i + 1) x (by omega) (by first | (rw [itr_s, ← qx]; done) | (rw [itr_s, ← qx]; first | (simp [m_lawStep, c_2, c_3, c_4, up_s, up_n, nI_1, b2i]; done) | (simp_all [m_lawStep]; done) | grind [m_lawStep])) (by omega) ls (lv_sub hl [3, 4, 5, 6, 7, 1, 0] rfl)
          · -- c_4: Rr 13 i = p4
            refine lv_aload_n hx hb dX2_lawFor_50 rfl (lv_at hl 0 rfl) ?_
            refine mg_11 X M dX2_lawFor_51 ?_
            refine lv_iload hx hb dX2_lawFor_54 (lv_at hl 6 rfl) ?_
            refine mr_11 X M (f := Rr 11) rfl (j := i) (vp_in_nI (by omega) (by omega)) (nI_clamp (by omega)) dX2_lawFor_56 ?_
            refine lv_iload_n hx hb dX2_lawFor_57 rfl (lv_at hl 1 rfl) ?_
            refine lb_icmp_gt (tgt := 65) hx hb dX2_lawFor_58 (by decide) (fun c_6 c_6' => ?_) (fun c_6 c_6' => ?_)
            · -- c_6: Rr 11 i > p1
              refine lv_iconst (v := 0) hx hb dX2_lawFor_65 (by decide) ?_
              refine lv_istore (lv' := [(7, .int 0), (0, .ref h), (1, .int p1), (2, .int p2), (3, .int p3), (4, .int p4), (5, .int x), (6, .int (nI i))]) hx hb dX2_lawFor_66 hl (by decide) rfl (fun ls hl => ?_)
              refine lv_iload hx hb dX2_lawFor_68 (lv_at hl 0 rfl) ?_
              refine lv_if_eq (tgt := 102) hx hb dX2_lawFor_70 (by decide) (fun c_7 => ?_) (fun c_7 => absurd c_7 (by decide))
              refine lv_iload hx hb dX2_lawFor_102 (lv_at hl 6 rfl) ?_
              refine lv_istore (lv' := [(5, .int x), (7, .int 0), (0, .ref h), (1, .int p1), (2, .int p2), (3, .int p3), (4, .int p4), (6, .int (nI i))]) hx hb dX2_lawFor_104 hl (by decide) rfl (fun ls hl => ?_)
              refine lv_iinc (v := nI (i + 1)) (lv' := [(6, .int (nI (i + 1))), (5, .int x), (7, .int 0), (0, .ref h), (1, .int p1), (2, .int p2), (3, .int p3), (4, .int p4)]) hx hb dX2_lawFor_106 hl (k := 7) rfl (mk_inc _) (by decide) rfl (fun ls hl => ?_)
              refine lv_goto (tgt := 7) hx hb dX2_lawFor_109 (by decide) ?_
              exact L_1ih  (i + 1) x (by omega) (by first | (rw [itr_s, ← qx]; done) | (rw [itr_s, ← qx]; first | (simp [m_lawStep, c_2, c_3, c_4, c_6, c_6', up_s, up_n, nI_1, b2i]; done) | (simp_all [m_lawStep]; done) | grind [m_lawStep])) (by omega) ls (lv_sub hl [3, 4, 5, 6, 7, 1, 0] rfl)
            · -- c_6: Rr 11 i ≤ p1
              refine lv_iconst (v := 1) hx hb dX2_lawFor_61 (by decide) ?_
              refine lv_goto (tgt := 66) hx hb dX2_lawFor_62 (by decide) ?_
              refine lv_istore (lv' := [(7, .int 1), (0, .ref h), (1, .int p1), (2, .int p2), (3, .int p3), (4, .int p4), (5, .int x), (6, .int (nI i))]) hx hb dX2_lawFor_66 hl (by decide) rfl (fun ls hl => ?_)
              refine lv_iload hx hb dX2_lawFor_68 (lv_at hl 0 rfl) ?_
              refine lv_if_eq (tgt := 102) hx hb dX2_lawFor_70 (by decide) (fun c_8 => absurd c_8 (by decide)) (fun c_8 => ?_)
              refine lv_iload hx hb dX2_lawFor_73 (lv_at hl 6 rfl) ?_
              refine lv_ldc (v := (-1000000)) hx hb hown (hts _ q1430) dX2_lawFor_75 ?_
              refine lv_icmp_eq (tgt := 97) hx hb dX2_lawFor_77 (by decide) (fun c_9 => ?_) (fun c_9 => ?_)
              · -- c_9: x = (-1000000)
                refine lv_iload hx hb dX2_lawFor_97 (lv_at hl 7 rfl) ?_
                refine lv_goto (tgt := 104) hx hb dX2_lawFor_99 (by decide) ?_
                refine lv_istore (lv' := [(5, .int (nI i)), (7, .int 1), (0, .ref h), (1, .int p1), (2, .int p2), (3, .int p3), (4, .int p4), (6, .int (nI i))]) hx hb dX2_lawFor_104 hl (by decide) rfl (fun ls hl => ?_)
                refine lv_iinc (v := nI (i + 1)) (lv' := [(6, .int (nI (i + 1))), (5, .int (nI i)), (7, .int 1), (0, .ref h), (1, .int p1), (2, .int p2), (3, .int p3), (4, .int p4)]) hx hb dX2_lawFor_106 hl (k := 7) rfl (mk_inc _) (by decide) rfl (fun ls hl => ?_)
                refine lv_goto (tgt := 7) hx hb dX2_lawFor_109 (by decide) ?_
                exact L_1ih  (i + 1) (nI i) (by omega) (by first | (rw [itr_s, ← qx]; done) | (rw [itr_s, ← qx]; first | (simp [m_lawStep, c_2, c_3, c_4, c_6, c_6', c_9, up_s, up_n, nI_1, b2i]; done) | (simp_all [m_lawStep]; done) | grind [m_lawStep])) (by omega) ls (lv_sub hl [3, 4, 5, 6, 7, 1, 0] rfl)
              · -- c_9: x ≠ (-1000000)
                refine lv_aload_n hx hb dX2_lawFor_80 rfl (lv_at hl 1 rfl) ?_
                refine mg_11 X M dX2_lawFor_81 ?_
                refine lv_iload hx hb dX2_lawFor_84 (lv_at hl 7 rfl) ?_
                refine mr_11 X M (f := Rr 11) rfl (j := i) (vp_in_nI (by omega) (by omega)) (nI_clamp (by omega)) dX2_lawFor_86 ?_
                refine lv_aload_n hx hb dX2_lawFor_87 rfl (lv_at hl 1 rfl) ?_
                refine mg_11 X M dX2_lawFor_88 ?_
                refine lv_iload hx hb dX2_lawFor_91 (lv_at hl 6 rfl) ?_
                refine mr_11 X M (f := Rr 11) rfl (j := x.toNatClampNeg) (vp_or hb9 (by assumption) (by omega)) rfl dX2_lawFor_93 ?_
                refine lb_icmp_lt (tgt := 102) hx hb dX2_lawFor_94 (by decide) (fun c_10 c_10' => ?_) (fun c_10 c_10' => ?_)
                · -- c_10: Rr 11 i < Rr 11 x.toNatClampNeg
                  refine lv_iload hx hb dX2_lawFor_102 (lv_at hl 6 rfl) ?_
                  refine lv_istore (lv' := [(5, .int x), (7, .int 1), (0, .ref h), (1, .int p1), (2, .int p2), (3, .int p3), (4, .int p4), (6, .int (nI i))]) hx hb dX2_lawFor_104 hl (by decide) rfl (fun ls hl => ?_)
                  refine lv_iinc (v := nI (i + 1)) (lv' := [(6, .int (nI (i + 1))), (5, .int x), (7, .int 1), (0, .ref h), (1, .int p1), (2, .int p2), (3, .int p3), (4, .int p4)]) hx hb dX2_lawFor_106 hl (k := 7) rfl (mk_inc _) (by decide) rfl (fun ls hl => ?_)
                  refine lv_goto (tgt := 7) hx hb dX2_lawFor_109 (by decide) ?_
                  exact L_1ih  (i + 1) x (by omega) (by first | (rw [itr_s, ← qx]; done) | (rw [itr_s, ← qx]; first | (simp [m_lawStep, c_2, c_3, c_4, c_6, c_6', c_9, c_10, c_10', up_s, up_n, nI_1, b2i]; done) | (simp_all [m_lawStep]; done) | grind [m_lawStep])) (by omega) ls (lv_sub hl [3, 4, 5, 6, 7, 1, 0] rfl)
                · -- c_10: Rr 11 i ≥ Rr 11 x.toNatClampNeg
                  refine lv_iload hx hb dX2_lawFor_97 (lv_at hl 7 rfl) ?_
                  refine lv_goto (tgt := 104) hx hb dX2_lawFor_99 (by decide) ?_
                  refine lv_istore (lv' := [(5, .int (nI i)), (7, .int 1), (0, .ref h), (1, .int p1), (2, .int p2), (3, .int p3), (4, .int p4), (6, .int (nI i))]) hx hb dX2_lawFor_104 hl (by decide) rfl (fun ls hl => ?_)
                  refine lv_iinc (v := nI (i + 1)) (lv' := [(6, .int (nI (i + 1))), (5, .int (nI i)), (7, .int 1), (0, .ref h), (1, .int p1), (2, .int p2), (3, .int p3), (4, .int p4)]) hx hb dX2_lawFor_106 hl (k := 7) rfl (mk_inc _) (by decide) rfl (fun ls hl => ?_)
                  refine lv_goto (tgt := 7) hx hb dX2_lawFor_109 (by decide) ?_
                  exact L_1ih  (i + 1) (nI i) (by omega) (by first | (rw [itr_s, ← qx]; done) | (rw [itr_s, ← qx]; first | (simp [m_lawStep, c_2, c_3, c_4, c_6, c_6', c_9, c_10, c_10', up_s, up_n, nI_1, b2i]; done) | (simp_all [m_lawStep]; done) | grind [m_lawStep])) (by omega) ls (lv_sub hl [3, 4, 5, 6, 7, 1, 0] rfl)
        · -- c_3: Rr 12 i ≠ p2
          refine lv_aload_n hx hb dX2_lawFor_27 rfl (lv_at hl 0 rfl) ?_
          refine mg_12 X M dX2_lawFor_28 ?_
          refine lv_iload hx hb dX2_lawFor_31 (lv_at hl 6 rfl) ?_
          refine mr_12 X M (f := Rr 12) rfl (j := i) (vp_in_nI (by omega) (by omega)) (nI_clamp (by omega)) dX2_lawFor_33 ?_
          refine lv_iload_n hx hb dX2_lawFor_34 rfl (lv_at hl 3 rfl) ?_
          refine lv_icmp_ne (tgt := 65) hx hb dX2_lawFor_35 (by decide) (fun c_11 => ?_) (fun c_11 => ?_)
          · -- c_11: Rr 12 i ≠ p3
            refine lv_iconst (v := 0) hx hb dX2_lawFor_65 (by decide) ?_
            refine lv_istore (lv' := [(7, .int 0), (0, .ref h), (1, .int p1), (2, .int p2), (3, .int p3), (4, .int p4), (5, .int x), (6, .int (nI i))]) hx hb dX2_lawFor_66 hl (by decide) rfl (fun ls hl => ?_)
            refine lv_iload hx hb dX2_lawFor_68 (lv_at hl 0 rfl) ?_
            refine lv_if_eq (tgt := 102) hx hb dX2_lawFor_70 (by decide) (fun c_12 => ?_) (fun c_12 => absurd c_12 (by decide))
            refine lv_iload hx hb dX2_lawFor_102 (lv_at hl 6 rfl) ?_
            refine lv_istore (lv' := [(5, .int x), (7, .int 0), (0, .ref h), (1, .int p1), (2, .int p2), (3, .int p3), (4, .int p4), (6, .int (nI i))]) hx hb dX2_lawFor_104 hl (by decide) rfl (fun ls hl => ?_)
            refine lv_iinc (v := nI (i + 1)) (lv' := [(6, .int (nI (i + 1))), (5, .int x), (7, .int 0), (0, .ref h), (1, .int p1), (2, .int p2), (3, .int p3), (4, .int p4)]) hx hb dX2_lawFor_106 hl (k := 7) rfl (mk_inc _) (by decide) rfl (fun ls hl => ?_)
            refine lv_goto (tgt := 7) hx hb dX2_lawFor_109 (by decide) ?_
            exact L_1ih  (i + 1) x (by omega) (by first | (rw [itr_s, ← qx]; done) | (rw [itr_s, ← qx]; first | (simp [m_lawStep, c_2, c_3, c_11, up_s, up_n, nI_1, b2i]; done) | (simp_all [m_lawStep]; done) | grind [m_lawStep])) (by omega) ls (lv_sub hl [3, 4, 5, 6, 7, 1, 0] rfl)
          · -- c_11: Rr 12 i = p3
            refine lv_aload_n hx hb dX2_lawFor_38 rfl (lv_at hl 0 rfl) ?_
            refine mg_13 X M dX2_lawFor_39 ?_
            refine lv_iload hx hb dX2_lawFor_42 (lv_at hl 6 rfl) ?_
            refine mr_13 X M (f := Rr 13) rfl (j := i) (vp_in_nI (by omega) (by omega)) (nI_clamp (by omega)) dX2_lawFor_44 ?_
            refine lv_iload hx hb dX2_lawFor_45 (lv_at hl 4 rfl) ?_
            refine lv_icmp_ne (tgt := 65) hx hb dX2_lawFor_47 (by decide) (fun c_13 => ?_) (fun c_13 => ?_)
            · -- c_13: Rr 13 i ≠ p4
              refine lv_iconst (v := 0) hx hb dX2_lawFor_65 (by decide) ?_
              refine lv_istore (lv' := [(7, .int 0), (0, .ref h), (1, .int p1), (2, .int p2), (3, .int p3), (4, .int p4), (5, .int x), (6, .int (nI i))]) hx hb dX2_lawFor_66 hl (by decide) rfl (fun ls hl => ?_)
              refine lv_iload hx hb dX2_lawFor_68 (lv_at hl 0 rfl) ?_
              refine lv_if_eq (tgt := 102) hx hb dX2_lawFor_70 (by decide) (fun c_14 => ?_) (fun c_14 => absurd c_14 (by decide))
              refine lv_iload hx hb dX2_lawFor_102 (lv_at hl 6 rfl) ?_
              refine lv_istore (lv' := [(5, .int x), (7, .int 0), (0, .ref h), (1, .int p1), (2, .int p2), (3, .int p3), (4, .int p4), (6, .int (nI i))]) hx hb dX2_lawFor_104 hl (by decide) rfl (fun ls hl => ?_)
              refine lv_iinc (v := nI (i + 1)) (lv' := [(6, .int (nI (i + 1))), (5, .int x), (7, .int 0), (0, .ref h), (1, .int p1), (2, .int p2), (3, .int p3), (4, .int p4)]) hx hb dX2_lawFor_106 hl (k := 7) rfl (mk_inc _) (by decide) rfl (fun ls hl => ?_)
              refine lv_goto (tgt := 7) hx hb dX2_lawFor_109 (by decide) ?_
              exact L_1ih  (i + 1) x (by omega) (by first | (rw [itr_s, ← qx]; done) | (rw [itr_s, ← qx]; first | (simp [m_lawStep, c_2, c_3, c_11, c_13, up_s, up_n, nI_1, b2i]; done) | (simp_all [m_lawStep]; done) | grind [m_lawStep])) (by omega) ls (lv_sub hl [3, 4, 5, 6, 7, 1, 0] rfl)
            · -- c_13: Rr 13 i = p4
              refine lv_aload_n hx hb dX2_lawFor_50 rfl (lv_at hl 0 rfl) ?_
              refine mg_11 X M dX2_lawFor_51 ?_
              refine lv_iload hx hb dX2_lawFor_54 (lv_at hl 6 rfl) ?_
              refine mr_11 X M (f := Rr 11) rfl (j := i) (vp_in_nI (by omega) (by omega)) (nI_clamp (by omega)) dX2_lawFor_56 ?_
              refine lv_iload_n hx hb dX2_lawFor_57 rfl (lv_at hl 1 rfl) ?_
              refine lb_icmp_gt (tgt := 65) hx hb dX2_lawFor_58 (by decide) (fun c_15 c_15' => ?_) (fun c_15 c_15' => ?_)
              · -- c_15: Rr 11 i > p1
                refine lv_iconst (v := 0) hx hb dX2_lawFor_65 (by decide) ?_
                refine lv_istore (lv' := [(7, .int 0), (0, .ref h), (1, .int p1), (2, .int p2), (3, .int p3), (4, .int p4), (5, .int x), (6, .int (nI i))]) hx hb dX2_lawFor_66 hl (by decide) rfl (fun ls hl => ?_)
                refine lv_iload hx hb dX2_lawFor_68 (lv_at hl 0 rfl) ?_
                refine lv_if_eq (tgt := 102) hx hb dX2_lawFor_70 (by decide) (fun c_16 => ?_) (fun c_16 => absurd c_16 (by decide))
                refine lv_iload hx hb dX2_lawFor_102 (lv_at hl 6 rfl) ?_
                refine lv_istore (lv' := [(5, .int x), (7, .int 0), (0, .ref h), (1, .int p1), (2, .int p2), (3, .int p3), (4, .int p4), (6, .int (nI i))]) hx hb dX2_lawFor_104 hl (by decide) rfl (fun ls hl => ?_)
                refine lv_iinc (v := nI (i + 1)) (lv' := [(6, .int (nI (i + 1))), (5, .int x), (7, .int 0), (0, .ref h), (1, .int p1), (2, .int p2), (3, .int p3), (4, .int p4)]) hx hb dX2_lawFor_106 hl (k := 7) rfl (mk_inc _) (by decide) rfl (fun ls hl => ?_)
                refine lv_goto (tgt := 7) hx hb dX2_lawFor_109 (by decide) ?_
                exact L_1ih  (i + 1) x (by omega) (by first | (rw [itr_s, ← qx]; done) | (rw [itr_s, ← qx]; first | (simp [m_lawStep, c_2, c_3, c_11, c_13, c_15, c_15', up_s, up_n, nI_1, b2i]; done) | (simp_all [m_lawStep]; done) | grind [m_lawStep])) (by omega) ls (lv_sub hl [3, 4, 5, 6, 7, 1, 0] rfl)
              · -- c_15: Rr 11 i ≤ p1
                refine lv_iconst (v := 1) hx hb dX2_lawFor_61 (by decide) ?_
                refine lv_goto (tgt := 66) hx hb dX2_lawFor_62 (by decide) ?_
                refine lv_istore (lv' := [(7, .int 1), (0, .ref h), (1, .int p1), (2, .int p2), (3, .int p3), (4, .int p4), (5, .int x), (6, .int (nI i))]) hx hb dX2_lawFor_66 hl (by decide) rfl (fun ls hl => ?_)
                refine lv_iload hx hb dX2_lawFor_68 (lv_at hl 0 rfl) ?_
                refine lv_if_eq (tgt := 102) hx hb dX2_lawFor_70 (by decide) (fun c_17 => absurd c_17 (by decide)) (fun c_17 => ?_)
                refine lv_iload hx hb dX2_lawFor_73 (lv_at hl 6 rfl) ?_
                refine lv_ldc (v := (-1000000)) hx hb hown (hts _ q1430) dX2_lawFor_75 ?_
                refine lv_icmp_eq (tgt := 97) hx hb dX2_lawFor_77 (by decide) (fun c_18 => ?_) (fun c_18 => ?_)
                · -- c_18: x = (-1000000)
                  refine lv_iload hx hb dX2_lawFor_97 (lv_at hl 7 rfl) ?_
                  refine lv_goto (tgt := 104) hx hb dX2_lawFor_99 (by decide) ?_
                  refine lv_istore (lv' := [(5, .int (nI i)), (7, .int 1), (0, .ref h), (1, .int p1), (2, .int p2), (3, .int p3), (4, .int p4), (6, .int (nI i))]) hx hb dX2_lawFor_104 hl (by decide) rfl (fun ls hl => ?_)
                  refine lv_iinc (v := nI (i + 1)) (lv' := [(6, .int (nI (i + 1))), (5, .int (nI i)), (7, .int 1), (0, .ref h), (1, .int p1), (2, .int p2), (3, .int p3), (4, .int p4)]) hx hb dX2_lawFor_106 hl (k := 7) rfl (mk_inc _) (by decide) rfl (fun ls hl => ?_)
                  refine lv_goto (tgt := 7) hx hb dX2_lawFor_109 (by decide) ?_
                  exact L_1ih  (i + 1) (nI i) (by omega) (by first | (rw [itr_s, ← qx]; done) | (rw [itr_s, ← qx]; first | (simp [m_lawStep, c_2, c_3, c_11, c_13, c_15, c_15', c_18, up_s, up_n, nI_1, b2i]; done) | (simp_all [m_lawStep]; done) | grind [m_lawStep])) (by omega) ls (lv_sub hl [3, 4, 5, 6, 7, 1, 0] rfl)
                · -- c_18: x ≠ (-1000000)
                  refine lv_aload_n hx hb dX2_lawFor_80 rfl (lv_at hl 1 rfl) ?_
                  refine mg_11 X M dX2_lawFor_81 ?_
                  refine lv_iload hx hb dX2_lawFor_84 (lv_at hl 7 rfl) ?_
                  refine mr_11 X M (f := Rr 11) rfl (j := i) (vp_in_nI (by omega) (by omega)) (nI_clamp (by omega)) dX2_lawFor_86 ?_
                  refine lv_aload_n hx hb dX2_lawFor_87 rfl (lv_at hl 1 rfl) ?_
                  refine mg_11 X M dX2_lawFor_88 ?_
                  refine lv_iload hx hb dX2_lawFor_91 (lv_at hl 6 rfl) ?_
                  refine mr_11 X M (f := Rr 11) rfl (j := x.toNatClampNeg) (vp_or hb9 (by assumption) (by omega)) rfl dX2_lawFor_93 ?_
                  refine lb_icmp_lt (tgt := 102) hx hb dX2_lawFor_94 (by decide) (fun c_19 c_19' => ?_) (fun c_19 c_19' => ?_)
                  · -- c_19: Rr 11 i < Rr 11 x.toNatClampNeg
                    refine lv_iload hx hb dX2_lawFor_102 (lv_at hl 6 rfl) ?_
                    refine lv_istore (lv' := [(5, .int x), (7, .int 1), (0, .ref h), (1, .int p1), (2, .int p2), (3, .int p3), (4, .int p4), (6, .int (nI i))]) hx hb dX2_lawFor_104 hl (by decide) rfl (fun ls hl => ?_)
                    refine lv_iinc (v := nI (i + 1)) (lv' := [(6, .int (nI (i + 1))), (5, .int x), (7, .int 1), (0, .ref h), (1, .int p1), (2, .int p2), (3, .int p3), (4, .int p4)]) hx hb dX2_lawFor_106 hl (k := 7) rfl (mk_inc _) (by decide) rfl (fun ls hl => ?_)
                    refine lv_goto (tgt := 7) hx hb dX2_lawFor_109 (by decide) ?_
                    exact L_1ih  (i + 1) x (by omega) (by first | (rw [itr_s, ← qx]; done) | (rw [itr_s, ← qx]; first | (simp [m_lawStep, c_2, c_3, c_11, c_13, c_15, c_15', c_18, c_19, c_19', up_s, up_n, nI_1, b2i]; done) | (simp_all [m_lawStep]; done) | grind [m_lawStep])) (by omega) ls (lv_sub hl [3, 4, 5, 6, 7, 1, 0] rfl)
                  · -- c_19: Rr 11 i ≥ Rr 11 x.toNatClampNeg
                    refine lv_iload hx hb dX2_lawFor_97 (lv_at hl 7 rfl) ?_
                    refine lv_goto (tgt := 104) hx hb dX2_lawFor_99 (by decide) ?_
                    refine lv_istore (lv' := [(5, .int (nI i)), (7, .int 1), (0, .ref h), (1, .int p1), (2, .int p2), (3, .int p3), (4, .int p4), (6, .int (nI i))]) hx hb dX2_lawFor_104 hl (by decide) rfl (fun ls hl => ?_)
                    refine lv_iinc (v := nI (i + 1)) (lv' := [(6, .int (nI (i + 1))), (5, .int (nI i)), (7, .int 1), (0, .ref h), (1, .int p1), (2, .int p2), (3, .int p3), (4, .int p4)]) hx hb dX2_lawFor_106 hl (k := 7) rfl (mk_inc _) (by decide) rfl (fun ls hl => ?_)
                    refine lv_goto (tgt := 7) hx hb dX2_lawFor_109 (by decide) ?_
                    exact L_1ih  (i + 1) (nI i) (by omega) (by first | (rw [itr_s, ← qx]; done) | (rw [itr_s, ← qx]; first | (simp [m_lawStep, c_2, c_3, c_11, c_13, c_15, c_15', c_18, c_19, c_19', up_s, up_n, nI_1, b2i]; done) | (simp_all [m_lawStep]; done) | grind [m_lawStep])) (by omega) ls (lv_sub hl [3, 4, 5, 6, 7, 1, 0] rfl)
  exact L_1 ((n - 0) + 1) 0 (-1000000) (Nat.zero_le _) (by first | rfl | (simp only [itr]; assumption) | (simp [itr, up_s, up_n, nI_1, b2i]; done)) (Nat.lt_succ_self _) ls (lv_sub hl [2, 3, 4, 5, 6, 1, 0] rfl)

def m_numberFor (n : Int32) (Rr : Nat → Nat → Int32) (day what of : Int32) : Int32 := if m_lawFor n Rr day what what of = (-1000000) then 0 else Rr 14 (m_lawFor n Rr day what what of).toNatClampNeg
set_option maxHeartbeats 4000000 in
set_option maxRecDepth 100000 in
theorem metX2_numberFor (l : Launch) (D : va_G) (cl : List vw_C) (hcl : cl[0]? = some (RX2, TX2, 61)) (h : Nat) (ad : Nat → Nat) (dA : ClassId) (F : Nat → Int32) (Rr : Nat → Nat → Int32) (p1 : Int32) (p2 : Int32) (p3 : Int32) (h10 : cnB (F 10) 30) : Met l yX2_numberFor (ws_ yX2_numberFor cX2_numberFor 5 (some .int)) ({ frames := 1, cells := 0, slots := 0, locals := 27 } : Room) (va_Pc [.ref h, .int p1, .int p2, .int p3] (mPre D cl h ad dA F Rr)) (vp_Si (fun r => r = m_numberFor (F 10) Rr p1 p2 p3)) 0 0 (fun _ => False) := by
  refine Met.ofW (cc := cX2_numberFor) (maxL := 5) (ret := (some .int)) (by decide) rfl ?_
  intro p e s m args below meth c s₁ B hml hv
  obtain ⟨rfl, hK, hP, hD⟩ := hv
  have hx := B.exec
  have hb := B.bytes
  have hr := B.returns
  have hts := atoms_spec (ws := (ws_ yX2_numberFor cX2_numberFor 5 (some .int))) B.pre
  have hts : ∀ w ∈ lw_all, w.before _ s = true := fun w h => hts w (List.mem_cons_of_mem _ h)
  have hown : s.vm.findClass RX2 = some m.cls := findClass_of_methodNamed B.named
  have hlocks := B.notSynchronized
  have S : CallFix p m c cX2_numberFor 5 s ([.ref h, .int p1, .int p2, .int p3] : List Value).toArray lw_all RX2 := ⟨hx, hb, hml, hown, hts⟩
  have X : mX p s m ([.ref h, .int p1, .int p2, .int p3] : List Value).toArray c cX2_numberFor 5 D cl dA := ⟨hx, hb, hml, hown, hts, hK, hcl⟩
  have M : mM D cl h ad dA (mN h ad) s F Rr s.heap [] := ⟨hP, mW_self hD, va_S.rf⟩
  have hl := lv_entry ([.ref h, .int p1, .int p2, .int p3]) (n := 5) (Nat.le_of_ble_eq_true rfl)
  rw [lg_entry_eq]
  generalize (lg_sl ([.ref h, .int p1, .int p2, .int p3]) ++ List.replicate (5 - (lg_sl ([.ref h, .int p1, .int p2, .int p3])).length) Slot.unset).toArray = ls at hl ⊢
  have hl : lv_has ls 5 [(0, .ref h), (1, .int p1), (2, .int p2), (3, .int p3)] := hl
  refine lv_aload_n hx hb dX2_numberFor_0 rfl (lv_at hl 0 rfl) ?_
  refine lv_iload_n hx hb dX2_numberFor_1 rfl (lv_at hl 1 rfl) ?_
  refine lv_iload_n hx hb dX2_numberFor_2 rfl (lv_at hl 2 rfl) ?_
  refine lv_iload_n hx hb dX2_numberFor_3 rfl (lv_at hl 2 rfl) ?_
  refine lv_iload_n hx hb dX2_numberFor_4 rfl (lv_at hl 3 rfl) ?_
  refine m_cQ (v := m_lawFor (F 10) Rr p1 p2 p2 p3) (As := [.int p1, .int p2, .int p2, .int p3]) (rest := []) X M (metX2_lawFor l D cl hcl h ad dA F Rr p1 p2 p2 p3 h10) (cwV 4 hts (lw_V q1743 q1745 qs37 q62 q1746) rfl rfl rfl (by decide +kernel) ⟨Nat.le_of_ble_eq_true rfl, Nat.le_of_ble_eq_true rfl⟩) rfl hl.1 rfl (Nat.le_of_ble_eq_true rfl) dX2_numberFor_5 ⟨Nat.zero_le _, Nat.zero_le _⟩ ?_
  refine lv_istore (lv' := [(4, .int (m_lawFor (F 10) Rr p1 p2 p2 p3)), (0, .ref h), (1, .int p1), (2, .int p2), (3, .int p3)]) hx hb dX2_numberFor_8 hl (by decide) rfl (fun ls hl => ?_)
  refine lv_iload hx hb dX2_numberFor_10 (lv_at hl 0 rfl) ?_
  refine lv_ldc (v := (-1000000)) hx hb hown (hts _ q1430) dX2_numberFor_12 ?_
  refine lv_icmp_ne (tgt := 21) hx hb dX2_numberFor_14 (by decide) (fun c_1 => ?_) (fun c_1 => ?_)
  · -- c_1: m_lawFor (F 10) Rr p1 p2 p2 p3 ≠ (-1000000)
    refine lv_aload_n hx hb dX2_numberFor_21 rfl (lv_at hl 1 rfl) ?_
    refine mg_14 X M dX2_numberFor_22 ?_
    refine lv_iload hx hb dX2_numberFor_25 (lv_at hl 0 rfl) ?_
    refine mr_14 X M (f := Rr 14) rfl (j := (m_lawFor (F 10) Rr p1 p2 p2 p3).toNatClampNeg) (vp_or (m_lawFor_in h10) (by assumption) (by omega)) rfl dX2_numberFor_27 ?_
    exact W.iret (v := Rr 14 ((m_lawFor (F 10) Rr p1 p2 p2 p3).toNatClampNeg)) hx hb hr (fun t9 ht9 hW9 => ⟨_, rfl, (by first | (simp [m_numberFor, c_1, up_s, up_n, nI_1, b2i]; done) | (simp_all [m_numberFor]; done) | grind [m_numberFor]), ht9⟩) (fun _ h9 => by cases h9) dX2_numberFor_28
  · -- c_1: m_lawFor (F 10) Rr p1 p2 p2 p3 = (-1000000)
    refine lv_iconst (v := 0) hx hb dX2_numberFor_17 (by decide) ?_
    refine lv_goto (tgt := 28) hx hb dX2_numberFor_18 (by decide) ?_
    exact W.iret (v := 0) hx hb hr (fun t9 ht9 hW9 => ⟨_, rfl, (by first | (simp [m_numberFor, c_1, up_s, up_n, nI_1, b2i]; done) | (simp_all [m_numberFor]; done) | grind [m_numberFor]), ht9⟩) (fun _ h9 => by cases h9) dX2_numberFor_28

def m_isGood (n : Int32) (Rr : Nat → Nat → Int32) (town day : Int32) : Bool := decide (m_lawFor n Rr day 3 4 town = (-1000000)) || decide (Rr 12 (m_lawFor n Rr day 3 4 town).toNatClampNeg = 3)
def m_isBanned (n : Int32) (Rr : Nat → Nat → Int32) (person day : Int32) : Bool := !decide (m_lawFor n Rr day 5 6 person = (-1000000)) && decide (Rr 12 (m_lawFor n Rr day 5 6 person).toNatClampNeg = 5)
set_option maxHeartbeats 4000000 in
set_option maxRecDepth 100000 in
theorem metX2_isGood (l : Launch) (D : va_G) (cl : List vw_C) (hcl : cl[0]? = some (RX2, TX2, 61)) (h : Nat) (ad : Nat → Nat) (dA : ClassId) (F : Nat → Int32) (Rr : Nat → Nat → Int32) (p1 : Int32) (p2 : Int32) (h10 : cnB (F 10) 30) : Met l yX2_isGood (ws_ yX2_isGood cX2_isGood 4 (some .boolean)) ({ frames := 1, cells := 0, slots := 0, locals := 27 } : Room) (va_Pc [.ref h, .int p1, .int p2] (mPre D cl h ad dA F Rr)) (vp_Si (fun r => r = b2i (m_isGood (F 10) Rr p1 p2))) 0 0 (fun _ => False) := by
  refine Met.ofW (cc := cX2_isGood) (maxL := 4) (ret := (some .boolean)) (by decide) rfl ?_
  intro p e s m args below meth c s₁ B hml hv
  obtain ⟨rfl, hK, hP, hD⟩ := hv
  have hx := B.exec
  have hb := B.bytes
  have hr := B.returns
  have hts := atoms_spec (ws := (ws_ yX2_isGood cX2_isGood 4 (some .boolean))) B.pre
  have hts : ∀ w ∈ lw_all, w.before _ s = true := fun w h => hts w (List.mem_cons_of_mem _ h)
  have hown : s.vm.findClass RX2 = some m.cls := findClass_of_methodNamed B.named
  have hlocks := B.notSynchronized
  have S : CallFix p m c cX2_isGood 4 s ([.ref h, .int p1, .int p2] : List Value).toArray lw_all RX2 := ⟨hx, hb, hml, hown, hts⟩
  have X : mX p s m ([.ref h, .int p1, .int p2] : List Value).toArray c cX2_isGood 4 D cl dA := ⟨hx, hb, hml, hown, hts, hK, hcl⟩
  have M : mM D cl h ad dA (mN h ad) s F Rr s.heap [] := ⟨hP, mW_self hD, va_S.rf⟩
  have hl := lv_entry ([.ref h, .int p1, .int p2]) (n := 4) (Nat.le_of_ble_eq_true rfl)
  rw [lg_entry_eq]
  generalize (lg_sl ([.ref h, .int p1, .int p2]) ++ List.replicate (4 - (lg_sl ([.ref h, .int p1, .int p2])).length) Slot.unset).toArray = ls at hl ⊢
  have hl : lv_has ls 4 [(0, .ref h), (1, .int p1), (2, .int p2)] := hl
  refine lv_aload_n hx hb dX2_isGood_0 rfl (lv_at hl 0 rfl) ?_
  refine lv_iload_n hx hb dX2_isGood_1 rfl (lv_at hl 2 rfl) ?_
  refine lv_iconst (v := 3) hx hb dX2_isGood_2 (by decide) ?_
  refine lv_iconst (v := 4) hx hb dX2_isGood_3 (by decide) ?_
  refine lv_iload_n hx hb dX2_isGood_4 rfl (lv_at hl 1 rfl) ?_
  refine m_cQ (v := m_lawFor (F 10) Rr p2 3 4 p1) (As := [.int p2, .int 3, .int 4, .int p1]) (rest := []) X M (metX2_lawFor l D cl hcl h ad dA F Rr p2 3 4 p1 h10) (cwV 4 hts (lw_V q1743 q1745 qs37 q62 q1746) rfl rfl rfl (by decide +kernel) ⟨Nat.le_of_ble_eq_true rfl, Nat.le_of_ble_eq_true rfl⟩) rfl hl.1 rfl (Nat.le_of_ble_eq_true rfl) dX2_isGood_5 ⟨Nat.zero_le _, Nat.zero_le _⟩ ?_
  refine lv_istore_n (lv' := [(3, .int (m_lawFor (F 10) Rr p2 3 4 p1)), (0, .ref h), (1, .int p1), (2, .int p2)]) hx hb dX2_isGood_8 rfl hl (by decide) rfl (fun ls hl => ?_)
  refine lv_iload_n hx hb dX2_isGood_9 rfl (lv_at hl 0 rfl) ?_
  refine lv_ldc (v := (-1000000)) hx hb hown (hts _ q1430) dX2_isGood_10 ?_
  refine lv_icmp_eq (tgt := 25) hx hb dX2_isGood_12 (by decide) (fun c_1 => ?_) (fun c_1 => ?_)
  · -- c_1: m_lawFor (F 10) Rr p2 3 4 p1 = (-1000000)
    refine lv_iconst (v := 1) hx hb dX2_isGood_25 (by decide) ?_
    refine lv_goto (tgt := 30) hx hb dX2_isGood_26 (by decide) ?_
    exact W.zret (v := 1) hx hb hr rfl (fun t9 ht9 hW9 => ⟨_, rfl, (by first | (simp [m_isGood, b2i, c_1, up_s, up_n, nI_1, b2i]; done) | (simp_all [m_isGood, b2i]; done) | grind [m_isGood, b2i]), ht9⟩) (fun _ h9 => by cases h9) dX2_isGood_30
  · -- c_1: m_lawFor (F 10) Rr p2 3 4 p1 ≠ (-1000000)
    refine lv_aload_n hx hb dX2_isGood_15 rfl (lv_at hl 1 rfl) ?_
    refine mg_12 X M dX2_isGood_16 ?_
    refine lv_iload_n hx hb dX2_isGood_19 rfl (lv_at hl 0 rfl) ?_
    refine mr_12 X M (f := Rr 12) rfl (j := (m_lawFor (F 10) Rr p2 3 4 p1).toNatClampNeg) (vp_or (m_lawFor_in h10) (by assumption) (by omega)) rfl dX2_isGood_20 ?_
    refine lv_iconst (v := 3) hx hb dX2_isGood_21 (by decide) ?_
    refine lv_icmp_ne (tgt := 29) hx hb dX2_isGood_22 (by decide) (fun c_2 => ?_) (fun c_2 => ?_)
    · -- c_2: Rr 12 ((m_lawFor (F 10) Rr p2 3 4 p1).toNatClampNeg) ≠ 3
      refine lv_iconst (v := 0) hx hb dX2_isGood_29 (by decide) ?_
      exact W.zret (v := 0) hx hb hr rfl (fun t9 ht9 hW9 => ⟨_, rfl, (by first | (simp [m_isGood, b2i, c_1, c_2, up_s, up_n, nI_1, b2i]; done) | (simp_all [m_isGood, b2i]; done) | grind [m_isGood, b2i]), ht9⟩) (fun _ h9 => by cases h9) dX2_isGood_30
    · -- c_2: Rr 12 ((m_lawFor (F 10) Rr p2 3 4 p1).toNatClampNeg) = 3
      refine lv_iconst (v := 1) hx hb dX2_isGood_25 (by decide) ?_
      refine lv_goto (tgt := 30) hx hb dX2_isGood_26 (by decide) ?_
      exact W.zret (v := 1) hx hb hr rfl (fun t9 ht9 hW9 => ⟨_, rfl, (by first | (simp [m_isGood, b2i, c_1, c_2, up_s, up_n, nI_1, b2i]; done) | (simp_all [m_isGood, b2i]; done) | grind [m_isGood, b2i]), ht9⟩) (fun _ h9 => by cases h9) dX2_isGood_30

set_option maxHeartbeats 4000000 in
set_option maxRecDepth 100000 in
theorem metX2_isBanned (l : Launch) (D : va_G) (cl : List vw_C) (hcl : cl[0]? = some (RX2, TX2, 61)) (h : Nat) (ad : Nat → Nat) (dA : ClassId) (F : Nat → Int32) (Rr : Nat → Nat → Int32) (p1 : Int32) (p2 : Int32) (h10 : cnB (F 10) 30) : Met l yX2_isBanned (ws_ yX2_isBanned cX2_isBanned 4 (some .boolean)) ({ frames := 1, cells := 0, slots := 0, locals := 27 } : Room) (va_Pc [.ref h, .int p1, .int p2] (mPre D cl h ad dA F Rr)) (vp_Si (fun r => r = b2i (m_isBanned (F 10) Rr p1 p2))) 0 0 (fun _ => False) := by
  refine Met.ofW (cc := cX2_isBanned) (maxL := 4) (ret := (some .boolean)) (by decide) rfl ?_
  intro p e s m args below meth c s₁ B hml hv
  obtain ⟨rfl, hK, hP, hD⟩ := hv
  have hx := B.exec
  have hb := B.bytes
  have hr := B.returns
  have hts := atoms_spec (ws := (ws_ yX2_isBanned cX2_isBanned 4 (some .boolean))) B.pre
  have hts : ∀ w ∈ lw_all, w.before _ s = true := fun w h => hts w (List.mem_cons_of_mem _ h)
  have hown : s.vm.findClass RX2 = some m.cls := findClass_of_methodNamed B.named
  have hlocks := B.notSynchronized
  have S : CallFix p m c cX2_isBanned 4 s ([.ref h, .int p1, .int p2] : List Value).toArray lw_all RX2 := ⟨hx, hb, hml, hown, hts⟩
  have X : mX p s m ([.ref h, .int p1, .int p2] : List Value).toArray c cX2_isBanned 4 D cl dA := ⟨hx, hb, hml, hown, hts, hK, hcl⟩
  have M : mM D cl h ad dA (mN h ad) s F Rr s.heap [] := ⟨hP, mW_self hD, va_S.rf⟩
  have hl := lv_entry ([.ref h, .int p1, .int p2]) (n := 4) (Nat.le_of_ble_eq_true rfl)
  rw [lg_entry_eq]
  generalize (lg_sl ([.ref h, .int p1, .int p2]) ++ List.replicate (4 - (lg_sl ([.ref h, .int p1, .int p2])).length) Slot.unset).toArray = ls at hl ⊢
  have hl : lv_has ls 4 [(0, .ref h), (1, .int p1), (2, .int p2)] := hl
  refine lv_aload_n hx hb dX2_isBanned_0 rfl (lv_at hl 0 rfl) ?_
  refine lv_iload_n hx hb dX2_isBanned_1 rfl (lv_at hl 2 rfl) ?_
  refine lv_iconst (v := 5) hx hb dX2_isBanned_2 (by decide) ?_
  refine lv_bipush (v := 6) hx hb dX2_isBanned_3 (by decide) ?_
  refine lv_iload_n hx hb dX2_isBanned_5 rfl (lv_at hl 1 rfl) ?_
  refine m_cQ (v := m_lawFor (F 10) Rr p2 5 6 p1) (As := [.int p2, .int 5, .int 6, .int p1]) (rest := []) X M (metX2_lawFor l D cl hcl h ad dA F Rr p2 5 6 p1 h10) (cwV 4 hts (lw_V q1743 q1745 qs37 q62 q1746) rfl rfl rfl (by decide +kernel) ⟨Nat.le_of_ble_eq_true rfl, Nat.le_of_ble_eq_true rfl⟩) rfl hl.1 rfl (Nat.le_of_ble_eq_true rfl) dX2_isBanned_6 ⟨Nat.zero_le _, Nat.zero_le _⟩ ?_
  refine lv_istore_n (lv' := [(3, .int (m_lawFor (F 10) Rr p2 5 6 p1)), (0, .ref h), (1, .int p1), (2, .int p2)]) hx hb dX2_isBanned_9 rfl hl (by decide) rfl (fun ls hl => ?_)
  refine lv_iload_n hx hb dX2_isBanned_10 rfl (lv_at hl 0 rfl) ?_
  refine lv_ldc (v := (-1000000)) hx hb hown (hts _ q1430) dX2_isBanned_11 ?_
  refine lv_icmp_eq (tgt := 30) hx hb dX2_isBanned_13 (by decide) (fun c_1 => ?_) (fun c_1 => ?_)
  · -- c_1: m_lawFor (F 10) Rr p2 5 6 p1 = (-1000000)
    refine lv_iconst (v := 0) hx hb dX2_isBanned_30 (by decide) ?_
    exact W.zret (v := 0) hx hb hr rfl (fun t9 ht9 hW9 => ⟨_, rfl, (by first | (simp [m_isBanned, b2i, c_1, up_s, up_n, nI_1, b2i]; done) | (simp_all [m_isBanned, b2i]; done) | grind [m_isBanned, b2i]), ht9⟩) (fun _ h9 => by cases h9) dX2_isBanned_31
  · -- c_1: m_lawFor (F 10) Rr p2 5 6 p1 ≠ (-1000000)
    refine lv_aload_n hx hb dX2_isBanned_16 rfl (lv_at hl 1 rfl) ?_
    refine mg_12 X M dX2_isBanned_17 ?_
    refine lv_iload_n hx hb dX2_isBanned_20 rfl (lv_at hl 0 rfl) ?_
    refine mr_12 X M (f := Rr 12) rfl (j := (m_lawFor (F 10) Rr p2 5 6 p1).toNatClampNeg) (vp_or (m_lawFor_in h10) (by assumption) (by omega)) rfl dX2_isBanned_21 ?_
    refine lv_iconst (v := 5) hx hb dX2_isBanned_22 (by decide) ?_
    refine lv_icmp_ne (tgt := 30) hx hb dX2_isBanned_23 (by decide) (fun c_2 => ?_) (fun c_2 => ?_)
    · -- c_2: Rr 12 ((m_lawFor (F 10) Rr p2 5 6 p1).toNatClampNeg) ≠ 5
      refine lv_iconst (v := 0) hx hb dX2_isBanned_30 (by decide) ?_
      exact W.zret (v := 0) hx hb hr rfl (fun t9 ht9 hW9 => ⟨_, rfl, (by first | (simp [m_isBanned, b2i, c_1, c_2, up_s, up_n, nI_1, b2i]; done) | (simp_all [m_isBanned, b2i]; done) | grind [m_isBanned, b2i]), ht9⟩) (fun _ h9 => by cases h9) dX2_isBanned_31
    · -- c_2: Rr 12 ((m_lawFor (F 10) Rr p2 5 6 p1).toNatClampNeg) = 5
      refine lv_iconst (v := 1) hx hb dX2_isBanned_26 (by decide) ?_
      refine lv_goto (tgt := 31) hx hb dX2_isBanned_27 (by decide) ?_
      exact W.zret (v := 1) hx hb hr rfl (fun t9 ht9 hW9 => ⟨_, rfl, (by first | (simp [m_isBanned, b2i, c_1, c_2, up_s, up_n, nI_1, b2i]; done) | (simp_all [m_isBanned, b2i]; done) | grind [m_isBanned, b2i]), ht9⟩) (fun _ h9 => by cases h9) dX2_isBanned_31

def m_holds (F : Nat → Int32) (Rr : Nat → Nat → Int32) (day what : Int32) : Int32 := if inB 0 999 day = false then (-1000001) else if what = 0 then m_numberFor (F 10) Rr day 0 0 else if inB 10 17 what = true then m_numberFor (F 10) Rr day 1 (what - 10) else if inB 20 27 what = true then m_numberFor (F 10) Rr day 2 (what - 20) else if inB 30 37 what = true then b2i (m_isGood (F 10) Rr (what - 30) day) else if inB 40 51 what = true then b2i (m_isBanned (F 10) Rr (what - 40) day) else (-1000001)
set_option maxHeartbeats 4000000 in
set_option maxRecDepth 100000 in
theorem metX2_holds (l : Launch) (D : va_G) (cl : List vw_C) (hcl : cl[0]? = some (RX2, TX2, 61)) (h : Nat) (ad : Nat → Nat) (dA : ClassId) (F : Nat → Int32) (Rr : Nat → Nat → Int32) (p1 : Int32) (p2 : Int32) (h10 : cnB (F 10) 30) : Met l yX2_holds (ws_ yX2_holds cX2_holds 3 (some .int)) ({ frames := 2, cells := 0, slots := 0, locals := 51 } : Room) (va_Pc [.ref h, .int p1, .int p2] (mPre D cl h ad dA F Rr)) (va_Qi (fun r u => (r, u) = (m_holds F Rr p1 p2, va_up F 0 0, Rr)) (mB D cl h ad dA) (mN h ad)) 0 0 (mN h ad) := by
  refine Met.ofW (cc := cX2_holds) (maxL := 3) (ret := (some .int)) (by decide) rfl ?_
  intro p e s m args below meth c s₁ B hml hv
  obtain ⟨rfl, hK, hP, hD⟩ := hv
  have hx := B.exec
  have hb := B.bytes
  have hr := B.returns
  have hts := atoms_spec (ws := (ws_ yX2_holds cX2_holds 3 (some .int))) B.pre
  have hts : ∀ w ∈ lw_all, w.before _ s = true := fun w h => hts w (List.mem_cons_of_mem _ h)
  have hown : s.vm.findClass RX2 = some m.cls := findClass_of_methodNamed B.named
  have hlocks := B.notSynchronized
  have S : CallFix p m c cX2_holds 3 s ([.ref h, .int p1, .int p2] : List Value).toArray lw_all RX2 := ⟨hx, hb, hml, hown, hts⟩
  have X : mX p s m ([.ref h, .int p1, .int p2] : List Value).toArray c cX2_holds 3 D cl dA := ⟨hx, hb, hml, hown, hts, hK, hcl⟩
  have M : mM D cl h ad dA (mN h ad) s F Rr s.heap [] := ⟨hP, mW_self hD, va_S.rf⟩
  have hl := lv_entry ([.ref h, .int p1, .int p2]) (n := 3) (Nat.le_of_ble_eq_true rfl)
  rw [lg_entry_eq]
  generalize (lg_sl ([.ref h, .int p1, .int p2]) ++ List.replicate (3 - (lg_sl ([.ref h, .int p1, .int p2])).length) Slot.unset).toArray = ls at hl ⊢
  have hl : lv_has ls 3 [(0, .ref h), (1, .int p1), (2, .int p2)] := hl
  refine lv_aload_n hx hb dX2_holds_0 rfl (lv_at hl 0 rfl) ?_
  refine lv_iconst (v := 0) hx hb dX2_holds_1 (by decide) ?_
  refine mp_0 X M dX2_holds_2 (fun H locs M => ?_)
  refine lv_iload_n hx hb dX2_holds_5 rfl (lv_at hl 1 rfl) ?_
  refine s_cI (v := b2i (inB 0 999 p1)) (As := [.int p1]) (rest := []) S (metX2_isDay l p1) (va_cwS 1 hts (lw_S q1736 q1737 q62 q1738) rfl rfl rfl (by decide +kernel) ⟨Nat.le_of_ble_eq_true rfl, Nat.le_of_ble_eq_true rfl⟩) rfl hl.1 rfl (Nat.le_of_ble_eq_true rfl) dX2_holds_6 ⟨Nat.zero_le _, Nat.zero_le _⟩ ?_
  refine lz_if_ne (tgt := 15) hx hb dX2_holds_9 (by decide) (fun c_1 => ?_) (fun c_1 => ?_)
  · -- c_1: inB 0 999 p1 = true
    refine lv_iload_n hx hb dX2_holds_15 rfl (lv_at hl 2 rfl) ?_
    refine lv_if_ne (tgt := 29) hx hb dX2_holds_16 (by decide) (fun c_2 => ?_) (fun c_2 => ?_)
    · -- c_2: p2 ≠ 0
      refine lv_iload_n hx hb dX2_holds_29 rfl (lv_at hl 2 rfl) ?_
      refine lv_i2l (v := p2.toInt64) hx hb dX2_holds_30 rfl ?_
      refine lv_ldc2 (v := 10) hx hb hown (hts _ q1747) dX2_holds_31 ?_
      refine lv_ldc2 (v := 17) hx hb hown (hts _ q1748) dX2_holds_34 ?_
      refine s_cI (v := b2i (inB 10 17 p2)) (As := [.long p2.toInt64, .long 10, .long 17]) (rest := []) S (metX2_inI l p2 10 17 p2.toInt64 10 17 rfl rfl rfl) (va_cwS 3 hts (lw_S q1623 q1624 q62 q1625) rfl rfl rfl (by decide +kernel) ⟨Nat.le_of_ble_eq_true rfl, Nat.le_of_ble_eq_true rfl⟩) rfl hl.1 rfl (Nat.le_of_ble_eq_true rfl) dX2_holds_37 ⟨Nat.zero_le _, Nat.zero_le _⟩ ?_
      refine lz_if_eq (tgt := 56) hx hb dX2_holds_40 (by decide) (fun c_3 => ?_) (fun c_3 => ?_)
      · -- c_3: inB 10 17 p2 = false
        refine lv_iload_n hx hb dX2_holds_56 rfl (lv_at hl 2 rfl) ?_
        refine lv_i2l (v := p2.toInt64) hx hb dX2_holds_57 rfl ?_
        refine lv_ldc2 (v := 20) hx hb hown (hts _ q1749) dX2_holds_58 ?_
        refine lv_ldc2 (v := 27) hx hb hown (hts _ q1750) dX2_holds_61 ?_
        refine s_cI (v := b2i (inB 20 27 p2)) (As := [.long p2.toInt64, .long 20, .long 27]) (rest := []) S (metX2_inI l p2 20 27 p2.toInt64 20 27 rfl rfl rfl) (va_cwS 3 hts (lw_S q1623 q1624 q62 q1625) rfl rfl rfl (by decide +kernel) ⟨Nat.le_of_ble_eq_true rfl, Nat.le_of_ble_eq_true rfl⟩) rfl hl.1 rfl (Nat.le_of_ble_eq_true rfl) dX2_holds_64 ⟨Nat.zero_le _, Nat.zero_le _⟩ ?_
        refine lz_if_eq (tgt := 83) hx hb dX2_holds_67 (by decide) (fun c_4 => ?_) (fun c_4 => ?_)
        · -- c_4: inB 20 27 p2 = false
          refine lv_iload_n hx hb dX2_holds_83 rfl (lv_at hl 2 rfl) ?_
          refine lv_i2l (v := p2.toInt64) hx hb dX2_holds_84 rfl ?_
          refine lv_ldc2 (v := 30) hx hb hown (hts _ q1751) dX2_holds_85 ?_
          refine lv_ldc2 (v := 37) hx hb hown (hts _ q1752) dX2_holds_88 ?_
          refine s_cI (v := b2i (inB 30 37 p2)) (As := [.long p2.toInt64, .long 30, .long 37]) (rest := []) S (metX2_inI l p2 30 37 p2.toInt64 30 37 rfl rfl rfl) (va_cwS 3 hts (lw_S q1623 q1624 q62 q1625) rfl rfl rfl (by decide +kernel) ⟨Nat.le_of_ble_eq_true rfl, Nat.le_of_ble_eq_true rfl⟩) rfl hl.1 rfl (Nat.le_of_ble_eq_true rfl) dX2_holds_91 ⟨Nat.zero_le _, Nat.zero_le _⟩ ?_
          refine lz_if_eq (tgt := 117) hx hb dX2_holds_94 (by decide) (fun c_5 => ?_) (fun c_5 => ?_)
          · -- c_5: inB 30 37 p2 = false
            refine lv_iload_n hx hb dX2_holds_117 rfl (lv_at hl 2 rfl) ?_
            refine lv_i2l (v := p2.toInt64) hx hb dX2_holds_118 rfl ?_
            refine lv_ldc2 (v := 40) hx hb hown (hts _ q1757) dX2_holds_119 ?_
            refine lv_ldc2 (v := 51) hx hb hown (hts _ q1758) dX2_holds_122 ?_
            refine s_cI (v := b2i (inB 40 51 p2)) (As := [.long p2.toInt64, .long 40, .long 51]) (rest := []) S (metX2_inI l p2 40 51 p2.toInt64 40 51 rfl rfl rfl) (va_cwS 3 hts (lw_S q1623 q1624 q62 q1625) rfl rfl rfl (by decide +kernel) ⟨Nat.le_of_ble_eq_true rfl, Nat.le_of_ble_eq_true rfl⟩) rfl hl.1 rfl (Nat.le_of_ble_eq_true rfl) dX2_holds_125 ⟨Nat.zero_le _, Nat.zero_le _⟩ ?_
            refine lz_if_eq (tgt := 151) hx hb dX2_holds_128 (by decide) (fun c_6 => ?_) (fun c_6 => ?_)
            · -- c_6: inB 40 51 p2 = false
              refine lv_ldc (v := (-1000001)) hx hb hown (hts _ q1627) dX2_holds_151 ?_
              exact W.iret (v := (-1000001)) hx hb hr (fun t9 ht9 hW9 => ⟨⟨_, (va_up F 0 0, Rr), rfl, (by first | (simp [m_holds, b2i, c_1, c_2, c_3, c_4, c_5, c_6, up_s, up_n, nI_1, b2i]; done) | (simp_all [m_holds, b2i]; done) | grind [m_holds, b2i]), by show va_P _ _ _ t9.heap; rw [ht9]; exact M.1⟩, M.2.2.F ht9⟩) M.2.2.2.2 dX2_holds_153
            · -- c_6: inB 40 51 p2 = true
              refine lv_aload_n hx hb dX2_holds_131 rfl (lv_at hl 0 rfl) ?_
              refine lv_iload_n hx hb dX2_holds_132 rfl (lv_at hl 2 rfl) ?_
              refine lv_bipush (v := 40) hx hb dX2_holds_133 (by decide) ?_
              refine lv_isub hx hb dX2_holds_135 ?_
              refine lv_iload_n hx hb dX2_holds_136 rfl (lv_at hl 1 rfl) ?_
              refine m_cQ (v := b2i (m_isBanned (F 10) Rr (p2 - 40) p1)) (As := [.int (p2 - 40), .int p1]) (rest := []) X M (metX2_isBanned l D cl hcl h ad dA (va_up F 0 0) Rr (p2 - 40) p1 h10) (cwV 2 hts (lw_V q1759 q1761 qs39 q62 q1762) rfl rfl rfl (by decide +kernel) ⟨Nat.le_of_ble_eq_true rfl, Nat.le_of_ble_eq_true rfl⟩) rfl hl.1 rfl (Nat.le_of_ble_eq_true rfl) dX2_holds_137 ⟨Nat.zero_le _, Nat.zero_le _⟩ ?_
              refine lz_if_eq (tgt := 147) hx hb dX2_holds_140 (by decide) (fun c_7 => ?_) (fun c_7 => ?_)
              · -- c_7: m_isBanned (F 10) Rr (p2 - 40) p1 = false
                refine lv_iconst (v := 0) hx hb dX2_holds_147 (by decide) ?_
                refine lv_goto (tgt := 153) hx hb dX2_holds_148 (by decide) ?_
                exact W.iret (v := 0) hx hb hr (fun t9 ht9 hW9 => ⟨⟨_, (va_up F 0 0, Rr), rfl, (by first | (simp [m_holds, b2i, c_1, c_2, c_3, c_4, c_5, c_6, c_7, up_s, up_n, nI_1, b2i]; done) | (simp_all [m_holds, b2i]; done) | grind [m_holds, b2i]), by show va_P _ _ _ t9.heap; rw [ht9]; exact M.1⟩, M.2.2.F ht9⟩) M.2.2.2.2 dX2_holds_153
              · -- c_7: m_isBanned (F 10) Rr (p2 - 40) p1 = true
                refine lv_iconst (v := 1) hx hb dX2_holds_143 (by decide) ?_
                refine lv_goto (tgt := 153) hx hb dX2_holds_144 (by decide) ?_
                exact W.iret (v := 1) hx hb hr (fun t9 ht9 hW9 => ⟨⟨_, (va_up F 0 0, Rr), rfl, (by first | (simp [m_holds, b2i, c_1, c_2, c_3, c_4, c_5, c_6, c_7, up_s, up_n, nI_1, b2i]; done) | (simp_all [m_holds, b2i]; done) | grind [m_holds, b2i]), by show va_P _ _ _ t9.heap; rw [ht9]; exact M.1⟩, M.2.2.F ht9⟩) M.2.2.2.2 dX2_holds_153
          · -- c_5: inB 30 37 p2 = true
            refine lv_aload_n hx hb dX2_holds_97 rfl (lv_at hl 0 rfl) ?_
            refine lv_iload_n hx hb dX2_holds_98 rfl (lv_at hl 2 rfl) ?_
            refine lv_bipush (v := 30) hx hb dX2_holds_99 (by decide) ?_
            refine lv_isub hx hb dX2_holds_101 ?_
            refine lv_iload_n hx hb dX2_holds_102 rfl (lv_at hl 1 rfl) ?_
            refine m_cQ (v := b2i (m_isGood (F 10) Rr (p2 - 30) p1)) (As := [.int (p2 - 30), .int p1]) (rest := []) X M (metX2_isGood l D cl hcl h ad dA (va_up F 0 0) Rr (p2 - 30) p1 h10) (cwV 2 hts (lw_V q1753 q1755 qs38 q62 q1756) rfl rfl rfl (by decide +kernel) ⟨Nat.le_of_ble_eq_true rfl, Nat.le_of_ble_eq_true rfl⟩) rfl hl.1 rfl (Nat.le_of_ble_eq_true rfl) dX2_holds_103 ⟨Nat.zero_le _, Nat.zero_le _⟩ ?_
            refine lz_if_eq (tgt := 113) hx hb dX2_holds_106 (by decide) (fun c_8 => ?_) (fun c_8 => ?_)
            · -- c_8: m_isGood (F 10) Rr (p2 - 30) p1 = false
              refine lv_iconst (v := 0) hx hb dX2_holds_113 (by decide) ?_
              refine lv_goto (tgt := 153) hx hb dX2_holds_114 (by decide) ?_
              exact W.iret (v := 0) hx hb hr (fun t9 ht9 hW9 => ⟨⟨_, (va_up F 0 0, Rr), rfl, (by first | (simp [m_holds, b2i, c_1, c_2, c_3, c_4, c_5, c_8, up_s, up_n, nI_1, b2i]; done) | (simp_all [m_holds, b2i]; done) | grind [m_holds, b2i]), by show va_P _ _ _ t9.heap; rw [ht9]; exact M.1⟩, M.2.2.F ht9⟩) M.2.2.2.2 dX2_holds_153
            · -- c_8: m_isGood (F 10) Rr (p2 - 30) p1 = true
              refine lv_iconst (v := 1) hx hb dX2_holds_109 (by decide) ?_
              refine lv_goto (tgt := 153) hx hb dX2_holds_110 (by decide) ?_
              exact W.iret (v := 1) hx hb hr (fun t9 ht9 hW9 => ⟨⟨_, (va_up F 0 0, Rr), rfl, (by first | (simp [m_holds, b2i, c_1, c_2, c_3, c_4, c_5, c_8, up_s, up_n, nI_1, b2i]; done) | (simp_all [m_holds, b2i]; done) | grind [m_holds, b2i]), by show va_P _ _ _ t9.heap; rw [ht9]; exact M.1⟩, M.2.2.F ht9⟩) M.2.2.2.2 dX2_holds_153
        · -- c_4: inB 20 27 p2 = true
          refine lv_aload_n hx hb dX2_holds_70 rfl (lv_at hl 0 rfl) ?_
          refine lv_iload_n hx hb dX2_holds_71 rfl (lv_at hl 1 rfl) ?_
          refine lv_iconst (v := 2) hx hb dX2_holds_72 (by decide) ?_
          refine lv_iload_n hx hb dX2_holds_73 rfl (lv_at hl 2 rfl) ?_
          refine lv_bipush (v := 20) hx hb dX2_holds_74 (by decide) ?_
          refine lv_isub hx hb dX2_holds_76 ?_
          refine m_cQ (v := m_numberFor (F 10) Rr p1 2 (p2 - 20)) (As := [.int p1, .int 2, .int (p2 - 20)]) (rest := []) X M (metX2_numberFor l D cl hcl h ad dA (va_up F 0 0) Rr p1 2 (p2 - 20) h10) (cwV 3 hts (lw_V q1739 q1741 qs36 q62 q1742) rfl rfl rfl (by decide +kernel) ⟨Nat.le_of_ble_eq_true rfl, Nat.le_of_ble_eq_true rfl⟩) rfl hl.1 rfl (Nat.le_of_ble_eq_true rfl) dX2_holds_77 ⟨Nat.zero_le _, Nat.zero_le _⟩ ?_
          refine lv_goto (tgt := 153) hx hb dX2_holds_80 (by decide) ?_
          exact W.iret (v := m_numberFor (F 10) Rr p1 2 (p2 - 20)) hx hb hr (fun t9 ht9 hW9 => ⟨⟨_, (va_up F 0 0, Rr), rfl, (by first | (simp [m_holds, b2i, c_1, c_2, c_3, c_4, up_s, up_n, nI_1, b2i]; done) | (simp_all [m_holds, b2i]; done) | grind [m_holds, b2i]), by show va_P _ _ _ t9.heap; rw [ht9]; exact M.1⟩, M.2.2.F ht9⟩) M.2.2.2.2 dX2_holds_153
      · -- c_3: inB 10 17 p2 = true
        refine lv_aload_n hx hb dX2_holds_43 rfl (lv_at hl 0 rfl) ?_
        refine lv_iload_n hx hb dX2_holds_44 rfl (lv_at hl 1 rfl) ?_
        refine lv_iconst (v := 1) hx hb dX2_holds_45 (by decide) ?_
        refine lv_iload_n hx hb dX2_holds_46 rfl (lv_at hl 2 rfl) ?_
        refine lv_bipush (v := 10) hx hb dX2_holds_47 (by decide) ?_
        refine lv_isub hx hb dX2_holds_49 ?_
        refine m_cQ (v := m_numberFor (F 10) Rr p1 1 (p2 - 10)) (As := [.int p1, .int 1, .int (p2 - 10)]) (rest := []) X M (metX2_numberFor l D cl hcl h ad dA (va_up F 0 0) Rr p1 1 (p2 - 10) h10) (cwV 3 hts (lw_V q1739 q1741 qs36 q62 q1742) rfl rfl rfl (by decide +kernel) ⟨Nat.le_of_ble_eq_true rfl, Nat.le_of_ble_eq_true rfl⟩) rfl hl.1 rfl (Nat.le_of_ble_eq_true rfl) dX2_holds_50 ⟨Nat.zero_le _, Nat.zero_le _⟩ ?_
        refine lv_goto (tgt := 153) hx hb dX2_holds_53 (by decide) ?_
        exact W.iret (v := m_numberFor (F 10) Rr p1 1 (p2 - 10)) hx hb hr (fun t9 ht9 hW9 => ⟨⟨_, (va_up F 0 0, Rr), rfl, (by first | (simp [m_holds, b2i, c_1, c_2, c_3, up_s, up_n, nI_1, b2i]; done) | (simp_all [m_holds, b2i]; done) | grind [m_holds, b2i]), by show va_P _ _ _ t9.heap; rw [ht9]; exact M.1⟩, M.2.2.F ht9⟩) M.2.2.2.2 dX2_holds_153
    · -- c_2: p2 = 0
      refine lv_aload_n hx hb dX2_holds_19 rfl (lv_at hl 0 rfl) ?_
      refine lv_iload_n hx hb dX2_holds_20 rfl (lv_at hl 1 rfl) ?_
      refine lv_iconst (v := 0) hx hb dX2_holds_21 (by decide) ?_
      refine lv_iconst (v := 0) hx hb dX2_holds_22 (by decide) ?_
      refine m_cQ (v := m_numberFor (F 10) Rr p1 0 0) (As := [.int p1, .int 0, .int 0]) (rest := []) X M (metX2_numberFor l D cl hcl h ad dA (va_up F 0 0) Rr p1 0 0 h10) (cwV 3 hts (lw_V q1739 q1741 qs36 q62 q1742) rfl rfl rfl (by decide +kernel) ⟨Nat.le_of_ble_eq_true rfl, Nat.le_of_ble_eq_true rfl⟩) rfl hl.1 rfl (Nat.le_of_ble_eq_true rfl) dX2_holds_23 ⟨Nat.zero_le _, Nat.zero_le _⟩ ?_
      refine lv_goto (tgt := 153) hx hb dX2_holds_26 (by decide) ?_
      exact W.iret (v := m_numberFor (F 10) Rr p1 0 0) hx hb hr (fun t9 ht9 hW9 => ⟨⟨_, (va_up F 0 0, Rr), rfl, (by first | (simp [m_holds, b2i, c_1, c_2, up_s, up_n, nI_1, b2i]; done) | (simp_all [m_holds, b2i]; done) | grind [m_holds, b2i]), by show va_P _ _ _ t9.heap; rw [ht9]; exact M.1⟩, M.2.2.F ht9⟩) M.2.2.2.2 dX2_holds_153
  · -- c_1: inB 0 999 p1 = false
    refine lv_ldc (v := (-1000001)) hx hb hown (hts _ q1627) dX2_holds_12 ?_
    exact W.iret (v := (-1000001)) hx hb hr (fun t9 ht9 hW9 => ⟨⟨_, (va_up F 0 0, Rr), rfl, (by first | (simp [m_holds, b2i, c_1, up_s, up_n, nI_1, b2i]; done) | (simp_all [m_holds, b2i]; done) | grind [m_holds, b2i]), by show va_P _ _ _ t9.heap; rw [ht9]; exact M.1⟩, M.2.2.F ht9⟩) M.2.2.2.2 dX2_holds_14

def m_lookItems (F : Nat → Int32) (Rr : Nat → Nat → Int32) (s i n : Int32) : Int32 × mST := if Rr 2 s.toNatClampNeg < 0 then m_finding F Rr 1 else if i < 0 ∨ (Rr 3 s.toNatClampNeg).toInt64 < i.toInt64 + n.toInt64 then m_finding F Rr 2 else (0, F, Rr)
set_option maxHeartbeats 4000000 in
set_option maxRecDepth 100000 in
theorem metX2_lookItems (l : Launch) (D : va_G) (cl : List vw_C) (hcl : cl[0]? = some (RX2, TX2, 61)) (h : Nat) (ad : Nat → Nat) (dA : ClassId) (F : Nat → Int32) (Rr : Nat → Nat → Int32) (p1 : Int32) (p2 : Int32) (p3 : Int32) (hs : vp_in p1 8) : Met l yX2_lookItems (ws_ yX2_lookItems cX2_lookItems 4 (some .int)) ({ frames := 1, cells := 0, slots := 0, locals := 21 } : Room) (va_Pc [.ref h, .int p1, .int p2, .int p3] (mPre D cl h ad dA F Rr)) (va_Qi (fun r u => (r, u) = m_lookItems F Rr p1 p2 p3) (mB D cl h ad dA) (mN h ad)) 0 0 (mN h ad) := by
  refine Met.ofW (cc := cX2_lookItems) (maxL := 4) (ret := (some .int)) (by decide) rfl ?_
  intro p e s m args below meth c s₁ B hml hv
  obtain ⟨rfl, hK, hP, hD⟩ := hv
  have hx := B.exec
  have hb := B.bytes
  have hr := B.returns
  have hts := atoms_spec (ws := (ws_ yX2_lookItems cX2_lookItems 4 (some .int))) B.pre
  have hts : ∀ w ∈ lw_all, w.before _ s = true := fun w h => hts w (List.mem_cons_of_mem _ h)
  have hown : s.vm.findClass RX2 = some m.cls := findClass_of_methodNamed B.named
  have hlocks := B.notSynchronized
  have S : CallFix p m c cX2_lookItems 4 s ([.ref h, .int p1, .int p2, .int p3] : List Value).toArray lw_all RX2 := ⟨hx, hb, hml, hown, hts⟩
  have X : mX p s m ([.ref h, .int p1, .int p2, .int p3] : List Value).toArray c cX2_lookItems 4 D cl dA := ⟨hx, hb, hml, hown, hts, hK, hcl⟩
  have M : mM D cl h ad dA (mN h ad) s F Rr s.heap [] := ⟨hP, mW_self hD, va_S.rf⟩
  have hl := lv_entry ([.ref h, .int p1, .int p2, .int p3]) (n := 4) (Nat.le_of_ble_eq_true rfl)
  rw [lg_entry_eq]
  generalize (lg_sl ([.ref h, .int p1, .int p2, .int p3]) ++ List.replicate (4 - (lg_sl ([.ref h, .int p1, .int p2, .int p3])).length) Slot.unset).toArray = ls at hl ⊢
  have hl : lv_has ls 4 [(0, .ref h), (1, .int p1), (2, .int p2), (3, .int p3)] := hl
  refine lv_aload_n hx hb dX2_lookItems_0 rfl (lv_at hl 0 rfl) ?_
  refine mg_2 X M dX2_lookItems_1 ?_
  refine lv_iload_n hx hb dX2_lookItems_4 rfl (lv_at hl 1 rfl) ?_
  refine mr_2 X M (f := Rr 2) rfl (j := p1.toNatClampNeg) (by first | assumption | exact vp_inN (N := 8) rfl (by grind [inB]) (by grind [inB])) rfl dX2_lookItems_5 ?_
  refine lb_if_ge (tgt := 15) hx hb dX2_lookItems_6 (by decide) (fun c_1 c_1' => ?_) (fun c_1 c_1' => ?_)
  · -- c_1: Rr 2 p1.toNatClampNeg ≥ 0
    refine lv_iload_n hx hb dX2_lookItems_15 rfl (lv_at hl 2 rfl) ?_
    refine lb_if_lt (tgt := 35) hx hb dX2_lookItems_16 (by decide) (fun c_2 c_2' => ?_) (fun c_2 c_2' => ?_)
    · -- c_2: p2 < 0
      refine lv_aload_n hx hb dX2_lookItems_35 rfl (lv_at hl 0 rfl) ?_
      refine lv_iconst (v := 2) hx hb dX2_lookItems_36 (by decide) ?_
      refine m_cU (As := [.int 2]) (rest := []) X M (metX2_finding l D cl hcl h ad dA F Rr 2) (cwV 1 hts (lw_V q1628 q1630 qs27 q62 q1631) rfl rfl rfl (by decide +kernel) ⟨Nat.le_of_ble_eq_true rfl, Nat.le_of_ble_eq_true rfl⟩) rfl hl.1 rfl (Nat.le_of_ble_eq_true rfl) dX2_lookItems_37 ⟨Nat.zero_le _, Nat.zero_le _⟩ (fun r9 F9 R9 hr9 H locs M => ?_)
      obtain ⟨Z_3, eZ_3⟩ : ∃ z, z = m_finding F Rr 2 := ⟨_, rfl⟩
      rw [← eZ_3] at hr9
      obtain ⟨rfl, rfl, rfl⟩ : r9 = Z_3.1 ∧ F9 = Z_3.2.1 ∧ R9 = Z_3.2.2 := ⟨congrArg Prod.fst hr9, congrArg (fun z => z.2.1) hr9, congrArg (fun z => z.2.2) hr9⟩
      refine lv_goto (tgt := 44) hx hb dX2_lookItems_40 (by decide) ?_
      exact W.iret (v := Z_3.1) hx hb hr (fun t9 ht9 hW9 => ⟨⟨_, (Z_3.2.1, Z_3.2.2), rfl, (by first | (simp [m_lookItems, c_1, c_1', c_2, c_2', ← eZ_3, up_s, up_n, nI_1, b2i]; done) | (simp [m_lookItems, c_1, c_1', c_2, c_2', eZ_3, up_s, up_n, nI_1, b2i]; done) | (simp_all [m_lookItems]; done) | grind [m_lookItems]), by show va_P _ _ _ t9.heap; rw [ht9]; exact M.1⟩, M.2.2.F ht9⟩) M.2.2.2.2 dX2_lookItems_44
    · -- c_2: p2 ≥ 0
      refine lv_iload_n hx hb dX2_lookItems_19 rfl (lv_at hl 2 rfl) ?_
      refine lv_i2l (v := p2.toInt64) hx hb dX2_lookItems_20 rfl ?_
      refine lv_iload_n hx hb dX2_lookItems_21 rfl (lv_at hl 3 rfl) ?_
      refine lv_i2l (v := p3.toInt64) hx hb dX2_lookItems_22 rfl ?_
      refine lv_ladd hx hb dX2_lookItems_23 ?_
      refine lv_aload_n hx hb dX2_lookItems_24 rfl (lv_at hl 0 rfl) ?_
      refine mg_3 X M dX2_lookItems_25 ?_
      refine lv_iload_n hx hb dX2_lookItems_28 rfl (lv_at hl 1 rfl) ?_
      refine mr_3 X M (f := Rr 3) rfl (j := p1.toNatClampNeg) (by first | assumption | exact vp_inN (N := 8) rfl (by grind [inB]) (by grind [inB])) rfl dX2_lookItems_29 ?_
      refine lv_i2l (v := (Rr 3 p1.toNatClampNeg).toInt64) hx hb dX2_lookItems_30 rfl ?_
      refine W.lcmp hx hb dX2_lookItems_31 ?_
      refine lc_if_le (tgt := 43) hx hb dX2_lookItems_32 (by decide) (fun c_4 c_4' => ?_) (fun c_4 c_4' => ?_)
      · -- c_4: p2.toInt64 + p3.toInt64 ≤ (Rr 3 p1.toNatClampNeg).toInt64
        refine lv_iconst (v := 0) hx hb dX2_lookItems_43 (by decide) ?_
        exact W.iret (v := 0) hx hb hr (fun t9 ht9 hW9 => ⟨⟨_, (F, Rr), rfl, (by first | (simp [m_lookItems, c_1, c_1', c_2, c_2', c_4, c_4', up_s, up_n, nI_1, b2i]; done) | (simp_all [m_lookItems]; done) | grind [m_lookItems]), by show va_P _ _ _ t9.heap; rw [ht9]; exact M.1⟩, M.2.2.F ht9⟩) M.2.2.2.2 dX2_lookItems_44
      · -- c_4: p2.toInt64 + p3.toInt64 > (Rr 3 p1.toNatClampNeg).toInt64
        refine lv_aload_n hx hb dX2_lookItems_35 rfl (lv_at hl 0 rfl) ?_
        refine lv_iconst (v := 2) hx hb dX2_lookItems_36 (by decide) ?_
        refine m_cU (As := [.int 2]) (rest := []) X M (metX2_finding l D cl hcl h ad dA F Rr 2) (cwV 1 hts (lw_V q1628 q1630 qs27 q62 q1631) rfl rfl rfl (by decide +kernel) ⟨Nat.le_of_ble_eq_true rfl, Nat.le_of_ble_eq_true rfl⟩) rfl hl.1 rfl (Nat.le_of_ble_eq_true rfl) dX2_lookItems_37 ⟨Nat.zero_le _, Nat.zero_le _⟩ (fun r9 F9 R9 hr9 H locs M => ?_)
        obtain ⟨Z_5, eZ_5⟩ : ∃ z, z = m_finding F Rr 2 := ⟨_, rfl⟩
        rw [← eZ_5] at hr9
        obtain ⟨rfl, rfl, rfl⟩ : r9 = Z_5.1 ∧ F9 = Z_5.2.1 ∧ R9 = Z_5.2.2 := ⟨congrArg Prod.fst hr9, congrArg (fun z => z.2.1) hr9, congrArg (fun z => z.2.2) hr9⟩
        refine lv_goto (tgt := 44) hx hb dX2_lookItems_40 (by decide) ?_
        exact W.iret (v := Z_5.1) hx hb hr (fun t9 ht9 hW9 => ⟨⟨_, (Z_5.2.1, Z_5.2.2), rfl, (by first | (simp [m_lookItems, c_1, c_1', c_2, c_2', c_4, c_4', ← eZ_5, up_s, up_n, nI_1, b2i]; done) | (simp [m_lookItems, c_1, c_1', c_2, c_2', c_4, c_4', eZ_5, up_s, up_n, nI_1, b2i]; done) | (simp_all [m_lookItems]; done) | grind [m_lookItems]), by show va_P _ _ _ t9.heap; rw [ht9]; exact M.1⟩, M.2.2.F ht9⟩) M.2.2.2.2 dX2_lookItems_44
  · -- c_1: Rr 2 p1.toNatClampNeg < 0
    refine lv_aload_n hx hb dX2_lookItems_9 rfl (lv_at hl 0 rfl) ?_
    refine lv_iconst (v := 1) hx hb dX2_lookItems_10 (by decide) ?_
    refine m_cU (As := [.int 1]) (rest := []) X M (metX2_finding l D cl hcl h ad dA F Rr 1) (cwV 1 hts (lw_V q1628 q1630 qs27 q62 q1631) rfl rfl rfl (by decide +kernel) ⟨Nat.le_of_ble_eq_true rfl, Nat.le_of_ble_eq_true rfl⟩) rfl hl.1 rfl (Nat.le_of_ble_eq_true rfl) dX2_lookItems_11 ⟨Nat.zero_le _, Nat.zero_le _⟩ (fun r9 F9 R9 hr9 H locs M => ?_)
    obtain ⟨Z_6, eZ_6⟩ : ∃ z, z = m_finding F Rr 1 := ⟨_, rfl⟩
    rw [← eZ_6] at hr9
    obtain ⟨rfl, rfl, rfl⟩ : r9 = Z_6.1 ∧ F9 = Z_6.2.1 ∧ R9 = Z_6.2.2 := ⟨congrArg Prod.fst hr9, congrArg (fun z => z.2.1) hr9, congrArg (fun z => z.2.2) hr9⟩
    exact W.iret (v := Z_6.1) hx hb hr (fun t9 ht9 hW9 => ⟨⟨_, (Z_6.2.1, Z_6.2.2), rfl, (by first | (simp [m_lookItems, c_1, c_1', ← eZ_6, up_s, up_n, nI_1, b2i]; done) | (simp [m_lookItems, c_1, c_1', eZ_6, up_s, up_n, nI_1, b2i]; done) | (simp_all [m_lookItems]; done) | grind [m_lookItems]), by show va_P _ _ _ t9.heap; rw [ht9]; exact M.1⟩, M.2.2.F ht9⟩) M.2.2.2.2 dX2_lookItems_14

set_option maxHeartbeats 4000000 in
set_option maxRecDepth 100000 in
theorem metX2_isCart (l : Launch) (D : va_G) (cl : List vw_C) (hcl : cl[0]? = some (RX2, TX2, 61)) (h : Nat) (ad : Nat → Nat) (dA : ClassId) (F : Nat → Int32) (Rr : Nat → Nat → Int32) (p1 : Int32) : Met l yX2_isCart (ws_ yX2_isCart cX2_isCart 2 (some .boolean)) ({ frames := 1, cells := 0, slots := 0, locals := 25 } : Room) (va_Pc [.ref h, .int p1] (mPre D cl h ad dA F Rr)) (vp_Si (fun r => r = b2i (inB 0 ((F 26) - 1) p1))) 0 0 (fun _ => False) := by
  refine Met.ofW (cc := cX2_isCart) (maxL := 2) (ret := (some .boolean)) (by decide) rfl ?_
  intro p e s m args below meth c s₁ B hml hv
  obtain ⟨rfl, hK, hP, hD⟩ := hv
  have hx := B.exec
  have hb := B.bytes
  have hr := B.returns
  have hts := atoms_spec (ws := (ws_ yX2_isCart cX2_isCart 2 (some .boolean))) B.pre
  have hts : ∀ w ∈ lw_all, w.before _ s = true := fun w h => hts w (List.mem_cons_of_mem _ h)
  have hown : s.vm.findClass RX2 = some m.cls := findClass_of_methodNamed B.named
  have hlocks := B.notSynchronized
  have S : CallFix p m c cX2_isCart 2 s ([.ref h, .int p1] : List Value).toArray lw_all RX2 := ⟨hx, hb, hml, hown, hts⟩
  have X : mX p s m ([.ref h, .int p1] : List Value).toArray c cX2_isCart 2 D cl dA := ⟨hx, hb, hml, hown, hts, hK, hcl⟩
  have M : mM D cl h ad dA (mN h ad) s F Rr s.heap [] := ⟨hP, mW_self hD, va_S.rf⟩
  have hl := lv_entry ([.ref h, .int p1]) (n := 2) (Nat.le_of_ble_eq_true rfl)
  rw [lg_entry_eq]
  generalize (lg_sl ([.ref h, .int p1]) ++ List.replicate (2 - (lg_sl ([.ref h, .int p1])).length) Slot.unset).toArray = ls at hl ⊢
  have hl : lv_has ls 2 [(0, .ref h), (1, .int p1)] := hl
  refine lv_iload_n hx hb dX2_isCart_0 rfl (lv_at hl 1 rfl) ?_
  refine lv_i2l (v := p1.toInt64) hx hb dX2_isCart_1 rfl ?_
  refine lv_lconst (v := 0) hx hb dX2_isCart_2 (by decide) ?_
  refine lv_aload_n hx hb dX2_isCart_3 rfl (lv_at hl 0 rfl) ?_
  refine mg_26 X M (v := F 26) rfl dX2_isCart_4 ?_
  refine lv_iconst (v := 1) hx hb dX2_isCart_7 (by decide) ?_
  refine lv_isub hx hb dX2_isCart_8 ?_
  refine lv_i2l (v := ((F 26) - 1).toInt64) hx hb dX2_isCart_9 rfl ?_
  refine s_cI (v := b2i (inB 0 ((F 26) - 1) p1)) (As := [.long p1.toInt64, .long 0, .long (((F 26) - 1).toInt64)]) (rest := []) S (metX2_inI l p1 0 ((F 26) - 1) p1.toInt64 0 (((F 26) - 1).toInt64) rfl rfl rfl) (va_cwS 3 hts (lw_S q1623 q1624 q62 q1625) rfl rfl rfl (by decide +kernel) ⟨Nat.le_of_ble_eq_true rfl, Nat.le_of_ble_eq_true rfl⟩) rfl hl.1 rfl (Nat.le_of_ble_eq_true rfl) dX2_isCart_10 ⟨Nat.zero_le _, Nat.zero_le _⟩ ?_
  exact W.zret (v := b2i (inB 0 ((F 26) - 1) p1)) hx hb hr (b2i_nar _) (fun t9 ht9 hW9 => ⟨_, rfl, (by first | (simp [b2i, up_s, up_n, nI_1, b2i]; done) | (simp_all [b2i]; done) | grind [b2i]), ht9⟩) (fun _ h9 => by cases h9) dX2_isCart_13

set_option maxHeartbeats 4000000 in
set_option maxRecDepth 100000 in
theorem metX2_isPass (l : Launch) (D : va_G) (cl : List vw_C) (hcl : cl[0]? = some (RX2, TX2, 61)) (h : Nat) (ad : Nat → Nat) (dA : ClassId) (F : Nat → Int32) (Rr : Nat → Nat → Int32) (p1 : Int32) : Met l yX2_isPass (ws_ yX2_isPass cX2_isPass 2 (some .boolean)) ({ frames := 1, cells := 0, slots := 0, locals := 25 } : Room) (va_Pc [.ref h, .int p1] (mPre D cl h ad dA F Rr)) (vp_Si (fun r => r = b2i (inB 0 ((F 42) - 1) p1))) 0 0 (fun _ => False) := by
  refine Met.ofW (cc := cX2_isPass) (maxL := 2) (ret := (some .boolean)) (by decide) rfl ?_
  intro p e s m args below meth c s₁ B hml hv
  obtain ⟨rfl, hK, hP, hD⟩ := hv
  have hx := B.exec
  have hb := B.bytes
  have hr := B.returns
  have hts := atoms_spec (ws := (ws_ yX2_isPass cX2_isPass 2 (some .boolean))) B.pre
  have hts : ∀ w ∈ lw_all, w.before _ s = true := fun w h => hts w (List.mem_cons_of_mem _ h)
  have hown : s.vm.findClass RX2 = some m.cls := findClass_of_methodNamed B.named
  have hlocks := B.notSynchronized
  have S : CallFix p m c cX2_isPass 2 s ([.ref h, .int p1] : List Value).toArray lw_all RX2 := ⟨hx, hb, hml, hown, hts⟩
  have X : mX p s m ([.ref h, .int p1] : List Value).toArray c cX2_isPass 2 D cl dA := ⟨hx, hb, hml, hown, hts, hK, hcl⟩
  have M : mM D cl h ad dA (mN h ad) s F Rr s.heap [] := ⟨hP, mW_self hD, va_S.rf⟩
  have hl := lv_entry ([.ref h, .int p1]) (n := 2) (Nat.le_of_ble_eq_true rfl)
  rw [lg_entry_eq]
  generalize (lg_sl ([.ref h, .int p1]) ++ List.replicate (2 - (lg_sl ([.ref h, .int p1])).length) Slot.unset).toArray = ls at hl ⊢
  have hl : lv_has ls 2 [(0, .ref h), (1, .int p1)] := hl
  refine lv_iload_n hx hb dX2_isPass_0 rfl (lv_at hl 1 rfl) ?_
  refine lv_i2l (v := p1.toInt64) hx hb dX2_isPass_1 rfl ?_
  refine lv_lconst (v := 0) hx hb dX2_isPass_2 (by decide) ?_
  refine lv_aload_n hx hb dX2_isPass_3 rfl (lv_at hl 0 rfl) ?_
  refine mg_42 X M (v := F 42) rfl dX2_isPass_4 ?_
  refine lv_iconst (v := 1) hx hb dX2_isPass_7 (by decide) ?_
  refine lv_isub hx hb dX2_isPass_8 ?_
  refine lv_i2l (v := ((F 42) - 1).toInt64) hx hb dX2_isPass_9 rfl ?_
  refine s_cI (v := b2i (inB 0 ((F 42) - 1) p1)) (As := [.long p1.toInt64, .long 0, .long (((F 42) - 1).toInt64)]) (rest := []) S (metX2_inI l p1 0 ((F 42) - 1) p1.toInt64 0 (((F 42) - 1).toInt64) rfl rfl rfl) (va_cwS 3 hts (lw_S q1623 q1624 q62 q1625) rfl rfl rfl (by decide +kernel) ⟨Nat.le_of_ble_eq_true rfl, Nat.le_of_ble_eq_true rfl⟩) rfl hl.1 rfl (Nat.le_of_ble_eq_true rfl) dX2_isPass_10 ⟨Nat.zero_le _, Nat.zero_le _⟩ ?_
  exact W.zret (v := b2i (inB 0 ((F 42) - 1) p1)) hx hb hr (b2i_nar _) (fun t9 ht9 hW9 => ⟨_, rfl, (by first | (simp [b2i, up_s, up_n, nI_1, b2i]; done) | (simp_all [b2i]; done) | grind [b2i]), ht9⟩) (fun _ h9 => by cases h9) dX2_isPass_13

set_option maxHeartbeats 4000000 in
set_option maxRecDepth 100000 in
theorem metX2_on (l : Launch) (D : va_G) (cl : List vw_C) (hcl : cl[0]? = some (RX2, TX2, 61)) (h : Nat) (ad : Nat → Nat) (dA : ClassId) (F : Nat → Int32) (Rr : Nat → Nat → Int32) (c1 : Nat) (k1 : Nat) (hc1 : c1 < 16) (hk1 : k1 < 7) : Met l yX2_on (ws_ yX2_on cX2_on 3 (some .int)) ({ frames := 0, cells := 0, slots := 0, locals := 0 } : Room) (va_Pc [.ref h, .int (nI c1), .int (nI k1)] (mPre D cl h ad dA F Rr)) (vp_Si (fun r => r = Rr 43 (7 * c1 + k1))) 0 0 (fun _ => False) := by
  refine Met.ofW (cc := cX2_on) (maxL := 3) (ret := (some .int)) (by decide) rfl ?_
  intro p e s m args below meth c s₁ B hml hv
  obtain ⟨rfl, hK, hP, hD⟩ := hv
  have hx := B.exec
  have hb := B.bytes
  have hr := B.returns
  have hts := atoms_spec (ws := (ws_ yX2_on cX2_on 3 (some .int))) B.pre
  have hts : ∀ w ∈ lw_all, w.before _ s = true := fun w h => hts w (List.mem_cons_of_mem _ h)
  have hown : s.vm.findClass RX2 = some m.cls := findClass_of_methodNamed B.named
  have hlocks := B.notSynchronized
  have S : CallFix p m c cX2_on 3 s ([.ref h, .int (nI c1), .int (nI k1)] : List Value).toArray lw_all RX2 := ⟨hx, hb, hml, hown, hts⟩
  have X : mX p s m ([.ref h, .int (nI c1), .int (nI k1)] : List Value).toArray c cX2_on 3 D cl dA := ⟨hx, hb, hml, hown, hts, hK, hcl⟩
  have M : mM D cl h ad dA (mN h ad) s F Rr s.heap [] := ⟨hP, mW_self hD, va_S.rf⟩
  have hl := lv_entry ([.ref h, .int (nI c1), .int (nI k1)]) (n := 3) (Nat.le_of_ble_eq_true rfl)
  rw [lg_entry_eq]
  generalize (lg_sl ([.ref h, .int (nI c1), .int (nI k1)]) ++ List.replicate (3 - (lg_sl ([.ref h, .int (nI c1), .int (nI k1)])).length) Slot.unset).toArray = ls at hl ⊢
  have hl : lv_has ls 3 [(0, .ref h), (1, .int (nI c1)), (2, .int (nI k1))] := hl
  refine lv_aload_n hx hb dX2_on_0 rfl (lv_at hl 0 rfl) ?_
  refine mg_43 X M dX2_on_1 ?_
  refine lv_bipush (v := 7) hx hb dX2_on_4 (by decide) ?_
  refine lv_iload_n hx hb dX2_on_6 rfl (lv_at hl 1 rfl) ?_
  refine lv_imul hx hb dX2_on_7 ?_
  refine lv_asi (y := nI (7 * c1)) (nI_mul 7 c1) ?_
  refine lv_iload_n hx hb dX2_on_8 rfl (lv_at hl 2 rfl) ?_
  refine lv_iadd hx hb dX2_on_9 ?_
  refine lv_asi (y := nI ((7 * c1) + k1)) (nI_add (7 * c1) k1) ?_
  refine mr_43 X M (f := Rr 43) rfl (j := (7 * c1) + k1) (vp_in_nI (by omega) (by omega)) (nI_clamp (by omega)) dX2_on_10 ?_
  exact W.iret (v := Rr 43 ((7 * c1) + k1)) hx hb hr (fun t9 ht9 hW9 => ⟨_, rfl, rfl, ht9⟩) (fun _ h9 => by cases h9) dX2_on_11

def m_owedStep (n : Int32) (Rr : Nat → Nat → Int32) (c : Nat) (day : Int32) (w : Nat) (sum : Int32) : Int32 := sum + (if Rr 27 (9 * c + 1 + w) ≤ m_numberFor n Rr day 2 (nI w) then 0 else Rr 27 (9 * c + 1 + w) * m_numberFor n Rr day 1 (nI w))
def m_owedBy (n : Int32) (Rr : Nat → Nat → Int32) (c g : Nat) (day : Int32) : Int32 := itr (m_owedStep n Rr c day) 8 (Rr 27 (9 * c) * m_numberFor n Rr day 0 0) * Rr 7 g / 100
set_option maxHeartbeats 4000000 in
set_option maxRecDepth 100000 in
theorem metX2_owedBy (l : Launch) (D : va_G) (cl : List vw_C) (hcl : cl[0]? = some (RX2, TX2, 61)) (h : Nat) (ad : Nat → Nat) (dA : ClassId) (F : Nat → Int32) (Rr : Nat → Nat → Int32) (c1 : Nat) (g1 : Nat) (p3 : Int32) (hc1 : c1 < 16) (hg1 : g1 < 9) (h10 : cnB (F 10) 30) : Met l yX2_owedBy (ws_ yX2_owedBy cX2_owedBy 7 (some .int)) ({ frames := 2, cells := 0, slots := 0, locals := 51 } : Room) (va_Pc [.ref h, .int (nI c1), .int (nI g1), .int p3] (mPre D cl h ad dA F Rr)) (vp_Si (fun r => r = m_owedBy (F 10) Rr c1 g1 p3)) 0 0 (fun _ => False) := by
  refine Met.ofW (cc := cX2_owedBy) (maxL := 7) (ret := (some .int)) (by decide) rfl ?_
  intro p e s m args below meth c s₁ B hml hv
  obtain ⟨rfl, hK, hP, hD⟩ := hv
  have hx := B.exec
  have hb := B.bytes
  have hr := B.returns
  have hts := atoms_spec (ws := (ws_ yX2_owedBy cX2_owedBy 7 (some .int))) B.pre
  have hts : ∀ w ∈ lw_all, w.before _ s = true := fun w h => hts w (List.mem_cons_of_mem _ h)
  have hown : s.vm.findClass RX2 = some m.cls := findClass_of_methodNamed B.named
  have hlocks := B.notSynchronized
  have S : CallFix p m c cX2_owedBy 7 s ([.ref h, .int (nI c1), .int (nI g1), .int p3] : List Value).toArray lw_all RX2 := ⟨hx, hb, hml, hown, hts⟩
  have X : mX p s m ([.ref h, .int (nI c1), .int (nI g1), .int p3] : List Value).toArray c cX2_owedBy 7 D cl dA := ⟨hx, hb, hml, hown, hts, hK, hcl⟩
  have M : mM D cl h ad dA (mN h ad) s F Rr s.heap [] := ⟨hP, mW_self hD, va_S.rf⟩
  have hl := lv_entry ([.ref h, .int (nI c1), .int (nI g1), .int p3]) (n := 7) (Nat.le_of_ble_eq_true rfl)
  rw [lg_entry_eq]
  generalize (lg_sl ([.ref h, .int (nI c1), .int (nI g1), .int p3]) ++ List.replicate (7 - (lg_sl ([.ref h, .int (nI c1), .int (nI g1), .int p3])).length) Slot.unset).toArray = ls at hl ⊢
  have hl : lv_has ls 7 [(0, .ref h), (1, .int (nI c1)), (2, .int (nI g1)), (3, .int p3)] := hl
  refine lv_aload_n hx hb dX2_owedBy_0 rfl (lv_at hl 0 rfl) ?_
  refine mg_27 X M dX2_owedBy_1 ?_
  refine lv_bipush (v := 9) hx hb dX2_owedBy_4 (by decide) ?_
  refine lv_iload_n hx hb dX2_owedBy_6 rfl (lv_at hl 1 rfl) ?_
  refine lv_imul hx hb dX2_owedBy_7 ?_
  refine lv_asi (y := nI (9 * c1)) (nI_mul 9 c1) ?_
  refine mr_27 X M (f := Rr 27) rfl (j := 9 * c1) (vp_in_nI (by omega) (by omega)) (nI_clamp (by omega)) dX2_owedBy_8 ?_
  refine lv_aload_n hx hb dX2_owedBy_9 rfl (lv_at hl 0 rfl) ?_
  refine lv_iload_n hx hb dX2_owedBy_10 rfl (lv_at hl 3 rfl) ?_
  refine lv_iconst (v := 0) hx hb dX2_owedBy_11 (by decide) ?_
  refine lv_iconst (v := 0) hx hb dX2_owedBy_12 (by decide) ?_
  refine m_cQ (v := m_numberFor (F 10) Rr p3 0 0) (As := [.int p3, .int 0, .int 0]) (rest := [.int (Rr 27 (9 * c1))]) X M (metX2_numberFor l D cl hcl h ad dA F Rr p3 0 0 h10) (cwV 3 hts (lw_V q1739 q1741 qs36 q62 q1742) rfl rfl rfl (by decide +kernel) ⟨Nat.le_of_ble_eq_true rfl, Nat.le_of_ble_eq_true rfl⟩) rfl hl.1 rfl (Nat.le_of_ble_eq_true rfl) dX2_owedBy_13 ⟨Nat.zero_le _, Nat.zero_le _⟩ ?_
  refine lv_imul hx hb dX2_owedBy_16 ?_
  refine lv_istore (lv' := [(4, .int ((Rr 27 (9 * c1)) * (m_numberFor (F 10) Rr p3 0 0))), (0, .ref h), (1, .int (nI c1)), (2, .int (nI g1)), (3, .int p3)]) hx hb dX2_owedBy_17 hl (by decide) rfl (fun ls hl => ?_)
  refine lv_iconst (v := 0) hx hb dX2_owedBy_19 (by decide) ?_
  refine lv_istore (lv' := [(5, .int 0), (4, .int ((Rr 27 (9 * c1)) * (m_numberFor (F 10) Rr p3 0 0))), (0, .ref h), (1, .int (nI c1)), (2, .int (nI g1)), (3, .int p3)]) hx hb dX2_owedBy_20 hl (by decide) rfl (fun ls hl => ?_)
  have L_1 : ∀ (fuL_1 : Nat) (i : Nat) (x : Int32), (i ≤ 8) → (x = itr (m_owedStep (F 10) Rr c1 p3) i (Rr 27 (9 * c1) * m_numberFor (F 10) Rr p3 0 0)) → 8 - i < fuL_1 → ∀ ls, lv_has ls 7 [(0, .ref h), (1, .int (nI c1)), (2, .int (nI g1)), (3, .int p3), (4, .int x), (5, .int (nI i))] → W p l e ({ frames := 2, cells := 0, slots := 0, locals := 51 } : Room) s m ([.ref h, .int (nI c1), .int (nI g1), .int p3] : List Value).toArray below meth c s.heap [] 0 0 (MQ below (vp_Si (fun r => r = m_owedBy (F 10) Rr c1 g1 p3)) ([.ref h, .int (nI c1), .int (nI g1), .int p3] : List Value).toArray s 0 0 (fun _ => False)) (F0 m 22 ls []) := by
    intro fuL_1
    induction fuL_1 with
    | zero => intro i x hi qx hfuL_1; exact absurd hfuL_1 (Nat.not_lt_zero _)
    | succ fuL_1 L_1ih =>
      intro i x hi qx hfuL_1 ls hl
      refine lv_iload hx hb dX2_owedBy_22 (lv_at hl 5 rfl) ?_
      refine lv_bipush (v := 8) hx hb dX2_owedBy_24 (by decide) ?_
      refine ln_icmp_ge (tgt := 84) hx hb (a := i) (b := 8) (by omega) (by omega) dX2_owedBy_26 (by decide) (fun c_2 => ?_) (fun c_2 => ?_)
      · -- c_2: nI i ≥ 8
        have ei : i = 8 := by omega
        rw [ei] at qx
        refine lv_iload hx hb dX2_owedBy_84 (lv_at hl 4 rfl) ?_
        refine lv_aload_n hx hb dX2_owedBy_86 rfl (lv_at hl 0 rfl) ?_
        refine mg_7 X M dX2_owedBy_87 ?_
        refine lv_iload_n hx hb dX2_owedBy_90 rfl (lv_at hl 2 rfl) ?_
        refine mr_7 X M (f := Rr 7) rfl (j := g1) (vp_in_nI (by omega) (by omega)) (nI_clamp (by omega)) dX2_owedBy_91 ?_
        refine lv_imul hx hb dX2_owedBy_92 ?_
        refine lv_bipush (v := 100) hx hb dX2_owedBy_93 (by decide) ?_
        refine lv_idiv hx hb dX2_owedBy_95 (by decide) ?_
        exact W.iret (v := (x * (Rr 7 g1)) / 100) hx hb hr (fun t9 ht9 hW9 => ⟨_, rfl, (by unfold m_owedBy; rw [qx]), ht9⟩) (fun _ h9 => by cases h9) dX2_owedBy_96
      · -- c_2: nI i < 8
        refine lv_aload_n hx hb dX2_owedBy_29 rfl (lv_at hl 0 rfl) ?_
        refine mg_27 X M dX2_owedBy_30 ?_
        refine lv_bipush (v := 9) hx hb dX2_owedBy_33 (by decide) ?_
        refine lv_iload_n hx hb dX2_owedBy_35 rfl (lv_at hl 1 rfl) ?_
        refine lv_imul hx hb dX2_owedBy_36 ?_
        refine lv_asi (y := nI (9 * c1)) (nI_mul 9 c1) ?_
        refine lv_iconst (v := 1) hx hb dX2_owedBy_37 (by decide) ?_
        refine lv_iadd hx hb dX2_owedBy_38 ?_
        refine lv_asi (y := nI ((9 * c1) + 1)) (nI_add (9 * c1) 1) ?_
        refine lv_iload hx hb dX2_owedBy_39 (lv_at hl 5 rfl) ?_
        refine lv_iadd hx hb dX2_owedBy_41 ?_
        refine lv_asi (y := nI (((9 * c1) + 1) + i)) (nI_add ((9 * c1) + 1) i) ?_
        refine mr_27 X M (f := Rr 27) rfl (j := ((9 * c1) + 1) + i) (vp_in_nI (by omega) (by omega)) (nI_clamp (by omega)) dX2_owedBy_42 ?_
        refine lv_istore (lv' := [(6, .int (Rr 27 (((9 * c1) + 1) + i))), (0, .ref h), (1, .int (nI c1)), (2, .int (nI g1)), (3, .int p3), (4, .int x), (5, .int (nI i))]) hx hb dX2_owedBy_43 hl (by decide) rfl (fun ls hl => ?_)
        refine lv_iload hx hb dX2_owedBy_45 (lv_at hl 5 rfl) ?_
        refine lv_iload hx hb dX2_owedBy_47 (lv_at hl 0 rfl) ?_
        refine lv_aload_n hx hb dX2_owedBy_49 rfl (lv_at hl 1 rfl) ?_
        refine lv_iload_n hx hb dX2_owedBy_50 rfl (lv_at hl 4 rfl) ?_
        refine lv_iconst (v := 2) hx hb dX2_owedBy_51 (by decide) ?_
        refine lv_iload hx hb dX2_owedBy_52 (lv_at hl 6 rfl) ?_
        refine m_cQ (v := m_numberFor (F 10) Rr p3 2 (nI i)) (As := [.int p3, .int 2, .int (nI i)]) (rest := [.int (Rr 27 (((9 * c1) + 1) + i)), .int x]) X M (metX2_numberFor l D cl hcl h ad dA F Rr p3 2 (nI i) h10) (cwV 3 hts (lw_V q1739 q1741 qs36 q62 q1742) rfl rfl rfl (by decide +kernel) ⟨Nat.le_of_ble_eq_true rfl, Nat.le_of_ble_eq_true rfl⟩) rfl hl.1 rfl (Nat.le_of_ble_eq_true rfl) dX2_owedBy_54 ⟨Nat.zero_le _, Nat.zero_le _⟩ ?_
        refine lb_icmp_gt (tgt := 64) hx hb dX2_owedBy_57 (by decide) (fun c_3 c_3' => ?_) (fun c_3 c_3' => ?_)
        · -- c_3: Rr 27 (((9 * c1) + 1) + i) > m_numberFor (F 10) Rr p3 2 (nI i)
          refine lv_iload hx hb dX2_owedBy_64 (lv_at hl 0 rfl) ?_
          refine lv_aload_n hx hb dX2_owedBy_66 rfl (lv_at hl 1 rfl) ?_
          refine lv_iload_n hx hb dX2_owedBy_67 rfl (lv_at hl 4 rfl) ?_
          refine lv_iconst (v := 1) hx hb dX2_owedBy_68 (by decide) ?_
          refine lv_iload hx hb dX2_owedBy_69 (lv_at hl 6 rfl) ?_
          refine m_cQ (v := m_numberFor (F 10) Rr p3 1 (nI i)) (As := [.int p3, .int 1, .int (nI i)]) (rest := [.int (Rr 27 (((9 * c1) + 1) + i)), .int x]) X M (metX2_numberFor l D cl hcl h ad dA F Rr p3 1 (nI i) h10) (cwV 3 hts (lw_V q1739 q1741 qs36 q62 q1742) rfl rfl rfl (by decide +kernel) ⟨Nat.le_of_ble_eq_true rfl, Nat.le_of_ble_eq_true rfl⟩) rfl hl.1 rfl (Nat.le_of_ble_eq_true rfl) dX2_owedBy_71 ⟨Nat.zero_le _, Nat.zero_le _⟩ ?_
          refine lv_imul hx hb dX2_owedBy_74 ?_
          refine lv_iadd hx hb dX2_owedBy_75 ?_
          refine lv_istore (lv' := [(4, .int (x + ((Rr 27 (((9 * c1) + 1) + i)) * (m_numberFor (F 10) Rr p3 1 (nI i))))), (6, .int (Rr 27 (((9 * c1) + 1) + i))), (0, .ref h), (1, .int (nI c1)), (2, .int (nI g1)), (3, .int p3), (5, .int (nI i))]) hx hb dX2_owedBy_76 hl (by decide) rfl (fun ls hl => ?_)
          refine lv_iinc (v := nI (i + 1)) (lv' := [(5, .int (nI (i + 1))), (4, .int (x + ((Rr 27 (((9 * c1) + 1) + i)) * (m_numberFor (F 10) Rr p3 1 (nI i))))), (6, .int (Rr 27 (((9 * c1) + 1) + i))), (0, .ref h), (1, .int (nI c1)), (2, .int (nI g1)), (3, .int p3)]) hx hb dX2_owedBy_78 hl (k := 6) rfl (mk_inc _) (by decide) rfl (fun ls hl => ?_)
          refine lv_goto (tgt := 22) hx hb dX2_owedBy_81 (by decide) ?_
          exact L_1ih  (i + 1) (x + ((Rr 27 (((9 * c1) + 1) + i)) * (m_numberFor (F 10) Rr p3 1 (nI i)))) (by omega) (by first | (rw [itr_s, ← qx]; done) | (rw [itr_s, ← qx]; first | (simp [m_owedStep, c_2, c_3, c_3', up_s, up_n, nI_1, b2i]; done) | (simp_all [m_owedStep]; done) | grind [m_owedStep])) (by omega) ls (lv_sub hl [3, 4, 5, 6, 1, 0] rfl)
        · -- c_3: Rr 27 (((9 * c1) + 1) + i) ≤ m_numberFor (F 10) Rr p3 2 (nI i)
          refine lv_iconst (v := 0) hx hb dX2_owedBy_60 (by decide) ?_
          refine lv_goto (tgt := 75) hx hb dX2_owedBy_61 (by decide) ?_
          refine lv_iadd hx hb dX2_owedBy_75 ?_
          refine lv_istore (lv' := [(4, .int (x + 0)), (6, .int (Rr 27 (((9 * c1) + 1) + i))), (0, .ref h), (1, .int (nI c1)), (2, .int (nI g1)), (3, .int p3), (5, .int (nI i))]) hx hb dX2_owedBy_76 hl (by decide) rfl (fun ls hl => ?_)
          refine lv_iinc (v := nI (i + 1)) (lv' := [(5, .int (nI (i + 1))), (4, .int (x + 0)), (6, .int (Rr 27 (((9 * c1) + 1) + i))), (0, .ref h), (1, .int (nI c1)), (2, .int (nI g1)), (3, .int p3)]) hx hb dX2_owedBy_78 hl (k := 6) rfl (mk_inc _) (by decide) rfl (fun ls hl => ?_)
          refine lv_goto (tgt := 22) hx hb dX2_owedBy_81 (by decide) ?_
          exact L_1ih  (i + 1) (x + 0) (by omega) (by first | (rw [itr_s, ← qx]; done) | (rw [itr_s, ← qx]; first | (simp [m_owedStep, c_2, c_3, c_3', up_s, up_n, nI_1, b2i]; done) | (simp_all [m_owedStep]; done) | grind [m_owedStep])) (by omega) ls (lv_sub hl [3, 4, 5, 6, 1, 0] rfl)
  exact L_1 ((8 - 0) + 1) 0 ((Rr 27 (9 * c1)) * (m_numberFor (F 10) Rr p3 0 0)) (Nat.zero_le _) (by first | rfl | (simp only [itr]; assumption) | (simp [itr, up_s, up_n, nI_1, b2i]; done)) (Nat.lt_succ_self _) ls (lv_sub hl [2, 3, 4, 5, 1, 0] rfl)

