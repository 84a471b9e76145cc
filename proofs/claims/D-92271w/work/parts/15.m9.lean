/-! THE REFERENCE, 9: what must stand, words, numbers -/
set_option maxHeartbeats 4000000 in
set_option maxRecDepth 100000 in
theorem metX2_need (l : Launch) (D : va_G) (cl : List vw_C) (hcl : cl[0]? = some (RX2, TX2, 61)) (h : Nat) (ad : Nat → Nat) (dA : ClassId) (G : Nat → Int32) (Rr : Nat → Nat → Int32) (T : Nat → Int32) (hT : Rr 16 = T) (z : Nat) (st : pS) (p1 : Bool) (hz4 : z ≤ 400) (hst : st.1 ≤ z) : Met l yX2_need (ws_ yX2_need cX2_need 2 none) ({ frames := 2, cells := 0, slots := 0, locals := 42 } : Room) (va_Pc [.ref h, .int (b2i p1)] (mPre D cl h ad dA (pF G T z st) Rr)) (va_Qv (fun u => u = (pF G T z (p_need T z st p1), Rr)) (mB D cl h ad dA) (mN h ad)) 0 0 (mN h ad) := by
  subst hT
  refine Met.ofW (cc := cX2_need) (maxL := 2) (ret := none) (by decide) rfl ?_
  intro p e s m args below meth c s₁ B hml hv
  obtain ⟨rfl, hK, hP, hD⟩ := hv
  have hx := B.exec
  have hb := B.bytes
  have hr := B.returns
  have hts := atoms_spec (ws := (ws_ yX2_need cX2_need 2 none)) B.pre
  have hts : ∀ w ∈ lw_all, w.before _ s = true := fun w h => hts w (List.mem_cons_of_mem _ h)
  have hown : s.vm.findClass RX2 = some m.cls := findClass_of_methodNamed B.named
  have hlocks := B.notSynchronized
  have S : CallFix p m c cX2_need 2 s ([.ref h, .int (b2i p1)] : List Value).toArray lw_all RX2 := ⟨hx, hb, hml, hown, hts⟩
  have X : mX p s m ([.ref h, .int (b2i p1)] : List Value).toArray c cX2_need 2 D cl dA := ⟨hx, hb, hml, hown, hts, hK, hcl⟩
  have M : mM D cl h ad dA (mN h ad) s (pF G (Rr 16) z st) Rr s.heap [] := ⟨hP, mW_self hD, va_S.rf⟩
  have hl := lv_entry ([.ref h, .int (b2i p1)]) (n := 2) (Nat.le_of_ble_eq_true rfl)
  rw [lg_entry_eq]
  generalize (lg_sl ([.ref h, .int (b2i p1)]) ++ List.replicate (2 - (lg_sl ([.ref h, .int (b2i p1)])).length) Slot.unset).toArray = ls at hl ⊢
  have hl : lv_has ls 2 [(0, .ref h), (1, .int (b2i p1))] := hl
  refine lv_iload_n hx hb dX2_need_0 rfl (lv_at hl 1 rfl) ?_
  refine lz_if_ne (tgt := 9) hx hb dX2_need_1 (by decide) (fun c_1 => ?_) (fun c_1 => ?_)
  · -- c_1: p1 = true
    refine lv_aload_n hx hb dX2_need_9 rfl (lv_at hl 0 rfl) ?_
    refine mg_24 X M (v := st.2.1) rfl dX2_need_10 ?_
    refine lv_if_ne (tgt := 20) hx hb dX2_need_13 (by decide) (fun c_2 => ?_) (fun c_2 => ?_)
    · -- c_2: st.2.1 ≠ 0
      exact W.vret hx hb hr (fun t9 ht9 hW9 => ⟨⟨(pF G (Rr 16) z st, Rr), rfl, (by first | (simp [p_need, p_pre, c_1, c_2, up_s, up_n, nI_1, b2i]; done) | (simp_all [p_need, p_pre]; done) | grind [p_need, p_pre]), by show va_P _ _ _ t9.heap; rw [ht9]; exact M.1⟩, M.2.2.F ht9⟩) M.2.2.2.2 dX2_need_20
    · -- c_2: st.2.1 = 0
      refine lv_aload_n hx hb dX2_need_16 rfl (lv_at hl 0 rfl) ?_
      refine m_cUv (As := []) (rest := []) X M (metX2_step l D cl hcl h ad dA (pF G (Rr 16) z st) Rr z (tkE (Rr 16) z st.1) rfl hz4 rfl (tkE_le hst).2) (cwV 0 hts (lw_V q1681 q1683 qs28 q62 q1684) rfl rfl rfl (by decide +kernel) ⟨Nat.le_of_ble_eq_true rfl, Nat.le_of_ble_eq_true rfl⟩) rfl hl.1 rfl (Nat.le_of_ble_eq_true rfl) dX2_need_17 ⟨Nat.zero_le _, Nat.zero_le _⟩ (fun F9 R9 hr9 H locs M => ?_)
      obtain ⟨rfl, rfl⟩ : F9 = pF G (Rr 16) z (p_step (Rr 16) z st) ∧ Rr = R9 := ⟨(congrArg Prod.fst hr9).trans pF_step, (congrArg Prod.snd hr9).symm⟩
      obtain ⟨st_3, est_3⟩ : ∃ x9, x9 = p_step (Rr 16) z st := ⟨_, rfl⟩
      rw [← est_3] at M
      exact W.vret hx hb hr (fun t9 ht9 hW9 => ⟨⟨(pF G (Rr 16) z st_3, Rr), rfl, (by first | (simp [p_need, p_pre, c_1, c_2, ← est_3, up_s, up_n, nI_1, b2i]; done) | (simp_all [p_need, p_pre]; done) | grind [p_need, p_pre]), by show va_P _ _ _ t9.heap; rw [ht9]; exact M.1⟩, M.2.2.F ht9⟩) M.2.2.2.2 dX2_need_20
  · -- c_1: p1 = false
    refine lv_aload_n hx hb dX2_need_4 rfl (lv_at hl 0 rfl) ?_
    refine lv_iconst (v := 1) hx hb dX2_need_5 (by decide) ?_
    refine m_cUv (As := [.int 1]) (rest := []) X M (metX2_bad l D cl hcl h ad dA G Rr (Rr 16) rfl z st 1) (cwV 1 hts (lw_V q1704 q1706 qs32 q62 q1707) rfl rfl rfl (by decide +kernel) ⟨Nat.le_of_ble_eq_true rfl, Nat.le_of_ble_eq_true rfl⟩) rfl hl.1 rfl (Nat.le_of_ble_eq_true rfl) dX2_need_6 ⟨Nat.zero_le _, Nat.zero_le _⟩ (fun F9 R9 hr9 H locs M => ?_)
    obtain ⟨rfl, rfl⟩ : F9 = pF G (Rr 16) z (p_bad st 1) ∧ Rr = R9 := ⟨congrArg Prod.fst hr9, (congrArg Prod.snd hr9).symm⟩
    refine lv_aload_n hx hb dX2_need_9 rfl (lv_at hl 0 rfl) ?_
    refine mg_24 X M (v := (p_bad st 1).2.1) rfl dX2_need_10 ?_
    refine lv_if_ne (tgt := 20) hx hb dX2_need_13 (by decide) (fun c_4 => ?_) (fun c_4 => ?_)
    · -- c_4: (p_bad st 1).2.1 ≠ 0
      exact W.vret hx hb hr (fun t9 ht9 hW9 => ⟨⟨(pF G (Rr 16) z (p_bad st 1), Rr), rfl, (by first | (simp [p_need, p_pre, c_1, c_4, up_s, up_n, nI_1, b2i]; done) | (simp_all [p_need, p_pre]; done) | grind [p_need, p_pre]), by show va_P _ _ _ t9.heap; rw [ht9]; exact M.1⟩, M.2.2.F ht9⟩) M.2.2.2.2 dX2_need_20
    · -- c_4: (p_bad st 1).2.1 = 0
      refine lv_aload_n hx hb dX2_need_16 rfl (lv_at hl 0 rfl) ?_
      refine m_cUv (As := []) (rest := []) X M (metX2_step l D cl hcl h ad dA (pF G (Rr 16) z (p_bad st 1)) Rr z (tkE (Rr 16) z (p_bad st 1).1) rfl hz4 rfl (tkE_le hst).2) (cwV 0 hts (lw_V q1681 q1683 qs28 q62 q1684) rfl rfl rfl (by decide +kernel) ⟨Nat.le_of_ble_eq_true rfl, Nat.le_of_ble_eq_true rfl⟩) rfl hl.1 rfl (Nat.le_of_ble_eq_true rfl) dX2_need_17 ⟨Nat.zero_le _, Nat.zero_le _⟩ (fun F9 R9 hr9 H locs M => ?_)
      obtain ⟨rfl, rfl⟩ : F9 = pF G (Rr 16) z (p_step (Rr 16) z (p_bad st 1)) ∧ Rr = R9 := ⟨(congrArg Prod.fst hr9).trans pF_step, (congrArg Prod.snd hr9).symm⟩
      obtain ⟨st_5, est_5⟩ : ∃ x9, x9 = p_step (Rr 16) z (p_bad st 1) := ⟨_, rfl⟩
      rw [← est_5] at M
      exact W.vret hx hb hr (fun t9 ht9 hW9 => ⟨⟨(pF G (Rr 16) z st_5, Rr), rfl, (by first | (simp [p_need, p_pre, c_1, c_4, ← est_5, up_s, up_n, nI_1, b2i]; done) | (simp_all [p_need, p_pre]; done) | grind [p_need, p_pre]), by show va_P _ _ _ t9.heap; rw [ht9]; exact M.1⟩, M.2.2.F ht9⟩) M.2.2.2.2 dX2_need_20

def p_chr (T : Nat → Int32) (a : Nat) (k : Nat) (v : Int64) : Int64 := (v <<< ((8 : Int32).toInt64 &&& 63)) ||| (T (a + k)).toInt64
def p_word (T : Nat → Int32) (z a : Nat) : Int64 := if tkK T z a = 2 ∧ tkE T z a - a < 8 then itr (p_chr T a) (tkE T z a - a) 0 else 0
def p_dig (T : Nat → Int32) (a : Nat) (k : Nat) (v : Int32) : Int32 := 10 * v + T (a + k) - 48
def p_val (T : Nat → Int32) (z a : Nat) : Int32 := if tkK T z a = 3 then itr (p_dig T a) (tkE T z a - a) 0 else 0
set_option maxHeartbeats 4000000 in
set_option maxRecDepth 100000 in
theorem metX2_word (l : Launch) (D : va_G) (cl : List vw_C) (hcl : cl[0]? = some (RX2, TX2, 61)) (h : Nat) (ad : Nat → Nat) (dA : ClassId) (G : Nat → Int32) (Rr : Nat → Nat → Int32) (T : Nat → Int32) (hT : Rr 16 = T) (z : Nat) (st : pS) (hz4 : z ≤ 400) (hst : st.1 ≤ z) : Met l yX2_word (ws_ yX2_word cX2_word 4 (some .long)) ({ frames := 0, cells := 0, slots := 0, locals := 0 } : Room) (va_Pc [.ref h] (mPre D cl h ad dA (pF G T z st) Rr)) (vp_Sl (fun r => r = p_word T z st.1)) 0 0 (fun _ => False) := by
  subst hT
  refine Met.ofW (cc := cX2_word) (maxL := 4) (ret := (some .long)) (by decide) rfl ?_
  intro p e s m args below meth c s₁ B hml hv
  obtain ⟨rfl, hK, hP, hD⟩ := hv
  have hx := B.exec
  have hb := B.bytes
  have hr := B.returns
  have hts := atoms_spec (ws := (ws_ yX2_word cX2_word 4 (some .long))) B.pre
  have hts : ∀ w ∈ lw_all, w.before _ s = true := fun w h => hts w (List.mem_cons_of_mem _ h)
  have hown : s.vm.findClass RX2 = some m.cls := findClass_of_methodNamed B.named
  have hlocks := B.notSynchronized
  have S : CallFix p m c cX2_word 4 s ([.ref h] : List Value).toArray lw_all RX2 := ⟨hx, hb, hml, hown, hts⟩
  have X : mX p s m ([.ref h] : List Value).toArray c cX2_word 4 D cl dA := ⟨hx, hb, hml, hown, hts, hK, hcl⟩
  have M : mM D cl h ad dA (mN h ad) s (pF G (Rr 16) z st) Rr s.heap [] := ⟨hP, mW_self hD, va_S.rf⟩
  have hl := lv_entry ([.ref h]) (n := 4) (Nat.le_of_ble_eq_true rfl)
  rw [lg_entry_eq]
  generalize (lg_sl ([.ref h]) ++ List.replicate (4 - (lg_sl ([.ref h])).length) Slot.unset).toArray = ls at hl ⊢
  have hl : lv_has ls 4 [(0, .ref h)] := hl
  have hle9 := tkE_le (T := Rr 16) hst
  refine lv_lconst (v := 0) hx hb dX2_word_0 (by decide) ?_
  refine lv_lstore_n (lv' := [(1, .long 0), (0, .ref h)]) hx hb dX2_word_1 rfl hl (by decide) rfl (fun ls hl => ?_)
  refine lv_aload_n hx hb dX2_word_2 rfl (lv_at hl 1 rfl) ?_
  refine mg_22 X M (v := nI st.1) rfl dX2_word_3 ?_
  refine lv_istore_n (lv' := [(3, .int (nI st.1)), (1, .long 0), (0, .ref h)]) hx hb dX2_word_6 rfl hl (by decide) rfl (fun ls hl => ?_)
  have L_1 : ∀ (fuL_1 : Nat) (i : Nat) (x : Int64), (i ≤ tkE (Rr 16) z st.1 - st.1) → (x = itr (p_chr (Rr 16) st.1) i 0) → (0 < i → tkK (Rr 16) z st.1 = 2 ∧ tkE (Rr 16) z st.1 - st.1 < 8) → tkE (Rr 16) z st.1 - st.1 - i < fuL_1 → ∀ ls, lv_has ls 4 [(0, .ref h), (1, .long x), (3, .int (nI (st.1 + i)))] → W p l e ({ frames := 0, cells := 0, slots := 0, locals := 0 } : Room) s m ([.ref h] : List Value).toArray below meth c s.heap [] 0 0 (MQ below (vp_Sl (fun r => r = p_word (Rr 16) z st.1)) ([.ref h] : List Value).toArray s 0 0 (fun _ => False)) (F0 m 7 ls []) := by
    intro fuL_1
    induction fuL_1 with
    | zero => intro i x hi qx hi0 hfuL_1; exact absurd hfuL_1 (Nat.not_lt_zero _)
    | succ fuL_1 L_1ih =>
      intro i x hi qx hi0 hfuL_1 ls hl
      refine lv_iload_n hx hb dX2_word_7 rfl (lv_at hl 2 rfl) ?_
      refine lv_aload_n hx hb dX2_word_8 rfl (lv_at hl 0 rfl) ?_
      refine mg_23 X M (v := nI (tkE (Rr 16) z st.1)) rfl dX2_word_9 ?_
      refine ln_icmp_ge (tgt := 56) hx hb (a := st.1 + i) (b := tkE (Rr 16) z st.1) (by omega) (by omega) dX2_word_12 (by decide) (fun c_2 => ?_) (fun c_2 => ?_)
      · -- c_2: nI (st.1 + i) ≥ nI (tkE (Rr 16) z st.1)
        refine lv_lload_n hx hb dX2_word_56 rfl (lv_at hl 1 rfl) ?_
        exact W.lret (v := x) hx hb hr (fun t9 ht9 hW9 => ⟨_, rfl, (by
   unfold p_word
   by_cases q9 : tkK (Rr 16) z st.1 = 2 ∧ tkE (Rr 16) z st.1 - st.1 < 8
   · rw [if_pos q9]
     first
     | exact absurd q9.1 (by assumption)
     | have ei : i = tkE (Rr 16) z st.1 - st.1 := by omega
       rw [← ei]; exact qx
   · rw [if_neg q9]
     have ei : i = 0 := by
       rcases Nat.eq_zero_or_pos i with y | y
       · exact y
       · exact absurd (hi0 y) q9
     rw [ei] at qx; exact qx), ht9⟩) (fun _ h9 => by cases h9) dX2_word_57
      · -- c_2: nI (st.1 + i) < nI (tkE (Rr 16) z st.1)
        refine lv_aload_n hx hb dX2_word_15 rfl (lv_at hl 0 rfl) ?_
        refine mg_21 X M (v := tkK (Rr 16) z st.1) rfl dX2_word_16 ?_
        refine lv_iconst (v := 2) hx hb dX2_word_19 (by decide) ?_
        refine lv_icmp_ne (tgt := 56) hx hb dX2_word_20 (by decide) (fun c_3 => ?_) (fun c_3 => ?_)
        · -- c_3: tkK (Rr 16) z st.1 ≠ 2
          refine lv_lload_n hx hb dX2_word_56 rfl (lv_at hl 1 rfl) ?_
          exact W.lret (v := x) hx hb hr (fun t9 ht9 hW9 => ⟨_, rfl, (by
   unfold p_word
   by_cases q9 : tkK (Rr 16) z st.1 = 2 ∧ tkE (Rr 16) z st.1 - st.1 < 8
   · rw [if_pos q9]
     first
     | exact absurd q9.1 (by assumption)
     | have ei : i = tkE (Rr 16) z st.1 - st.1 := by omega
       rw [← ei]; exact qx
   · rw [if_neg q9]
     have ei : i = 0 := by
       rcases Nat.eq_zero_or_pos i with y | y
       · exact y
       · exact absurd (hi0 y) q9
     rw [ei] at qx; exact qx), ht9⟩) (fun _ h9 => by cases h9) dX2_word_57
        · -- c_3: tkK (Rr 16) z st.1 = 2
          refine lv_aload_n hx hb dX2_word_23 rfl (lv_at hl 0 rfl) ?_
          refine mg_23 X M (v := nI (tkE (Rr 16) z st.1)) rfl dX2_word_24 ?_
          refine lv_aload_n hx hb dX2_word_27 rfl (lv_at hl 0 rfl) ?_
          refine mg_22 X M (v := nI st.1) rfl dX2_word_28 ?_
          refine lv_isub hx hb dX2_word_31 ?_
          refine lv_asi (y := nI ((tkE (Rr 16) z st.1) - st.1)) (nI_subN (a := tkE (Rr 16) z st.1) (b := st.1) (by omega)) ?_
          refine lv_bipush (v := 8) hx hb dX2_word_32 (by decide) ?_
          refine ln_icmp_ge (tgt := 56) hx hb (a := (tkE (Rr 16) z st.1) - st.1) (b := 8) (by omega) (by omega) dX2_word_34 (by decide) (fun c_4 => ?_) (fun c_4 => ?_)
          · -- c_4: nI ((tkE (Rr 16) z st.1) - st.1) ≥ 8
            refine lv_lload_n hx hb dX2_word_56 rfl (lv_at hl 1 rfl) ?_
            exact W.lret (v := x) hx hb hr (fun t9 ht9 hW9 => ⟨_, rfl, (by
   unfold p_word
   by_cases q9 : tkK (Rr 16) z st.1 = 2 ∧ tkE (Rr 16) z st.1 - st.1 < 8
   · rw [if_pos q9]
     first
     | exact absurd q9.1 (by assumption)
     | have ei : i = tkE (Rr 16) z st.1 - st.1 := by omega
       rw [← ei]; exact qx
   · rw [if_neg q9]
     have ei : i = 0 := by
       rcases Nat.eq_zero_or_pos i with y | y
       · exact y
       · exact absurd (hi0 y) q9
     rw [ei] at qx; exact qx), ht9⟩) (fun _ h9 => by cases h9) dX2_word_57
          · -- c_4: nI ((tkE (Rr 16) z st.1) - st.1) < 8
            refine lv_lload_n hx hb dX2_word_37 rfl (lv_at hl 1 rfl) ?_
            refine lv_bipush (v := 8) hx hb dX2_word_38 (by decide) ?_
            refine lv_lshl (v := x <<< ((8 : Int32).toInt64 &&& 63)) hx hb dX2_word_40 rfl ?_
            refine lv_aload_n hx hb dX2_word_41 rfl (lv_at hl 0 rfl) ?_
            refine mg_16 X M dX2_word_42 ?_
            refine lv_iload_n hx hb dX2_word_45 rfl (lv_at hl 2 rfl) ?_
            refine mr_16 X M (f := Rr 16) rfl (j := st.1 + i) (vp_in_nI (by omega) (by omega)) (nI_clamp (by omega)) dX2_word_46 ?_
            refine lv_i2l (v := (Rr 16 (st.1 + i)).toInt64) hx hb dX2_word_47 rfl ?_
            refine lv_lor hx hb dX2_word_48 ?_
            refine lv_lstore_n (lv' := [(1, .long ((x <<< ((8 : Int32).toInt64 &&& 63)) ||| ((Rr 16 (st.1 + i)).toInt64))), (0, .ref h), (3, .int (nI (st.1 + i)))]) hx hb dX2_word_49 rfl hl (by decide) rfl (fun ls hl => ?_)
            refine lv_iinc (v := nI (st.1 + i + 1)) (lv' := [(3, .int (nI (st.1 + i + 1))), (1, .long ((x <<< ((8 : Int32).toInt64 &&& 63)) ||| ((Rr 16 (st.1 + i)).toInt64))), (0, .ref h)]) hx hb dX2_word_50 hl (k := 2) rfl (mk_inc _) (by decide) rfl (fun ls hl => ?_)
            refine lv_goto (tgt := 7) hx hb dX2_word_53 (by decide) ?_
            exact L_1ih  (i + 1) ((x <<< ((8 : Int32).toInt64 &&& 63)) ||| ((Rr 16 (st.1 + i)).toInt64)) (by omega) (by first | (rw [itr_s, ← qx]; done) | (rw [itr_s, ← qx]; first | (simp [p_chr, c_2, c_3, c_4, up_s, up_n, nI_1, b2i]; done) | (simp_all [p_chr]; done) | grind [p_chr])) (fun _ => ⟨c_3, by omega⟩) (by omega) ls (lv_sub hl [2, 1, 0] rfl)
  exact L_1 ((tkE (Rr 16) z st.1 - st.1 - 0) + 1) 0 0 (Nat.zero_le _) (by first | rfl | (simp only [itr]; assumption) | (simp [itr, up_s, up_n, nI_1, b2i]; done)) (fun y => absurd y (Nat.lt_irrefl 0)) (Nat.lt_succ_self _) ls (lv_sub hl [2, 1, 0] rfl)

def lawCode (w : Int64) : Int32 := if w = 512852583788 then 0 else if w = 1953459308 then 1 else if w = 1718773093 then 2 else if w = 1735356260 then 3 else if w = 6447460 then 4 else if w = 6447470 then 5 else if w = 1818846836 then 6 else (-1000000)
def p_law (T : Nat → Int32) (z a : Nat) : Int32 := lawCode (p_word T z a)
set_option maxHeartbeats 4000000 in
set_option maxRecDepth 100000 in
theorem metX2_lawOfWord (l : Launch) (D : va_G) (cl : List vw_C) (hcl : cl[0]? = some (RX2, TX2, 61)) (h : Nat) (ad : Nat → Nat) (dA : ClassId) (G : Nat → Int32) (Rr : Nat → Nat → Int32) (T : Nat → Int32) (hT : Rr 16 = T) (z : Nat) (st : pS) (hz4 : z ≤ 400) (hst : st.1 ≤ z) : Met l yX2_lawOfWord (ws_ yX2_lawOfWord cX2_lawOfWord 3 (some .int)) ({ frames := 1, cells := 0, slots := 0, locals := 23 } : Room) (va_Pc [.ref h] (mPre D cl h ad dA (pF G T z st) Rr)) (vp_Si (fun r => r = p_law T z st.1)) 0 0 (fun _ => False) := by
  subst hT
  refine Met.ofW (cc := cX2_lawOfWord) (maxL := 3) (ret := (some .int)) (by decide) rfl ?_
  intro p e s m args below meth c s₁ B hml hv
  obtain ⟨rfl, hK, hP, hD⟩ := hv
  have hx := B.exec
  have hb := B.bytes
  have hr := B.returns
  have hts := atoms_spec (ws := (ws_ yX2_lawOfWord cX2_lawOfWord 3 (some .int))) B.pre
  have hts : ∀ w ∈ lw_all, w.before _ s = true := fun w h => hts w (List.mem_cons_of_mem _ h)
  have hown : s.vm.findClass RX2 = some m.cls := findClass_of_methodNamed B.named
  have hlocks := B.notSynchronized
  have S : CallFix p m c cX2_lawOfWord 3 s ([.ref h] : List Value).toArray lw_all RX2 := ⟨hx, hb, hml, hown, hts⟩
  have X : mX p s m ([.ref h] : List Value).toArray c cX2_lawOfWord 3 D cl dA := ⟨hx, hb, hml, hown, hts, hK, hcl⟩
  have M : mM D cl h ad dA (mN h ad) s (pF G (Rr 16) z st) Rr s.heap [] := ⟨hP, mW_self hD, va_S.rf⟩
  have hl := lv_entry ([.ref h]) (n := 3) (Nat.le_of_ble_eq_true rfl)
  rw [lg_entry_eq]
  generalize (lg_sl ([.ref h]) ++ List.replicate (3 - (lg_sl ([.ref h])).length) Slot.unset).toArray = ls at hl ⊢
  have hl : lv_has ls 3 [(0, .ref h)] := hl
  refine lv_aload_n hx hb dX2_lawOfWord_0 rfl (lv_at hl 0 rfl) ?_
  refine m_cQl (v := p_word (Rr 16) z st.1) (As := []) (rest := []) X M (metX2_word l D cl hcl h ad dA G Rr (Rr 16) rfl z st  hz4 hst) (cwV 0 hts (lw_V q1695 q1697 qs30 q62 q1698) rfl rfl rfl (by decide +kernel) ⟨Nat.le_of_ble_eq_true rfl, Nat.le_of_ble_eq_true rfl⟩) rfl hl.1 rfl (Nat.le_of_ble_eq_true rfl) dX2_lawOfWord_1 ⟨Nat.zero_le _, Nat.zero_le _⟩ ?_
  refine lv_lstore_n (lv' := [(1, .long (p_word (Rr 16) z st.1)), (0, .ref h)]) hx hb dX2_lawOfWord_4 rfl hl (by decide) rfl (fun ls hl => ?_)
  refine lv_lload_n hx hb dX2_lawOfWord_5 rfl (lv_at hl 0 rfl) ?_
  refine lv_ldc2 (v := 512852583788) hx hb hown (hts _ q1720) dX2_lawOfWord_6 ?_
  refine W.lcmp hx hb dX2_lawOfWord_9 ?_
  refine lc_if_ne (tgt := 17) hx hb dX2_lawOfWord_10 (by decide) (fun c_1 => ?_) (fun c_1 => ?_)
  · -- c_1: p_word (Rr 16) z st.1 ≠ 512852583788
    refine lv_lload_n hx hb dX2_lawOfWord_17 rfl (lv_at hl 0 rfl) ?_
    refine lv_ldc2 (v := 1953459308) hx hb hown (hts _ q1721) dX2_lawOfWord_18 ?_
    refine W.lcmp hx hb dX2_lawOfWord_21 ?_
    refine lc_if_ne (tgt := 29) hx hb dX2_lawOfWord_22 (by decide) (fun c_2 => ?_) (fun c_2 => ?_)
    · -- c_2: p_word (Rr 16) z st.1 ≠ 1953459308
      refine lv_lload_n hx hb dX2_lawOfWord_29 rfl (lv_at hl 0 rfl) ?_
      refine lv_ldc2 (v := 1718773093) hx hb hown (hts _ q1722) dX2_lawOfWord_30 ?_
      refine W.lcmp hx hb dX2_lawOfWord_33 ?_
      refine lc_if_ne (tgt := 41) hx hb dX2_lawOfWord_34 (by decide) (fun c_3 => ?_) (fun c_3 => ?_)
      · -- c_3: p_word (Rr 16) z st.1 ≠ 1718773093
        refine lv_lload_n hx hb dX2_lawOfWord_41 rfl (lv_at hl 0 rfl) ?_
        refine lv_ldc2 (v := 1735356260) hx hb hown (hts _ q1723) dX2_lawOfWord_42 ?_
        refine W.lcmp hx hb dX2_lawOfWord_45 ?_
        refine lc_if_ne (tgt := 53) hx hb dX2_lawOfWord_46 (by decide) (fun c_4 => ?_) (fun c_4 => ?_)
        · -- c_4: p_word (Rr 16) z st.1 ≠ 1735356260
          refine lv_lload_n hx hb dX2_lawOfWord_53 rfl (lv_at hl 0 rfl) ?_
          refine lv_ldc2 (v := 6447460) hx hb hown (hts _ q1724) dX2_lawOfWord_54 ?_
          refine W.lcmp hx hb dX2_lawOfWord_57 ?_
          refine lc_if_ne (tgt := 65) hx hb dX2_lawOfWord_58 (by decide) (fun c_5 => ?_) (fun c_5 => ?_)
          · -- c_5: p_word (Rr 16) z st.1 ≠ 6447460
            refine lv_lload_n hx hb dX2_lawOfWord_65 rfl (lv_at hl 0 rfl) ?_
            refine lv_ldc2 (v := 6447470) hx hb hown (hts _ q1725) dX2_lawOfWord_66 ?_
            refine W.lcmp hx hb dX2_lawOfWord_69 ?_
            refine lc_if_ne (tgt := 77) hx hb dX2_lawOfWord_70 (by decide) (fun c_6 => ?_) (fun c_6 => ?_)
            · -- c_6: p_word (Rr 16) z st.1 ≠ 6447470
              refine lv_lload_n hx hb dX2_lawOfWord_77 rfl (lv_at hl 0 rfl) ?_
              refine lv_ldc2 (v := 1818846836) hx hb hown (hts _ q1726) dX2_lawOfWord_78 ?_
              refine W.lcmp hx hb dX2_lawOfWord_81 ?_
              refine lc_if_ne (tgt := 90) hx hb dX2_lawOfWord_82 (by decide) (fun c_7 => ?_) (fun c_7 => ?_)
              · -- c_7: p_word (Rr 16) z st.1 ≠ 1818846836
                refine lv_ldc (v := (-1000000)) hx hb hown (hts _ q1430) dX2_lawOfWord_90 ?_
                exact W.iret (v := (-1000000)) hx hb hr (fun t9 ht9 hW9 => ⟨_, rfl, (by first | (simp [p_law, lawCode, c_1, c_2, c_3, c_4, c_5, c_6, c_7, up_s, up_n, nI_1, b2i]; done) | (simp_all [p_law, lawCode]; done) | grind [p_law, lawCode]), ht9⟩) (fun _ h9 => by cases h9) dX2_lawOfWord_92
              · -- c_7: p_word (Rr 16) z st.1 = 1818846836
                refine lv_bipush (v := 6) hx hb dX2_lawOfWord_85 (by decide) ?_
                refine lv_goto (tgt := 92) hx hb dX2_lawOfWord_87 (by decide) ?_
                exact W.iret (v := 6) hx hb hr (fun t9 ht9 hW9 => ⟨_, rfl, (by first | (simp [p_law, lawCode, c_1, c_2, c_3, c_4, c_5, c_6, c_7, up_s, up_n, nI_1, b2i]; done) | (simp_all [p_law, lawCode]; done) | grind [p_law, lawCode]), ht9⟩) (fun _ h9 => by cases h9) dX2_lawOfWord_92
            · -- c_6: p_word (Rr 16) z st.1 = 6447470
              refine lv_iconst (v := 5) hx hb dX2_lawOfWord_73 (by decide) ?_
              refine lv_goto (tgt := 92) hx hb dX2_lawOfWord_74 (by decide) ?_
              exact W.iret (v := 5) hx hb hr (fun t9 ht9 hW9 => ⟨_, rfl, (by first | (simp [p_law, lawCode, c_1, c_2, c_3, c_4, c_5, c_6, up_s, up_n, nI_1, b2i]; done) | (simp_all [p_law, lawCode]; done) | grind [p_law, lawCode]), ht9⟩) (fun _ h9 => by cases h9) dX2_lawOfWord_92
          · -- c_5: p_word (Rr 16) z st.1 = 6447460
            refine lv_iconst (v := 4) hx hb dX2_lawOfWord_61 (by decide) ?_
            refine lv_goto (tgt := 92) hx hb dX2_lawOfWord_62 (by decide) ?_
            exact W.iret (v := 4) hx hb hr (fun t9 ht9 hW9 => ⟨_, rfl, (by first | (simp [p_law, lawCode, c_1, c_2, c_3, c_4, c_5, up_s, up_n, nI_1, b2i]; done) | (simp_all [p_law, lawCode]; done) | grind [p_law, lawCode]), ht9⟩) (fun _ h9 => by cases h9) dX2_lawOfWord_92
        · -- c_4: p_word (Rr 16) z st.1 = 1735356260
          refine lv_iconst (v := 3) hx hb dX2_lawOfWord_49 (by decide) ?_
          refine lv_goto (tgt := 92) hx hb dX2_lawOfWord_50 (by decide) ?_
          exact W.iret (v := 3) hx hb hr (fun t9 ht9 hW9 => ⟨_, rfl, (by first | (simp [p_law, lawCode, c_1, c_2, c_3, c_4, up_s, up_n, nI_1, b2i]; done) | (simp_all [p_law, lawCode]; done) | grind [p_law, lawCode]), ht9⟩) (fun _ h9 => by cases h9) dX2_lawOfWord_92
      · -- c_3: p_word (Rr 16) z st.1 = 1718773093
        refine lv_iconst (v := 2) hx hb dX2_lawOfWord_37 (by decide) ?_
        refine lv_goto (tgt := 92) hx hb dX2_lawOfWord_38 (by decide) ?_
        exact W.iret (v := 2) hx hb hr (fun t9 ht9 hW9 => ⟨_, rfl, (by first | (simp [p_law, lawCode, c_1, c_2, c_3, up_s, up_n, nI_1, b2i]; done) | (simp_all [p_law, lawCode]; done) | grind [p_law, lawCode]), ht9⟩) (fun _ h9 => by cases h9) dX2_lawOfWord_92
    · -- c_2: p_word (Rr 16) z st.1 = 1953459308
      refine lv_iconst (v := 1) hx hb dX2_lawOfWord_25 (by decide) ?_
      refine lv_goto (tgt := 92) hx hb dX2_lawOfWord_26 (by decide) ?_
      exact W.iret (v := 1) hx hb hr (fun t9 ht9 hW9 => ⟨_, rfl, (by first | (simp [p_law, lawCode, c_1, c_2, up_s, up_n, nI_1, b2i]; done) | (simp_all [p_law, lawCode]; done) | grind [p_law, lawCode]), ht9⟩) (fun _ h9 => by cases h9) dX2_lawOfWord_92
  · -- c_1: p_word (Rr 16) z st.1 = 512852583788
    refine lv_iconst (v := 0) hx hb dX2_lawOfWord_13 (by decide) ?_
    refine lv_goto (tgt := 92) hx hb dX2_lawOfWord_14 (by decide) ?_
    exact W.iret (v := 0) hx hb hr (fun t9 ht9 hW9 => ⟨_, rfl, (by first | (simp [p_law, lawCode, c_1, up_s, up_n, nI_1, b2i]; done) | (simp_all [p_law, lawCode]; done) | grind [p_law, lawCode]), ht9⟩) (fun _ h9 => by cases h9) dX2_lawOfWord_92

def p_num (T : Nat → Int32) (z : Nat) (st : pS) (most : Int32) : Int32 × pS := if 0 < st.2.1 then (0, st) else (p_val T z st.1, p_need T z (if tkK T z st.1 = 3 ∧ most < p_val T z st.1 then p_bad st 2 else st) (decide (tkK T z st.1 = 3)))
theorem p_num_le {T : Nat → Int32} {z : Nat} {st : pS} {most : Int32} (h : st.1 ≤ z) : (p_num T z st most).2.1 ≤ z := by
  unfold p_num
  split
  · exact h
  · refine p_need_le ?_
    split
    · rw [p_bad_1]; exact h
    · exact h
theorem p_num_n {T : Nat → Int32} {z : Nat} {st : pS} {most : Int32} : (p_num T z st most).2.2.2.2 = st.2.2.2 := by
  unfold p_num
  split
  · rfl
  · refine p_need_n.trans ?_
    split
    · exact p_bad_n
    · rfl
set_option maxHeartbeats 4000000 in
set_option maxRecDepth 100000 in
theorem metX2_numberTo (l : Launch) (D : va_G) (cl : List vw_C) (hcl : cl[0]? = some (RX2, TX2, 61)) (h : Nat) (ad : Nat → Nat) (dA : ClassId) (G : Nat → Int32) (Rr : Nat → Nat → Int32) (T : Nat → Int32) (hT : Rr 16 = T) (z : Nat) (st : pS) (p1 : Int32) (hz4 : z ≤ 400) (hst : st.1 ≤ z) : Met l yX2_numberTo (ws_ yX2_numberTo cX2_numberTo 4 (some .int)) ({ frames := 3, cells := 0, slots := 0, locals := 63 } : Room) (va_Pc [.ref h, .int p1] (mPre D cl h ad dA (pF G T z st) Rr)) (va_Qi (fun r u => (r, u) = ((p_num T z st p1).1, pF G T z (p_num T z st p1).2, Rr)) (mB D cl h ad dA) (mN h ad)) 0 0 (mN h ad) := by
  subst hT
  refine Met.ofW (cc := cX2_numberTo) (maxL := 4) (ret := (some .int)) (by decide) rfl ?_
  intro p e s m args below meth c s₁ B hml hv
  obtain ⟨rfl, hK, hP, hD⟩ := hv
  have hx := B.exec
  have hb := B.bytes
  have hr := B.returns
  have hts := atoms_spec (ws := (ws_ yX2_numberTo cX2_numberTo 4 (some .int))) B.pre
  have hts : ∀ w ∈ lw_all, w.before _ s = true := fun w h => hts w (List.mem_cons_of_mem _ h)
  have hown : s.vm.findClass RX2 = some m.cls := findClass_of_methodNamed B.named
  have hlocks := B.notSynchronized
  have S : CallFix p m c cX2_numberTo 4 s ([.ref h, .int p1] : List Value).toArray lw_all RX2 := ⟨hx, hb, hml, hown, hts⟩
  have X : mX p s m ([.ref h, .int p1] : List Value).toArray c cX2_numberTo 4 D cl dA := ⟨hx, hb, hml, hown, hts, hK, hcl⟩
  have M : mM D cl h ad dA (mN h ad) s (pF G (Rr 16) z st) Rr s.heap [] := ⟨hP, mW_self hD, va_S.rf⟩
  have hl := lv_entry ([.ref h, .int p1]) (n := 4) (Nat.le_of_ble_eq_true rfl)
  rw [lg_entry_eq]
  generalize (lg_sl ([.ref h, .int p1]) ++ List.replicate (4 - (lg_sl ([.ref h, .int p1])).length) Slot.unset).toArray = ls at hl ⊢
  have hl : lv_has ls 4 [(0, .ref h), (1, .int p1)] := hl
  have hle9 := tkE_le (T := Rr 16) hst
  refine lv_aload_n hx hb dX2_numberTo_0 rfl (lv_at hl 0 rfl) ?_
  refine mg_24 X M (v := st.2.1) rfl dX2_numberTo_1 ?_
  refine lb_if_le (tgt := 9) hx hb dX2_numberTo_4 (by decide) (fun c_1 c_1' => ?_) (fun c_1 c_1' => ?_)
  · -- c_1: st.2.1 ≤ 0
    refine lv_iconst (v := 0) hx hb dX2_numberTo_9 (by decide) ?_
    refine lv_istore_n (lv' := [(2, .int 0), (0, .ref h), (1, .int p1)]) hx hb dX2_numberTo_10 rfl hl (by decide) rfl (fun ls hl => ?_)
    refine lv_aload_n hx hb dX2_numberTo_11 rfl (lv_at hl 1 rfl) ?_
    refine mg_22 X M (v := nI st.1) rfl dX2_numberTo_12 ?_
    refine lv_istore_n (lv' := [(3, .int (nI st.1)), (2, .int 0), (0, .ref h), (1, .int p1)]) hx hb dX2_numberTo_15 rfl hl (by decide) rfl (fun ls hl => ?_)
    have L_2 : ∀ (fuL_2 : Nat) (i : Nat) (x : Int32), (i ≤ tkE (Rr 16) z st.1 - st.1) → (x = itr (p_dig (Rr 16) st.1) i 0) → (0 < i → tkK (Rr 16) z st.1 = 3) → tkE (Rr 16) z st.1 - st.1 - i < fuL_2 → ∀ (H : Heap) (locs : List Loc), mM D cl h ad dA (mN h ad) s (pF G (Rr 16) z st) Rr H locs → ∀ ls, lv_has ls 4 [(0, .ref h), (1, .int p1), (2, .int x), (3, .int (nI (st.1 + i)))] → W p l e ({ frames := 3, cells := 0, slots := 0, locals := 63 } : Room) s m ([.ref h, .int p1] : List Value).toArray below meth c H locs 0 0 (MQ below (va_Qi (fun r u => (r, u) = ((p_num (Rr 16) z st p1).1, pF G (Rr 16) z (p_num (Rr 16) z st p1).2, Rr)) (mB D cl h ad dA) (mN h ad)) ([.ref h, .int p1] : List Value).toArray s 0 0 (mN h ad)) (F0 m 16 ls []) := by
      intro fuL_2
      induction fuL_2 with
      | zero => intro i x hi qx hi0 hfuL_2; exact absurd hfuL_2 (Nat.not_lt_zero _)
      | succ fuL_2 L_2ih =>
        intro i x hi qx hi0 hfuL_2 H locs M ls hl
        refine lv_iload_n hx hb dX2_numberTo_16 rfl (lv_at hl 3 rfl) ?_
        refine lv_aload_n hx hb dX2_numberTo_17 rfl (lv_at hl 0 rfl) ?_
        refine mg_23 X M (v := nI (tkE (Rr 16) z st.1)) rfl dX2_numberTo_18 ?_
        refine ln_icmp_ge (tgt := 53) hx hb (a := st.1 + i) (b := tkE (Rr 16) z st.1) (by omega) (by omega) dX2_numberTo_21 (by decide) (fun c_3 => ?_) (fun c_3 => ?_)
        · -- c_3: nI (st.1 + i) ≥ nI (tkE (Rr 16) z st.1)
          have ev : x = p_val (Rr 16) z st.1 := by
            unfold p_val
            by_cases q9 : tkK (Rr 16) z st.1 = 3
            · rw [if_pos q9]
              first
              | exact absurd q9 (by assumption)
              | have ei : i = tkE (Rr 16) z st.1 - st.1 := by omega
                rw [← ei]; exact qx
            · rw [if_neg q9]
              have ei : i = 0 := by
                rcases Nat.eq_zero_or_pos i with y | y
                · exact y
                · exact absurd (hi0 y) q9
              rw [ei] at qx; exact qx
          subst ev
          refine lv_aload_n hx hb dX2_numberTo_53 rfl (lv_at hl 0 rfl) ?_
          refine mg_21 X M (v := tkK (Rr 16) z st.1) rfl dX2_numberTo_54 ?_
          refine lv_iconst (v := 3) hx hb dX2_numberTo_57 (by decide) ?_
          refine lv_icmp_ne (tgt := 71) hx hb dX2_numberTo_58 (by decide) (fun c_4 => ?_) (fun c_4 => ?_)
          · -- c_4: tkK (Rr 16) z st.1 ≠ 3
            refine lv_aload_n hx hb dX2_numberTo_71 rfl (lv_at hl 0 rfl) ?_
            refine lv_aload_n hx hb dX2_numberTo_72 rfl (lv_at hl 0 rfl) ?_
            refine mg_21 X M (v := tkK (Rr 16) z st.1) rfl dX2_numberTo_73 ?_
            refine lv_iconst (v := 3) hx hb dX2_numberTo_76 (by decide) ?_
            refine lv_icmp_ne (tgt := 84) hx hb dX2_numberTo_77 (by decide) (fun c_5 => ?_) (fun c_5 => absurd c_5 c_4)
            refine lv_iconst (v := 0) hx hb dX2_numberTo_84 (by decide) ?_
            refine m_cUv (As := [.int 0]) (rest := []) X M (metX2_need l D cl hcl h ad dA G Rr (Rr 16) rfl z st false hz4 hst) (cwV 1 hts (lw_V q1700 q1702 qs31 q62 q1703) rfl rfl rfl (by decide +kernel) ⟨Nat.le_of_ble_eq_true rfl, Nat.le_of_ble_eq_true rfl⟩) rfl hl.1 rfl (Nat.le_of_ble_eq_true rfl) dX2_numberTo_85 ⟨Nat.zero_le _, Nat.zero_le _⟩ (fun F9 R9 hr9 H locs M => ?_)
            obtain ⟨rfl, rfl⟩ : F9 = pF G (Rr 16) z (p_need (Rr 16) z st false) ∧ Rr = R9 := ⟨congrArg Prod.fst hr9, (congrArg Prod.snd hr9).symm⟩
            obtain ⟨st_6, est_6⟩ : ∃ x9, x9 = p_need (Rr 16) z st false := ⟨_, rfl⟩
            rw [← est_6] at M
            have hst_6 : st_6.1 ≤ z := by rw [est_6]; exact p_need_le hst
            have nst_6 : st_6.2.2.2 = (st).2.2.2 := by rw [est_6]; exact p_need_n
            refine lv_iload_n hx hb dX2_numberTo_88 rfl (lv_at hl 2 rfl) ?_
            exact W.iret (v := p_val (Rr 16) z st.1) hx hb hr (fun t9 ht9 hW9 => ⟨⟨_, (pF G (Rr 16) z st_6, Rr), rfl, (by first | (simp [p_num, c_1, c_1', c_3, c_4, ← est_6, nst_6, up_s, up_n, nI_1, b2i]; done) | (simp_all [p_num]; done) | grind [p_num]), by show va_P _ _ _ t9.heap; rw [ht9]; exact M.1⟩, M.2.2.F ht9⟩) M.2.2.2.2 dX2_numberTo_89
          · -- c_4: tkK (Rr 16) z st.1 = 3
            refine lv_iload_n hx hb dX2_numberTo_61 rfl (lv_at hl 2 rfl) ?_
            refine lv_iload_n hx hb dX2_numberTo_62 rfl (lv_at hl 1 rfl) ?_
            refine lb_icmp_le (tgt := 71) hx hb dX2_numberTo_63 (by decide) (fun c_7 c_7' => ?_) (fun c_7 c_7' => ?_)
            · -- c_7: p_val (Rr 16) z st.1 ≤ p1
              refine lv_aload_n hx hb dX2_numberTo_71 rfl (lv_at hl 0 rfl) ?_
              refine lv_aload_n hx hb dX2_numberTo_72 rfl (lv_at hl 0 rfl) ?_
              refine mg_21 X M (v := tkK (Rr 16) z st.1) rfl dX2_numberTo_73 ?_
              refine lv_iconst (v := 3) hx hb dX2_numberTo_76 (by decide) ?_
              refine lv_icmp_ne (tgt := 84) hx hb dX2_numberTo_77 (by decide) (fun c_8 => absurd c_4 c_8) (fun c_8 => ?_)
              refine lv_iconst (v := 1) hx hb dX2_numberTo_80 (by decide) ?_
              refine lv_goto (tgt := 85) hx hb dX2_numberTo_81 (by decide) ?_
              refine m_cUv (As := [.int 1]) (rest := []) X M (metX2_need l D cl hcl h ad dA G Rr (Rr 16) rfl z st true hz4 hst) (cwV 1 hts (lw_V q1700 q1702 qs31 q62 q1703) rfl rfl rfl (by decide +kernel) ⟨Nat.le_of_ble_eq_true rfl, Nat.le_of_ble_eq_true rfl⟩) rfl hl.1 rfl (Nat.le_of_ble_eq_true rfl) dX2_numberTo_85 ⟨Nat.zero_le _, Nat.zero_le _⟩ (fun F9 R9 hr9 H locs M => ?_)
              obtain ⟨rfl, rfl⟩ : F9 = pF G (Rr 16) z (p_need (Rr 16) z st true) ∧ Rr = R9 := ⟨congrArg Prod.fst hr9, (congrArg Prod.snd hr9).symm⟩
              obtain ⟨st_9, est_9⟩ : ∃ x9, x9 = p_need (Rr 16) z st true := ⟨_, rfl⟩
              rw [← est_9] at M
              have hst_9 : st_9.1 ≤ z := by rw [est_9]; exact p_need_le hst
              have nst_9 : st_9.2.2.2 = (st).2.2.2 := by rw [est_9]; exact p_need_n
              refine lv_iload_n hx hb dX2_numberTo_88 rfl (lv_at hl 2 rfl) ?_
              exact W.iret (v := p_val (Rr 16) z st.1) hx hb hr (fun t9 ht9 hW9 => ⟨⟨_, (pF G (Rr 16) z st_9, Rr), rfl, (by first | (simp [p_num, c_1, c_1', c_3, c_4, c_7, c_7', ← est_9, nst_9, up_s, up_n, nI_1, b2i]; done) | (simp_all [p_num]; done) | grind [p_num]), by show va_P _ _ _ t9.heap; rw [ht9]; exact M.1⟩, M.2.2.F ht9⟩) M.2.2.2.2 dX2_numberTo_89
            · -- c_7: p_val (Rr 16) z st.1 > p1
              refine lv_aload_n hx hb dX2_numberTo_66 rfl (lv_at hl 0 rfl) ?_
              refine lv_iconst (v := 2) hx hb dX2_numberTo_67 (by decide) ?_
              refine m_cUv (As := [.int 2]) (rest := []) X M (metX2_bad l D cl hcl h ad dA G Rr (Rr 16) rfl z st 2) (cwV 1 hts (lw_V q1704 q1706 qs32 q62 q1707) rfl rfl rfl (by decide +kernel) ⟨Nat.le_of_ble_eq_true rfl, Nat.le_of_ble_eq_true rfl⟩) rfl hl.1 rfl (Nat.le_of_ble_eq_true rfl) dX2_numberTo_68 ⟨Nat.zero_le _, Nat.zero_le _⟩ (fun F9 R9 hr9 H locs M => ?_)
              obtain ⟨rfl, rfl⟩ : F9 = pF G (Rr 16) z (p_bad st 2) ∧ Rr = R9 := ⟨congrArg Prod.fst hr9, (congrArg Prod.snd hr9).symm⟩
              refine lv_aload_n hx hb dX2_numberTo_71 rfl (lv_at hl 0 rfl) ?_
              refine lv_aload_n hx hb dX2_numberTo_72 rfl (lv_at hl 0 rfl) ?_
              refine mg_21 X M (v := tkK (Rr 16) z st.1) rfl dX2_numberTo_73 ?_
              refine lv_iconst (v := 3) hx hb dX2_numberTo_76 (by decide) ?_
              refine lv_icmp_ne (tgt := 84) hx hb dX2_numberTo_77 (by decide) (fun c_10 => absurd c_4 c_10) (fun c_10 => ?_)
              refine lv_iconst (v := 1) hx hb dX2_numberTo_80 (by decide) ?_
              refine lv_goto (tgt := 85) hx hb dX2_numberTo_81 (by decide) ?_
              refine m_cUv (As := [.int 1]) (rest := []) X M (metX2_need l D cl hcl h ad dA G Rr (Rr 16) rfl z (p_bad st 2) true hz4 hst) (cwV 1 hts (lw_V q1700 q1702 qs31 q62 q1703) rfl rfl rfl (by decide +kernel) ⟨Nat.le_of_ble_eq_true rfl, Nat.le_of_ble_eq_true rfl⟩) rfl hl.1 rfl (Nat.le_of_ble_eq_true rfl) dX2_numberTo_85 ⟨Nat.zero_le _, Nat.zero_le _⟩ (fun F9 R9 hr9 H locs M => ?_)
              obtain ⟨rfl, rfl⟩ : F9 = pF G (Rr 16) z (p_need (Rr 16) z (p_bad st 2) true) ∧ Rr = R9 := ⟨congrArg Prod.fst hr9, (congrArg Prod.snd hr9).symm⟩
              obtain ⟨st_11, est_11⟩ : ∃ x9, x9 = p_need (Rr 16) z (p_bad st 2) true := ⟨_, rfl⟩
              rw [← est_11] at M
              have hst_11 : st_11.1 ≤ z := by rw [est_11]; exact p_need_le hst
              have nst_11 : st_11.2.2.2 = ((p_bad st 2)).2.2.2 := by rw [est_11]; exact p_need_n
              refine lv_iload_n hx hb dX2_numberTo_88 rfl (lv_at hl 2 rfl) ?_
              exact W.iret (v := p_val (Rr 16) z st.1) hx hb hr (fun t9 ht9 hW9 => ⟨⟨_, (pF G (Rr 16) z st_11, Rr), rfl, (by first | (simp [p_num, c_1, c_1', c_3, c_4, c_7, c_7', ← est_11, nst_11, up_s, up_n, nI_1, b2i]; done) | (simp_all [p_num]; done) | grind [p_num]), by show va_P _ _ _ t9.heap; rw [ht9]; exact M.1⟩, M.2.2.F ht9⟩) M.2.2.2.2 dX2_numberTo_89
        · -- c_3: nI (st.1 + i) < nI (tkE (Rr 16) z st.1)
          refine lv_aload_n hx hb dX2_numberTo_24 rfl (lv_at hl 0 rfl) ?_
          refine mg_21 X M (v := tkK (Rr 16) z st.1) rfl dX2_numberTo_25 ?_
          refine lv_iconst (v := 3) hx hb dX2_numberTo_28 (by decide) ?_
          refine lv_icmp_ne (tgt := 53) hx hb dX2_numberTo_29 (by decide) (fun c_12 => ?_) (fun c_12 => ?_)
          · -- c_12: tkK (Rr 16) z st.1 ≠ 3
            have ev : x = p_val (Rr 16) z st.1 := by
              unfold p_val
              by_cases q9 : tkK (Rr 16) z st.1 = 3
              · rw [if_pos q9]
                first
                | exact absurd q9 (by assumption)
                | have ei : i = tkE (Rr 16) z st.1 - st.1 := by omega
                  rw [← ei]; exact qx
              · rw [if_neg q9]
                have ei : i = 0 := by
                  rcases Nat.eq_zero_or_pos i with y | y
                  · exact y
                  · exact absurd (hi0 y) q9
                rw [ei] at qx; exact qx
            subst ev
            refine lv_aload_n hx hb dX2_numberTo_53 rfl (lv_at hl 0 rfl) ?_
            refine mg_21 X M (v := tkK (Rr 16) z st.1) rfl dX2_numberTo_54 ?_
            refine lv_iconst (v := 3) hx hb dX2_numberTo_57 (by decide) ?_
            refine lv_icmp_ne (tgt := 71) hx hb dX2_numberTo_58 (by decide) (fun c_13 => ?_) (fun c_13 => absurd c_13 c_12)
            refine lv_aload_n hx hb dX2_numberTo_71 rfl (lv_at hl 0 rfl) ?_
            refine lv_aload_n hx hb dX2_numberTo_72 rfl (lv_at hl 0 rfl) ?_
            refine mg_21 X M (v := tkK (Rr 16) z st.1) rfl dX2_numberTo_73 ?_
            refine lv_iconst (v := 3) hx hb dX2_numberTo_76 (by decide) ?_
            refine lv_icmp_ne (tgt := 84) hx hb dX2_numberTo_77 (by decide) (fun c_14 => ?_) (fun c_14 => absurd c_14 c_12)
            refine lv_iconst (v := 0) hx hb dX2_numberTo_84 (by decide) ?_
            refine m_cUv (As := [.int 0]) (rest := []) X M (metX2_need l D cl hcl h ad dA G Rr (Rr 16) rfl z st false hz4 hst) (cwV 1 hts (lw_V q1700 q1702 qs31 q62 q1703) rfl rfl rfl (by decide +kernel) ⟨Nat.le_of_ble_eq_true rfl, Nat.le_of_ble_eq_true rfl⟩) rfl hl.1 rfl (Nat.le_of_ble_eq_true rfl) dX2_numberTo_85 ⟨Nat.zero_le _, Nat.zero_le _⟩ (fun F9 R9 hr9 H locs M => ?_)
            obtain ⟨rfl, rfl⟩ : F9 = pF G (Rr 16) z (p_need (Rr 16) z st false) ∧ Rr = R9 := ⟨congrArg Prod.fst hr9, (congrArg Prod.snd hr9).symm⟩
            obtain ⟨st_15, est_15⟩ : ∃ x9, x9 = p_need (Rr 16) z st false := ⟨_, rfl⟩
            rw [← est_15] at M
            have hst_15 : st_15.1 ≤ z := by rw [est_15]; exact p_need_le hst
            have nst_15 : st_15.2.2.2 = (st).2.2.2 := by rw [est_15]; exact p_need_n
            refine lv_iload_n hx hb dX2_numberTo_88 rfl (lv_at hl 2 rfl) ?_
            exact W.iret (v := p_val (Rr 16) z st.1) hx hb hr (fun t9 ht9 hW9 => ⟨⟨_, (pF G (Rr 16) z st_15, Rr), rfl, (by first | (simp [p_num, c_1, c_1', c_3, c_12, ← est_15, nst_15, up_s, up_n, nI_1, b2i]; done) | (simp_all [p_num]; done) | grind [p_num]), by show va_P _ _ _ t9.heap; rw [ht9]; exact M.1⟩, M.2.2.F ht9⟩) M.2.2.2.2 dX2_numberTo_89
          · -- c_12: tkK (Rr 16) z st.1 = 3
            refine lv_bipush (v := 10) hx hb dX2_numberTo_32 (by decide) ?_
            refine lv_iload_n hx hb dX2_numberTo_34 rfl (lv_at hl 2 rfl) ?_
            refine lv_imul hx hb dX2_numberTo_35 ?_
            refine lv_aload_n hx hb dX2_numberTo_36 rfl (lv_at hl 0 rfl) ?_
            refine mg_16 X M dX2_numberTo_37 ?_
            refine lv_iload_n hx hb dX2_numberTo_40 rfl (lv_at hl 3 rfl) ?_
            refine mr_16 X M (f := Rr 16) rfl (j := st.1 + i) (vp_in_nI (by omega) (by omega)) (nI_clamp (by omega)) dX2_numberTo_41 ?_
            refine lv_iadd hx hb dX2_numberTo_42 ?_
            refine lv_bipush (v := 48) hx hb dX2_numberTo_43 (by decide) ?_
            refine lv_isub hx hb dX2_numberTo_45 ?_
            refine lv_istore_n (lv' := [(2, .int (((10 * x) + (Rr 16 (st.1 + i))) - 48)), (0, .ref h), (1, .int p1), (3, .int (nI (st.1 + i)))]) hx hb dX2_numberTo_46 rfl hl (by decide) rfl (fun ls hl => ?_)
            refine lv_iinc (v := nI (st.1 + i + 1)) (lv' := [(3, .int (nI (st.1 + i + 1))), (2, .int (((10 * x) + (Rr 16 (st.1 + i))) - 48)), (0, .ref h), (1, .int p1)]) hx hb dX2_numberTo_47 hl (k := 3) rfl (mk_inc _) (by decide) rfl (fun ls hl => ?_)
            refine lv_goto (tgt := 16) hx hb dX2_numberTo_50 (by decide) ?_
            exact L_2ih  (i + 1) (((10 * x) + (Rr 16 (st.1 + i))) - 48) (by omega) (by first | (rw [itr_s, ← qx]; done) | (rw [itr_s, ← qx]; first | (simp [p_dig, c_1, c_1', c_3, c_12, up_s, up_n, nI_1, b2i]; done) | (simp_all [p_dig]; done) | grind [p_dig])) (fun _ => c_12) (by omega) _ _ M ls (lv_sub hl [2, 3, 1, 0] rfl)
    exact L_2 ((tkE (Rr 16) z st.1 - st.1 - 0) + 1) 0 0 (Nat.zero_le _) (by first | rfl | (simp only [itr]; assumption) | (simp [itr, c_1, c_1', up_s, up_n, nI_1, b2i]; done)) (fun y => absurd y (Nat.lt_irrefl 0)) (Nat.lt_succ_self _) _ _ M ls (lv_sub hl [2, 3, 1, 0] rfl)
  · -- c_1: st.2.1 > 0
    refine lv_iconst (v := 0) hx hb dX2_numberTo_7 (by decide) ?_
    exact W.iret (v := 0) hx hb hr (fun t9 ht9 hW9 => ⟨⟨_, (pF G (Rr 16) z st, Rr), rfl, (by first | (simp [p_num, c_1, c_1', up_s, up_n, nI_1, b2i]; done) | (simp_all [p_num]; done) | grind [p_num]), by show va_P _ _ _ t9.heap; rw [ht9]; exact M.1⟩, M.2.2.F ht9⟩) M.2.2.2.2 dX2_numberTo_8

