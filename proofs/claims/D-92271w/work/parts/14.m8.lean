/-! THE REFERENCE, 8: tokens of the tape; laws read -/
def tkB (T : Nat → Int32) (z k : Nat) : Int32 := if k < z then T k else (-1000000)
def tkRun (f : Int32 → Bool) (T : Nat → Int32) (z : Nat) : Nat → Nat → Nat
  | 0, p => p
  | n + 1, p => if f (tkB T z p) = true then tkRun f T z n (p + 1) else p
def tkEnd (f : Int32 → Bool) (T : Nat → Int32) (z p : Nat) : Nat := tkRun f T z (z + 1 - p) p
theorem tkB_ge {T : Nat → Int32} {z k : Nat} (h : z ≤ k) : tkB T z k = (-1000000) := if_neg (by omega)
theorem tkEnd_t {f : Int32 → Bool} {T : Nat → Int32} {z p : Nat} (hf : f (-1000000) = false) (h : f (tkB T z p) = true) : p < z ∧ tkEnd f T z p = tkEnd f T z (p + 1) := by
  have hp : p < z := by
    rcases Nat.lt_or_ge p z with q | q
    · exact q
    · rw [tkB_ge q, hf] at h; cases h
  refine ⟨hp, ?_⟩
  unfold tkEnd
  rw [show z + 1 - p = (z + 1 - (p + 1)) + 1 by omega]
  show (if f (tkB T z p) = true then tkRun f T z (z + 1 - (p + 1)) (p + 1) else p) = _
  rw [if_pos h]
theorem tkEnd_f {f : Int32 → Bool} {T : Nat → Int32} {z p : Nat} (h : f (tkB T z p) = false) : tkEnd f T z p = p := by
  unfold tkEnd
  rcases z + 1 - p with _ | n
  · rfl
  · show (if f (tkB T z p) = true then tkRun f T z n (p + 1) else p) = _
    rw [if_neg (by rw [h]; decide)]
theorem tkRun_le {f : Int32 → Bool} {T : Nat → Int32} {z : Nat} (hf : f (-1000000) = false) : ∀ n p : Nat, p ≤ z → p ≤ tkRun f T z n p ∧ tkRun f T z n p ≤ z := by
  intro n
  induction n with
  | zero => intro p hp; exact ⟨Nat.le_refl _, hp⟩
  | succ n ih =>
    intro p hp
    by_cases h : f (tkB T z p) = true
    · have := (tkEnd_t hf h).1
      show p ≤ (if f (tkB T z p) = true then tkRun f T z n (p + 1) else p) ∧ (if f (tkB T z p) = true then tkRun f T z n (p + 1) else p) ≤ z
      rw [if_pos h]
      have := ih (p + 1) (by omega)
      omega
    · show p ≤ (if f (tkB T z p) = true then tkRun f T z n (p + 1) else p) ∧ (if f (tkB T z p) = true then tkRun f T z n (p + 1) else p) ≤ z
      rw [if_neg h]; omega
theorem tkEnd_le {f : Int32 → Bool} {T : Nat → Int32} {z p : Nat} (hf : f (-1000000) = false) (hp : p ≤ z) : p ≤ tkEnd f T z p ∧ tkEnd f T z p ≤ z := tkRun_le hf _ p hp
def isSp (x : Int32) : Bool := decide (x = 32) || decide (x = 10)
def tkSk (T : Nat → Int32) (z p : Nat) : Nat := tkEnd isSp T z p
def tkE (T : Nat → Int32) (z a : Nat) : Nat := if tkB T z a = (-1000000) then a else if inB 97 122 (tkB T z a) = true then tkEnd (inB 97 122) T z a else if inB 48 57 (tkB T z a) = true then tkEnd (inB 48 57) T z a else a + 1
def tkK (T : Nat → Int32) (z a : Nat) : Int32 := if tkB T z a = (-1000000) then 1 else if inB 97 122 (tkB T z a) = true then 2 else if inB 48 57 (tkB T z a) = true then (if 4 < tkEnd (inB 48 57) T z a - a then 0 else 3) else if tkB T z a = 59 then 4 else 0
theorem tkSk_le {T : Nat → Int32} {z p : Nat} (hp : p ≤ z) : p ≤ tkSk T z p ∧ tkSk T z p ≤ z := tkEnd_le (by decide) hp
theorem tkE_le {T : Nat → Int32} {z a : Nat} (hp : a ≤ z) : a ≤ tkE T z a ∧ tkE T z a ≤ z := by
  unfold tkE
  split
  · omega
  · rename_i h
    have : a < z := by
      rcases Nat.lt_or_ge a z with q | q
      · exact q
      · exact absurd (tkB_ge q) h
    split
    · exact tkEnd_le (by decide) hp
    · split
      · exact tkEnd_le (by decide) hp
      · omega
set_option maxHeartbeats 4000000 in
set_option maxRecDepth 100000 in
theorem metX2_byteAt (l : Launch) (D : va_G) (cl : List vw_C) (hcl : cl[0]? = some (RX2, TX2, 61)) (h : Nat) (ad : Nat → Nat) (dA : ClassId) (F : Nat → Int32) (Rr : Nat → Nat → Int32) (k1 : Nat) (z : Nat) (hz : F 19 = nI z) (hz4 : z ≤ 400) (hk : k1 ≤ z) : Met l yX2_byteAt (ws_ yX2_byteAt cX2_byteAt 2 (some .int)) ({ frames := 0, cells := 0, slots := 0, locals := 0 } : Room) (va_Pc [.ref h, .int (nI k1)] (mPre D cl h ad dA F Rr)) (vp_Si (fun r => r = tkB (Rr 16) z k1)) 0 0 (fun _ => False) := by
  refine Met.ofW (cc := cX2_byteAt) (maxL := 2) (ret := (some .int)) (by decide) rfl ?_
  intro p e s m args below meth c s₁ B hml hv
  obtain ⟨rfl, hK, hP, hD⟩ := hv
  have hx := B.exec
  have hb := B.bytes
  have hr := B.returns
  have hts := atoms_spec (ws := (ws_ yX2_byteAt cX2_byteAt 2 (some .int))) B.pre
  have hts : ∀ w ∈ lw_all, w.before _ s = true := fun w h => hts w (List.mem_cons_of_mem _ h)
  have hown : s.vm.findClass RX2 = some m.cls := findClass_of_methodNamed B.named
  have hlocks := B.notSynchronized
  have S : CallFix p m c cX2_byteAt 2 s ([.ref h, .int (nI k1)] : List Value).toArray lw_all RX2 := ⟨hx, hb, hml, hown, hts⟩
  have X : mX p s m ([.ref h, .int (nI k1)] : List Value).toArray c cX2_byteAt 2 D cl dA := ⟨hx, hb, hml, hown, hts, hK, hcl⟩
  have M : mM D cl h ad dA (mN h ad) s F Rr s.heap [] := ⟨hP, mW_self hD, va_S.rf⟩
  have hl := lv_entry ([.ref h, .int (nI k1)]) (n := 2) (Nat.le_of_ble_eq_true rfl)
  rw [lg_entry_eq]
  generalize (lg_sl ([.ref h, .int (nI k1)]) ++ List.replicate (2 - (lg_sl ([.ref h, .int (nI k1)])).length) Slot.unset).toArray = ls at hl ⊢
  have hl : lv_has ls 2 [(0, .ref h), (1, .int (nI k1))] := hl
  refine lv_iload_n hx hb dX2_byteAt_0 rfl (lv_at hl 1 rfl) ?_
  refine lv_aload_n hx hb dX2_byteAt_1 rfl (lv_at hl 0 rfl) ?_
  refine mg_19 X M (v := F 19) rfl dX2_byteAt_2 ?_
  refine lv_asi (y := nI z) hz ?_
  refine ln_icmp_ge (tgt := 17) hx hb (a := k1) (b := z) (by omega) (by omega) dX2_byteAt_5 (by decide) (fun c_1 => ?_) (fun c_1 => ?_)
  · -- c_1: nI k1 ≥ nI z
    refine lv_ldc (v := (-1000000)) hx hb hown (hts _ q1430) dX2_byteAt_17 ?_
    exact W.iret (v := (-1000000)) hx hb hr (fun t9 ht9 hW9 => ⟨_, rfl, (by first | (simp [tkB, c_1, up_s, up_n, nI_1, b2i]; done) | (simp_all [tkB]; done) | grind [tkB]), ht9⟩) (fun _ h9 => by cases h9) dX2_byteAt_19
  · -- c_1: nI k1 < nI z
    refine lv_aload_n hx hb dX2_byteAt_8 rfl (lv_at hl 0 rfl) ?_
    refine mg_16 X M dX2_byteAt_9 ?_
    refine lv_iload_n hx hb dX2_byteAt_12 rfl (lv_at hl 1 rfl) ?_
    refine mr_16 X M (f := Rr 16) rfl (j := k1) (vp_in_nI (by omega) (by omega)) (nI_clamp (by omega)) dX2_byteAt_13 ?_
    refine lv_goto (tgt := 19) hx hb dX2_byteAt_14 (by decide) ?_
    exact W.iret (v := Rr 16 k1) hx hb hr (fun t9 ht9 hW9 => ⟨_, rfl, (by first | (simp [tkB, c_1, up_s, up_n, nI_1, b2i]; done) | (simp_all [tkB]; done) | grind [tkB]), ht9⟩) (fun _ h9 => by cases h9) dX2_byteAt_19

def tS (F : Nat → Int32) (T : Nat → Int32) (z a : Nat) : Nat → Int32 := va_up (va_up (va_up (va_up F 20 (nI (tkE T z a))) 21 (tkK T z a)) 22 (nI a)) 23 (nI (tkE T z a))
theorem tS_1 (F : Nat → Int32) (a b t k : Int32) : va_up (va_up (va_up (va_up (va_up F 20 a) 22 t) 20 b) 21 k) 23 b = va_up (va_up (va_up (va_up F 20 b) 21 k) 22 t) 23 b := by
  funext j; unfold va_up; grind
theorem tS_2 (F : Nat → Int32) (a t k : Int32) : va_up (va_up (va_up (va_up F 20 a) 22 t) 21 k) 23 a = va_up (va_up (va_up (va_up F 20 a) 21 k) 22 t) 23 a := by
  funext j; unfold va_up; grind
set_option maxHeartbeats 4000000 in
set_option maxRecDepth 100000 in
theorem metX2_step (l : Launch) (D : va_G) (cl : List vw_C) (hcl : cl[0]? = some (RX2, TX2, 61)) (h : Nat) (ad : Nat → Nat) (dA : ClassId) (F : Nat → Int32) (Rr : Nat → Nat → Int32) (z : Nat) (p0 : Nat) (hz : F 19 = nI z) (hz4 : z ≤ 400) (hp : F 20 = nI p0) (hpz : p0 ≤ z) : Met l yX2_step (ws_ yX2_step cX2_step 2 none) ({ frames := 1, cells := 0, slots := 0, locals := 21 } : Room) (va_Pc [.ref h] (mPre D cl h ad dA F Rr)) (va_Qv (fun u => u = (tS F (Rr 16) z (tkSk (Rr 16) z p0), Rr)) (mB D cl h ad dA) (mN h ad)) 0 0 (mN h ad) := by
  refine Met.ofW (cc := cX2_step) (maxL := 2) (ret := none) (by decide) rfl ?_
  intro p e s m args below meth c s₁ B hml hv
  obtain ⟨rfl, hK, hP, hD⟩ := hv
  have hx := B.exec
  have hb := B.bytes
  have hr := B.returns
  have hts := atoms_spec (ws := (ws_ yX2_step cX2_step 2 none)) B.pre
  have hts : ∀ w ∈ lw_all, w.before _ s = true := fun w h => hts w (List.mem_cons_of_mem _ h)
  have hown : s.vm.findClass RX2 = some m.cls := findClass_of_methodNamed B.named
  have hlocks := B.notSynchronized
  have S : CallFix p m c cX2_step 2 s ([.ref h] : List Value).toArray lw_all RX2 := ⟨hx, hb, hml, hown, hts⟩
  have X : mX p s m ([.ref h] : List Value).toArray c cX2_step 2 D cl dA := ⟨hx, hb, hml, hown, hts, hK, hcl⟩
  have M : mM D cl h ad dA (mN h ad) s F Rr s.heap [] := ⟨hP, mW_self hD, va_S.rf⟩
  have hl := lv_entry ([.ref h]) (n := 2) (Nat.le_of_ble_eq_true rfl)
  rw [lg_entry_eq]
  generalize (lg_sl ([.ref h]) ++ List.replicate (2 - (lg_sl ([.ref h])).length) Slot.unset).toArray = ls at hl ⊢
  have hl : lv_has ls 2 [(0, .ref h)] := hl
  have L_1 : ∀ (fuL_1 : Nat) (q : Nat), (q ≤ z) → (tkEnd isSp (Rr 16) z q = tkEnd isSp (Rr 16) z p0) → z - q < fuL_1 → ∀ (H : Heap) (locs : List Loc), mM D cl h ad dA (mN h ad) s (va_up F 20 (nI q)) Rr H locs → ∀ ls, lv_has ls 2 [(0, .ref h)] → W p l e ({ frames := 1, cells := 0, slots := 0, locals := 21 } : Room) s m ([.ref h] : List Value).toArray below meth c H locs 0 0 (MQ below (va_Qv (fun u => u = (tS F (Rr 16) z (tkSk (Rr 16) z p0), Rr)) (mB D cl h ad dA) (mN h ad)) ([.ref h] : List Value).toArray s 0 0 (mN h ad)) (F0 m 0 ls []) := by
    intro fuL_1
    induction fuL_1 with
    | zero => intro q hq eq hfuL_1; exact absurd hfuL_1 (Nat.not_lt_zero _)
    | succ fuL_1 L_1ih =>
      intro q hq eq hfuL_1 H locs M ls hl
      refine lv_aload_n hx hb dX2_step_0 rfl (lv_at hl 0 rfl) ?_
      refine lv_aload_n hx hb dX2_step_1 rfl (lv_at hl 0 rfl) ?_
      refine mg_20 X M (v := nI q) rfl dX2_step_2 ?_
      refine m_cQ (v := tkB (Rr 16) z q) (As := [.int (nI q)]) (rest := []) X M (metX2_byteAt l D cl hcl h ad dA (va_up F 20 (nI q)) Rr q z hz hz4 (by omega)) (cwV 1 hts (lw_V q1685 q1687 qs29 q62 q1688) rfl rfl rfl (by decide +kernel) ⟨Nat.le_of_ble_eq_true rfl, Nat.le_of_ble_eq_true rfl⟩) rfl hl.1 rfl (Nat.le_of_ble_eq_true rfl) dX2_step_5 ⟨Nat.zero_le _, Nat.zero_le _⟩ ?_
      refine lv_bipush (v := 32) hx hb dX2_step_8 (by decide) ?_
      refine lv_icmp_eq (tgt := 26) hx hb dX2_step_10 (by decide) (fun c_2 => ?_) (fun c_2 => ?_)
      · -- c_2: tkB (Rr 16) z q = 32
        refine lv_aload_n hx hb dX2_step_26 rfl (lv_at hl 0 rfl) ?_
        refine lv_dup hx hb dX2_step_27 rfl ?_
        refine mg_20 X M (v := nI q) rfl dX2_step_28 ?_
        refine lv_iconst (v := 1) hx hb dX2_step_31 (by decide) ?_
        refine lv_iadd hx hb dX2_step_32 ?_
        refine lv_asi (y := nI (q + 1)) (nI_add q 1) ?_
        refine mp_20 X M dX2_step_33 (fun H locs M => ?_)
        refine lv_goto (tgt := 0) hx hb dX2_step_36 (by decide) ?_
        have hlt9 := (tkEnd_t (f := isSp) (T := Rr 16) (z := z) (p := q) (by decide) (by simp [isSp, c_2])).1
        exact L_1ih  (q + 1) ((tkEnd_t (f := isSp) (T := Rr 16) (z := z) (p := q) (by decide) (by simp [isSp, c_2])).1) ((tkEnd_t (f := isSp) (T := Rr 16) (z := z) (p := q) (by decide) (by simp [isSp, c_2])).2.symm.trans eq) (by omega) _ _ (by rw [up_up] at M; exact M) ls (lv_sub hl [0] rfl)
      · -- c_2: tkB (Rr 16) z q ≠ 32
        refine lv_aload_n hx hb dX2_step_13 rfl (lv_at hl 0 rfl) ?_
        refine lv_aload_n hx hb dX2_step_14 rfl (lv_at hl 0 rfl) ?_
        refine mg_20 X M (v := nI q) rfl dX2_step_15 ?_
        refine m_cQ (v := tkB (Rr 16) z q) (As := [.int (nI q)]) (rest := []) X M (metX2_byteAt l D cl hcl h ad dA (va_up F 20 (nI q)) Rr q z hz hz4 (by omega)) (cwV 1 hts (lw_V q1685 q1687 qs29 q62 q1688) rfl rfl rfl (by decide +kernel) ⟨Nat.le_of_ble_eq_true rfl, Nat.le_of_ble_eq_true rfl⟩) rfl hl.1 rfl (Nat.le_of_ble_eq_true rfl) dX2_step_18 ⟨Nat.zero_le _, Nat.zero_le _⟩ ?_
        refine lv_bipush (v := 10) hx hb dX2_step_21 (by decide) ?_
        refine lv_icmp_ne (tgt := 39) hx hb dX2_step_23 (by decide) (fun c_3 => ?_) (fun c_3 => ?_)
        · -- c_3: tkB (Rr 16) z q ≠ 10
          have eq9 : tkSk (Rr 16) z p0 = q := (by unfold tkSk; rw [← eq]; exact tkEnd_f (by simp [isSp, c_2, c_3]))
          refine lv_aload_n hx hb dX2_step_39 rfl (lv_at hl 0 rfl) ?_
          refine lv_aload_n hx hb dX2_step_40 rfl (lv_at hl 0 rfl) ?_
          refine mg_20 X M (v := nI q) rfl dX2_step_41 ?_
          refine mp_22 X M dX2_step_44 (fun H locs M => ?_)
          refine lv_aload_n hx hb dX2_step_47 rfl (lv_at hl 0 rfl) ?_
          refine lv_aload_n hx hb dX2_step_48 rfl (lv_at hl 0 rfl) ?_
          refine mg_20 X M (v := nI q) rfl dX2_step_49 ?_
          refine m_cQ (v := tkB (Rr 16) z q) (As := [.int (nI q)]) (rest := []) X M (metX2_byteAt l D cl hcl h ad dA (va_up (va_up F 20 (nI q)) 22 (nI q)) Rr q z hz hz4 (by omega)) (cwV 1 hts (lw_V q1685 q1687 qs29 q62 q1688) rfl rfl rfl (by decide +kernel) ⟨Nat.le_of_ble_eq_true rfl, Nat.le_of_ble_eq_true rfl⟩) rfl hl.1 rfl (Nat.le_of_ble_eq_true rfl) dX2_step_52 ⟨Nat.zero_le _, Nat.zero_le _⟩ ?_
          refine lv_istore_n (lv' := [(1, .int (tkB (Rr 16) z q)), (0, .ref h)]) hx hb dX2_step_55 rfl hl (by decide) rfl (fun ls hl => ?_)
          refine lv_iload_n hx hb dX2_step_56 rfl (lv_at hl 0 rfl) ?_
          refine lv_ldc (v := (-1000000)) hx hb hown (hts _ q1430) dX2_step_57 ?_
          refine lv_icmp_ne (tgt := 70) hx hb dX2_step_59 (by decide) (fun c_4 => ?_) (fun c_4 => ?_)
          · -- c_4: tkB (Rr 16) z q ≠ (-1000000)
            have hqz : q < z := by rcases Nat.lt_or_ge q z with y | y; exact y; exact absurd (tkB_ge y) c_4
            refine lv_iload_n hx hb dX2_step_70 rfl (lv_at hl 0 rfl) ?_
            refine s_cI (v := b2i (inB 97 122 (tkB (Rr 16) z q))) (As := [.int (tkB (Rr 16) z q)]) (rest := []) S (metX2_isLetter l (tkB (Rr 16) z q)) (va_cwS 1 hts (lw_S q1689 q1690 q62 q1691) rfl rfl rfl (by decide +kernel) ⟨Nat.le_of_ble_eq_true rfl, Nat.le_of_ble_eq_true rfl⟩) rfl hl.1 rfl (Nat.le_of_ble_eq_true rfl) dX2_step_71 ⟨Nat.zero_le _, Nat.zero_le _⟩ ?_
            refine lz_if_eq (tgt := 112) hx hb dX2_step_74 (by decide) (fun c_5 => ?_) (fun c_5 => ?_)
            · -- c_5: inB 97 122 (tkB (Rr 16) z q) = false
              refine lv_iload_n hx hb dX2_step_112 rfl (lv_at hl 0 rfl) ?_
              refine s_cI (v := b2i (inB 48 57 (tkB (Rr 16) z q))) (As := [.int (tkB (Rr 16) z q)]) (rest := []) S (metX2_isFigure l (tkB (Rr 16) z q)) (va_cwS 1 hts (lw_S q1692 q1693 q62 q1694) rfl rfl rfl (by decide +kernel) ⟨Nat.le_of_ble_eq_true rfl, Nat.le_of_ble_eq_true rfl⟩) rfl hl.1 rfl (Nat.le_of_ble_eq_true rfl) dX2_step_113 ⟨Nat.zero_le _, Nat.zero_le _⟩ ?_
              refine lz_if_eq (tgt := 171) hx hb dX2_step_116 (by decide) (fun c_6 => ?_) (fun c_6 => ?_)
              · -- c_6: inB 48 57 (tkB (Rr 16) z q) = false
                refine lv_aload_n hx hb dX2_step_171 rfl (lv_at hl 1 rfl) ?_
                refine lv_dup hx hb dX2_step_172 rfl ?_
                refine mg_20 X M (v := nI q) rfl dX2_step_173 ?_
                refine lv_iconst (v := 1) hx hb dX2_step_176 (by decide) ?_
                refine lv_iadd hx hb dX2_step_177 ?_
                refine lv_asi (y := nI (q + 1)) (nI_add q 1) ?_
                refine mp_20 X M dX2_step_178 (fun H locs M => ?_)
                refine lv_aload_n hx hb dX2_step_181 rfl (lv_at hl 1 rfl) ?_
                refine lv_iload_n hx hb dX2_step_182 rfl (lv_at hl 0 rfl) ?_
                refine lv_bipush (v := 59) hx hb dX2_step_183 (by decide) ?_
                refine lv_icmp_ne (tgt := 192) hx hb dX2_step_185 (by decide) (fun c_7 => ?_) (fun c_7 => ?_)
                · -- c_7: tkB (Rr 16) z q ≠ 59
                  refine lv_iconst (v := 0) hx hb dX2_step_192 (by decide) ?_
                  refine mp_21 X M dX2_step_193 (fun H locs M => ?_)
                  refine lv_aload_n hx hb dX2_step_196 rfl (lv_at hl 1 rfl) ?_
                  refine lv_aload_n hx hb dX2_step_197 rfl (lv_at hl 1 rfl) ?_
                  refine mg_20 X M (v := nI (q + 1)) rfl dX2_step_198 ?_
                  refine mp_23 X M dX2_step_201 (fun H locs M => ?_)
                  exact W.vret hx hb hr (fun t9 ht9 hW9 => ⟨⟨(va_up (va_up (va_up (va_up (va_up F 20 (nI q)) 22 (nI q)) 20 (nI (q + 1))) 21 0) 23 (nI (q + 1)), Rr), rfl, (by rw [eq9]; unfold tS; (first | rw [tS_1] | rw [tS_2]); simp [tkE, tkK, show inB 97 122 59 = false from rfl, show inB 48 57 59 = false from rfl, c_2, c_3, eq9, c_4, c_5, c_6, c_7]), by show va_P _ _ _ t9.heap; rw [ht9]; exact M.1⟩, M.2.2.F ht9⟩) M.2.2.2.2 dX2_step_204
                · -- c_7: tkB (Rr 16) z q = 59
                  refine lv_iconst (v := 4) hx hb dX2_step_188 (by decide) ?_
                  refine lv_goto (tgt := 193) hx hb dX2_step_189 (by decide) ?_
                  refine mp_21 X M dX2_step_193 (fun H locs M => ?_)
                  refine lv_aload_n hx hb dX2_step_196 rfl (lv_at hl 1 rfl) ?_
                  refine lv_aload_n hx hb dX2_step_197 rfl (lv_at hl 1 rfl) ?_
                  refine mg_20 X M (v := nI (q + 1)) rfl dX2_step_198 ?_
                  refine mp_23 X M dX2_step_201 (fun H locs M => ?_)
                  exact W.vret hx hb hr (fun t9 ht9 hW9 => ⟨⟨(va_up (va_up (va_up (va_up (va_up F 20 (nI q)) 22 (nI q)) 20 (nI (q + 1))) 21 4) 23 (nI (q + 1)), Rr), rfl, (by rw [eq9]; unfold tS; (first | rw [tS_1] | rw [tS_2]); simp [tkE, tkK, show inB 97 122 59 = false from rfl, show inB 48 57 59 = false from rfl, c_2, c_3, eq9, c_4, c_5, c_6, c_7]), by show va_P _ _ _ t9.heap; rw [ht9]; exact M.1⟩, M.2.2.F ht9⟩) M.2.2.2.2 dX2_step_204
              · -- c_6: inB 48 57 (tkB (Rr 16) z q) = true
                have L_8 : ∀ (fuL_8 : Nat) (q2 : Nat), (q2 ≤ z) → (tkEnd (inB 48 57) (Rr 16) z q2 = tkEnd (inB 48 57) (Rr 16) z q) → z - q2 < fuL_8 → ∀ (H : Heap) (locs : List Loc), mM D cl h ad dA (mN h ad) s (va_up (va_up (va_up F 20 (nI q)) 22 (nI q)) 20 (nI q2)) Rr H locs → ∀ ls, lv_has ls 2 [(0, .ref h), (1, .int (tkB (Rr 16) z q))] → W p l e ({ frames := 1, cells := 0, slots := 0, locals := 21 } : Room) s m ([.ref h] : List Value).toArray below meth c H locs 0 0 (MQ below (va_Qv (fun u => u = (tS F (Rr 16) z (tkSk (Rr 16) z p0), Rr)) (mB D cl h ad dA) (mN h ad)) ([.ref h] : List Value).toArray s 0 0 (mN h ad)) (F0 m 119 ls []) := by
                  intro fuL_8
                  induction fuL_8 with
                  | zero => intro q2 hq2 eq2 hfuL_8; exact absurd hfuL_8 (Nat.not_lt_zero _)
                  | succ fuL_8 L_8ih =>
                    intro q2 hq2 eq2 hfuL_8 H locs M ls hl
                    refine lv_aload_n hx hb dX2_step_119 rfl (lv_at hl 0 rfl) ?_
                    refine lv_aload_n hx hb dX2_step_120 rfl (lv_at hl 0 rfl) ?_
                    refine mg_20 X M (v := nI q2) rfl dX2_step_121 ?_
                    refine m_cQ (v := tkB (Rr 16) z q2) (As := [.int (nI q2)]) (rest := []) X M (metX2_byteAt l D cl hcl h ad dA (va_up (va_up (va_up F 20 (nI q)) 22 (nI q)) 20 (nI q2)) Rr q2 z hz hz4 (by omega)) (cwV 1 hts (lw_V q1685 q1687 qs29 q62 q1688) rfl rfl rfl (by decide +kernel) ⟨Nat.le_of_ble_eq_true rfl, Nat.le_of_ble_eq_true rfl⟩) rfl hl.1 rfl (Nat.le_of_ble_eq_true rfl) dX2_step_124 ⟨Nat.zero_le _, Nat.zero_le _⟩ ?_
                    refine s_cI (v := b2i (inB 48 57 (tkB (Rr 16) z q2))) (As := [.int (tkB (Rr 16) z q2)]) (rest := []) S (metX2_isFigure l (tkB (Rr 16) z q2)) (va_cwS 1 hts (lw_S q1692 q1693 q62 q1694) rfl rfl rfl (by decide +kernel) ⟨Nat.le_of_ble_eq_true rfl, Nat.le_of_ble_eq_true rfl⟩) rfl hl.1 rfl (Nat.le_of_ble_eq_true rfl) dX2_step_127 ⟨Nat.zero_le _, Nat.zero_le _⟩ ?_
                    refine lz_if_eq (tgt := 146) hx hb dX2_step_130 (by decide) (fun c_9 => ?_) (fun c_9 => ?_)
                    · -- c_9: inB 48 57 (tkB (Rr 16) z q2) = false
                      have e29 : tkEnd (inB 48 57) (Rr 16) z q = q2 := (by rw [← eq2]; exact tkEnd_f c_9)
                      have le29 : q ≤ q2 := by rw [← e29]; exact (tkEnd_le (by decide) hq).1
                      refine lv_aload_n hx hb dX2_step_146 rfl (lv_at hl 0 rfl) ?_
                      refine lv_aload_n hx hb dX2_step_147 rfl (lv_at hl 0 rfl) ?_
                      refine mg_20 X M (v := nI q2) rfl dX2_step_148 ?_
                      refine lv_aload_n hx hb dX2_step_151 rfl (lv_at hl 0 rfl) ?_
                      refine mg_22 X M (v := nI q) rfl dX2_step_152 ?_
                      refine lv_isub hx hb dX2_step_155 ?_
                      refine lv_asi (y := nI (q2 - q)) (nI_subN (a := q2) (b := q) (by omega)) ?_
                      refine lv_iconst (v := 4) hx hb dX2_step_156 (by decide) ?_
                      refine ln_icmp_le (tgt := 164) hx hb (a := q2 - q) (b := 4) (by omega) (by omega) dX2_step_157 (by decide) (fun c_10 => ?_) (fun c_10 => ?_)
                      · -- c_10: nI (q2 - q) ≤ 4
                        have ek : ¬ 4 < q2 - q := by omega
                        refine lv_iconst (v := 3) hx hb dX2_step_164 (by decide) ?_
                        refine mp_21 X M dX2_step_165 (fun H locs M => ?_)
                        refine lv_goto (tgt := 196) hx hb dX2_step_168 (by decide) ?_
                        refine lv_aload_n hx hb dX2_step_196 rfl (lv_at hl 0 rfl) ?_
                        refine lv_aload_n hx hb dX2_step_197 rfl (lv_at hl 0 rfl) ?_
                        refine mg_20 X M (v := nI q2) rfl dX2_step_198 ?_
                        refine mp_23 X M dX2_step_201 (fun H locs M => ?_)
                        exact W.vret hx hb hr (fun t9 ht9 hW9 => ⟨⟨(va_up (va_up (va_up (va_up (va_up F 20 (nI q)) 22 (nI q)) 20 (nI q2)) 21 3) 23 (nI q2), Rr), rfl, (by rw [eq9]; unfold tS; (first | rw [tS_1] | rw [tS_2]); simp [tkE, tkK, show inB 97 122 59 = false from rfl, show inB 48 57 59 = false from rfl, c_2, c_3, eq9, c_4, c_5, c_6, c_9, e29, le29, c_10, ek]), by show va_P _ _ _ t9.heap; rw [ht9]; exact M.1⟩, M.2.2.F ht9⟩) M.2.2.2.2 dX2_step_204
                      · -- c_10: nI (q2 - q) > 4
                        have ek : 4 < q2 - q := by omega
                        refine lv_iconst (v := 0) hx hb dX2_step_160 (by decide) ?_
                        refine lv_goto (tgt := 165) hx hb dX2_step_161 (by decide) ?_
                        refine mp_21 X M dX2_step_165 (fun H locs M => ?_)
                        refine lv_goto (tgt := 196) hx hb dX2_step_168 (by decide) ?_
                        refine lv_aload_n hx hb dX2_step_196 rfl (lv_at hl 0 rfl) ?_
                        refine lv_aload_n hx hb dX2_step_197 rfl (lv_at hl 0 rfl) ?_
                        refine mg_20 X M (v := nI q2) rfl dX2_step_198 ?_
                        refine mp_23 X M dX2_step_201 (fun H locs M => ?_)
                        exact W.vret hx hb hr (fun t9 ht9 hW9 => ⟨⟨(va_up (va_up (va_up (va_up (va_up F 20 (nI q)) 22 (nI q)) 20 (nI q2)) 21 0) 23 (nI q2), Rr), rfl, (by rw [eq9]; unfold tS; (first | rw [tS_1] | rw [tS_2]); simp [tkE, tkK, show inB 97 122 59 = false from rfl, show inB 48 57 59 = false from rfl, c_2, c_3, eq9, c_4, c_5, c_6, c_9, e29, le29, c_10, ek]), by show va_P _ _ _ t9.heap; rw [ht9]; exact M.1⟩, M.2.2.F ht9⟩) M.2.2.2.2 dX2_step_204
                    · -- c_9: inB 48 57 (tkB (Rr 16) z q2) = true
                      refine lv_aload_n hx hb dX2_step_133 rfl (lv_at hl 0 rfl) ?_
                      refine lv_dup hx hb dX2_step_134 rfl ?_
                      refine mg_20 X M (v := nI q2) rfl dX2_step_135 ?_
                      refine lv_iconst (v := 1) hx hb dX2_step_138 (by decide) ?_
                      refine lv_iadd hx hb dX2_step_139 ?_
                      refine lv_asi (y := nI (q2 + 1)) (nI_add q2 1) ?_
                      refine mp_20 X M dX2_step_140 (fun H locs M => ?_)
                      refine lv_goto (tgt := 119) hx hb dX2_step_143 (by decide) ?_
                      have hlt9 := (tkEnd_t (f := (inB 48 57)) (T := Rr 16) (z := z) (p := q2) (by decide) c_9).1
                      exact L_8ih  (q2 + 1) ((tkEnd_t (f := (inB 48 57)) (T := Rr 16) (z := z) (p := q2) (by decide) c_9).1) ((tkEnd_t (f := (inB 48 57)) (T := Rr 16) (z := z) (p := q2) (by decide) c_9).2.symm.trans eq2) (by omega) _ _ (by rw [up_up] at M; exact M) ls (lv_sub hl [0, 1] rfl)
                exact L_8 ((z - q) + 1) q (by omega) rfl (Nat.lt_succ_self _) _ _ (by rw [up_id (by first | exact hp | rfl)]; exact M) ls (lv_sub hl [1, 0] rfl)
            · -- c_5: inB 97 122 (tkB (Rr 16) z q) = true
              have L_11 : ∀ (fuL_11 : Nat) (q1 : Nat), (q1 ≤ z) → (tkEnd (inB 97 122) (Rr 16) z q1 = tkEnd (inB 97 122) (Rr 16) z q) → z - q1 < fuL_11 → ∀ (H : Heap) (locs : List Loc), mM D cl h ad dA (mN h ad) s (va_up (va_up (va_up F 20 (nI q)) 22 (nI q)) 20 (nI q1)) Rr H locs → ∀ ls, lv_has ls 2 [(0, .ref h), (1, .int (tkB (Rr 16) z q))] → W p l e ({ frames := 1, cells := 0, slots := 0, locals := 21 } : Room) s m ([.ref h] : List Value).toArray below meth c H locs 0 0 (MQ below (va_Qv (fun u => u = (tS F (Rr 16) z (tkSk (Rr 16) z p0), Rr)) (mB D cl h ad dA) (mN h ad)) ([.ref h] : List Value).toArray s 0 0 (mN h ad)) (F0 m 77 ls []) := by
                intro fuL_11
                induction fuL_11 with
                | zero => intro q1 hq1 eq1 hfuL_11; exact absurd hfuL_11 (Nat.not_lt_zero _)
                | succ fuL_11 L_11ih =>
                  intro q1 hq1 eq1 hfuL_11 H locs M ls hl
                  refine lv_aload_n hx hb dX2_step_77 rfl (lv_at hl 0 rfl) ?_
                  refine lv_aload_n hx hb dX2_step_78 rfl (lv_at hl 0 rfl) ?_
                  refine mg_20 X M (v := nI q1) rfl dX2_step_79 ?_
                  refine m_cQ (v := tkB (Rr 16) z q1) (As := [.int (nI q1)]) (rest := []) X M (metX2_byteAt l D cl hcl h ad dA (va_up (va_up (va_up F 20 (nI q)) 22 (nI q)) 20 (nI q1)) Rr q1 z hz hz4 (by omega)) (cwV 1 hts (lw_V q1685 q1687 qs29 q62 q1688) rfl rfl rfl (by decide +kernel) ⟨Nat.le_of_ble_eq_true rfl, Nat.le_of_ble_eq_true rfl⟩) rfl hl.1 rfl (Nat.le_of_ble_eq_true rfl) dX2_step_82 ⟨Nat.zero_le _, Nat.zero_le _⟩ ?_
                  refine s_cI (v := b2i (inB 97 122 (tkB (Rr 16) z q1))) (As := [.int (tkB (Rr 16) z q1)]) (rest := []) S (metX2_isLetter l (tkB (Rr 16) z q1)) (va_cwS 1 hts (lw_S q1689 q1690 q62 q1691) rfl rfl rfl (by decide +kernel) ⟨Nat.le_of_ble_eq_true rfl, Nat.le_of_ble_eq_true rfl⟩) rfl hl.1 rfl (Nat.le_of_ble_eq_true rfl) dX2_step_85 ⟨Nat.zero_le _, Nat.zero_le _⟩ ?_
                  refine lz_if_eq (tgt := 104) hx hb dX2_step_88 (by decide) (fun c_12 => ?_) (fun c_12 => ?_)
                  · -- c_12: inB 97 122 (tkB (Rr 16) z q1) = false
                    have e19 : tkEnd (inB 97 122) (Rr 16) z q = q1 := (by rw [← eq1]; exact tkEnd_f c_12)
                    refine lv_aload_n hx hb dX2_step_104 rfl (lv_at hl 0 rfl) ?_
                    refine lv_iconst (v := 2) hx hb dX2_step_105 (by decide) ?_
                    refine mp_21 X M dX2_step_106 (fun H locs M => ?_)
                    refine lv_goto (tgt := 196) hx hb dX2_step_109 (by decide) ?_
                    refine lv_aload_n hx hb dX2_step_196 rfl (lv_at hl 0 rfl) ?_
                    refine lv_aload_n hx hb dX2_step_197 rfl (lv_at hl 0 rfl) ?_
                    refine mg_20 X M (v := nI q1) rfl dX2_step_198 ?_
                    refine mp_23 X M dX2_step_201 (fun H locs M => ?_)
                    exact W.vret hx hb hr (fun t9 ht9 hW9 => ⟨⟨(va_up (va_up (va_up (va_up (va_up F 20 (nI q)) 22 (nI q)) 20 (nI q1)) 21 2) 23 (nI q1), Rr), rfl, (by rw [eq9]; unfold tS; (first | rw [tS_1] | rw [tS_2]); simp [tkE, tkK, show inB 97 122 59 = false from rfl, show inB 48 57 59 = false from rfl, c_2, c_3, eq9, c_4, c_5, c_12, e19]), by show va_P _ _ _ t9.heap; rw [ht9]; exact M.1⟩, M.2.2.F ht9⟩) M.2.2.2.2 dX2_step_204
                  · -- c_12: inB 97 122 (tkB (Rr 16) z q1) = true
                    refine lv_aload_n hx hb dX2_step_91 rfl (lv_at hl 0 rfl) ?_
                    refine lv_dup hx hb dX2_step_92 rfl ?_
                    refine mg_20 X M (v := nI q1) rfl dX2_step_93 ?_
                    refine lv_iconst (v := 1) hx hb dX2_step_96 (by decide) ?_
                    refine lv_iadd hx hb dX2_step_97 ?_
                    refine lv_asi (y := nI (q1 + 1)) (nI_add q1 1) ?_
                    refine mp_20 X M dX2_step_98 (fun H locs M => ?_)
                    refine lv_goto (tgt := 77) hx hb dX2_step_101 (by decide) ?_
                    have hlt9 := (tkEnd_t (f := (inB 97 122)) (T := Rr 16) (z := z) (p := q1) (by decide) c_12).1
                    exact L_11ih  (q1 + 1) ((tkEnd_t (f := (inB 97 122)) (T := Rr 16) (z := z) (p := q1) (by decide) c_12).1) ((tkEnd_t (f := (inB 97 122)) (T := Rr 16) (z := z) (p := q1) (by decide) c_12).2.symm.trans eq1) (by omega) _ _ (by rw [up_up] at M; exact M) ls (lv_sub hl [0, 1] rfl)
              exact L_11 ((z - q) + 1) q (by omega) rfl (Nat.lt_succ_self _) _ _ (by rw [up_id (by first | exact hp | rfl)]; exact M) ls (lv_sub hl [1, 0] rfl)
          · -- c_4: tkB (Rr 16) z q = (-1000000)
            refine lv_aload_n hx hb dX2_step_62 rfl (lv_at hl 1 rfl) ?_
            refine lv_iconst (v := 1) hx hb dX2_step_63 (by decide) ?_
            refine mp_21 X M dX2_step_64 (fun H locs M => ?_)
            refine lv_goto (tgt := 196) hx hb dX2_step_67 (by decide) ?_
            refine lv_aload_n hx hb dX2_step_196 rfl (lv_at hl 1 rfl) ?_
            refine lv_aload_n hx hb dX2_step_197 rfl (lv_at hl 1 rfl) ?_
            refine mg_20 X M (v := nI q) rfl dX2_step_198 ?_
            refine mp_23 X M dX2_step_201 (fun H locs M => ?_)
            exact W.vret hx hb hr (fun t9 ht9 hW9 => ⟨⟨(va_up (va_up (va_up (va_up F 20 (nI q)) 22 (nI q)) 21 1) 23 (nI q), Rr), rfl, (by rw [eq9]; unfold tS; (first | rw [tS_1] | rw [tS_2]); simp [tkE, tkK, show inB 97 122 59 = false from rfl, show inB 48 57 59 = false from rfl, c_2, c_3, eq9, c_4]), by show va_P _ _ _ t9.heap; rw [ht9]; exact M.1⟩, M.2.2.F ht9⟩) M.2.2.2.2 dX2_step_204
        · -- c_3: tkB (Rr 16) z q = 10
          refine lv_aload_n hx hb dX2_step_26 rfl (lv_at hl 0 rfl) ?_
          refine lv_dup hx hb dX2_step_27 rfl ?_
          refine mg_20 X M (v := nI q) rfl dX2_step_28 ?_
          refine lv_iconst (v := 1) hx hb dX2_step_31 (by decide) ?_
          refine lv_iadd hx hb dX2_step_32 ?_
          refine lv_asi (y := nI (q + 1)) (nI_add q 1) ?_
          refine mp_20 X M dX2_step_33 (fun H locs M => ?_)
          refine lv_goto (tgt := 0) hx hb dX2_step_36 (by decide) ?_
          have hlt9 := (tkEnd_t (f := isSp) (T := Rr 16) (z := z) (p := q) (by decide) (by simp [isSp, c_3])).1
          exact L_1ih  (q + 1) ((tkEnd_t (f := isSp) (T := Rr 16) (z := z) (p := q) (by decide) (by simp [isSp, c_3])).1) ((tkEnd_t (f := isSp) (T := Rr 16) (z := z) (p := q) (by decide) (by simp [isSp, c_3])).2.symm.trans eq) (by omega) _ _ (by rw [up_up] at M; exact M) ls (lv_sub hl [0] rfl)
  exact L_1 ((z - p0) + 1) p0 (by omega) rfl (Nat.lt_succ_self _) _ _ (by rw [up_id (by first | exact hp | rfl)]; exact M) ls (lv_sub hl [0] rfl)

abbrev pS : Type := Nat × Int32 × Int32 × Nat
/-- the reader's world: G, with the reader's own fields: where the token begins, the fault, its place, the laws so far -/
def pF (G : Nat → Int32) (T : Nat → Int32) (z : Nat) (st : pS) : Nat → Int32 := va_up (va_up (va_up (va_up (va_up (va_up (va_up (va_up G 15 (nI st.2.2.2)) 19 (nI z)) 24 st.2.1) 25 st.2.2.1) 20 (nI (tkE T z st.1))) 21 (tkK T z st.1)) 22 (nI st.1)) 23 (nI (tkE T z st.1))
def p_bad (st : pS) (k : Int32) : pS := (st.1, if st.2.1 = 0 then k else st.2.1, if st.2.1 = 0 then nI st.1 else st.2.2.1, st.2.2.2)
def p_step (T : Nat → Int32) (z : Nat) (st : pS) : pS := (tkSk T z (tkE T z st.1), st.2)
def p_pre (st : pS) (so : Bool) : pS := if so = true then st else p_bad st 1
def p_need (T : Nat → Int32) (z : Nat) (st : pS) (so : Bool) : pS := if (p_pre st so).2.1 = 0 then p_step T z (p_pre st so) else p_pre st so
theorem p_bad_1 {st : pS} {k : Int32} : (p_bad st k).1 = st.1 := rfl
theorem p_bad_n {st : pS} {k : Int32} : (p_bad st k).2.2.2 = st.2.2.2 := rfl
theorem p_bad_id {st : pS} {k : Int32} (h : ¬ st.2.1 = 0) : p_bad st k = st := by unfold p_bad; rw [if_neg h, if_neg h]
theorem p_pre_1 {st : pS} {so : Bool} : (p_pre st so).1 = st.1 := by unfold p_pre; split; rfl; exact p_bad_1
theorem p_pre_n {st : pS} {so : Bool} : (p_pre st so).2.2.2 = st.2.2.2 := by unfold p_pre; split; rfl; exact p_bad_n
theorem p_need_le {T : Nat → Int32} {z : Nat} {st : pS} {so : Bool} (h : st.1 ≤ z) : (p_need T z st so).1 ≤ z := by
  unfold p_need
  split
  · exact (tkSk_le (tkE_le (by rw [p_pre_1]; exact h)).2).2
  · rw [p_pre_1]; exact h
theorem p_need_n {T : Nat → Int32} {z : Nat} {st : pS} {so : Bool} : (p_need T z st so).2.2.2 = st.2.2.2 := by
  unfold p_need p_step
  split <;> exact p_pre_n
theorem pF_bad {G T : Nat → Int32} {z : Nat} {st : pS} {k : Int32} : va_up (va_up (pF G T z st) 24 k) 25 (nI st.1) = pF G T z (st.1, k, nI st.1, st.2.2.2) := by
  funext j; unfold pF va_up; grind
theorem pF_step {G T : Nat → Int32} {z : Nat} {st : pS} {a : Nat} : tS (pF G T z st) T z a = pF G T z (a, st.2) := by
  funext j; unfold pF tS va_up; grind
theorem pF_15 {G T : Nat → Int32} {z n : Nat} {st : pS} : va_up (pF G T z st) 15 (nI n) = pF G T z (st.1, st.2.1, st.2.2.1, n) := by
  funext j; unfold pF va_up; grind
set_option maxHeartbeats 4000000 in
set_option maxRecDepth 100000 in
theorem metX2_bad (l : Launch) (D : va_G) (cl : List vw_C) (hcl : cl[0]? = some (RX2, TX2, 61)) (h : Nat) (ad : Nat → Nat) (dA : ClassId) (G : Nat → Int32) (Rr : Nat → Nat → Int32) (T : Nat → Int32) (hT : Rr 16 = T) (z : Nat) (st : pS) (p1 : Int32) : Met l yX2_bad (ws_ yX2_bad cX2_bad 2 none) ({ frames := 0, cells := 0, slots := 0, locals := 0 } : Room) (va_Pc [.ref h, .int p1] (mPre D cl h ad dA (pF G T z st) Rr)) (va_Qv (fun u => u = (pF G T z (p_bad st p1), Rr)) (mB D cl h ad dA) (mN h ad)) 0 0 (mN h ad) := by
  subst hT
  refine Met.ofW (cc := cX2_bad) (maxL := 2) (ret := none) (by decide) rfl ?_
  intro p e s m args below meth c s₁ B hml hv
  obtain ⟨rfl, hK, hP, hD⟩ := hv
  have hx := B.exec
  have hb := B.bytes
  have hr := B.returns
  have hts := atoms_spec (ws := (ws_ yX2_bad cX2_bad 2 none)) B.pre
  have hts : ∀ w ∈ lw_all, w.before _ s = true := fun w h => hts w (List.mem_cons_of_mem _ h)
  have hown : s.vm.findClass RX2 = some m.cls := findClass_of_methodNamed B.named
  have hlocks := B.notSynchronized
  have S : CallFix p m c cX2_bad 2 s ([.ref h, .int p1] : List Value).toArray lw_all RX2 := ⟨hx, hb, hml, hown, hts⟩
  have X : mX p s m ([.ref h, .int p1] : List Value).toArray c cX2_bad 2 D cl dA := ⟨hx, hb, hml, hown, hts, hK, hcl⟩
  have M : mM D cl h ad dA (mN h ad) s (pF G (Rr 16) z st) Rr s.heap [] := ⟨hP, mW_self hD, va_S.rf⟩
  have hl := lv_entry ([.ref h, .int p1]) (n := 2) (Nat.le_of_ble_eq_true rfl)
  rw [lg_entry_eq]
  generalize (lg_sl ([.ref h, .int p1]) ++ List.replicate (2 - (lg_sl ([.ref h, .int p1])).length) Slot.unset).toArray = ls at hl ⊢
  have hl : lv_has ls 2 [(0, .ref h), (1, .int p1)] := hl
  refine lv_aload_n hx hb dX2_bad_0 rfl (lv_at hl 0 rfl) ?_
  refine mg_24 X M (v := st.2.1) rfl dX2_bad_1 ?_
  refine lv_if_ne (tgt := 20) hx hb dX2_bad_4 (by decide) (fun c_1 => ?_) (fun c_1 => ?_)
  · -- c_1: st.2.1 ≠ 0
    exact W.vret hx hb hr (fun t9 ht9 hW9 => ⟨⟨(pF G (Rr 16) z st, Rr), rfl, (by first | (rw [pF_bad]; simp [p_bad, c_1]; done) | (simp [p_bad_id, c_1]; done)), by show va_P _ _ _ t9.heap; rw [ht9]; exact M.1⟩, M.2.2.F ht9⟩) M.2.2.2.2 dX2_bad_20
  · -- c_1: st.2.1 = 0
    refine lv_aload_n hx hb dX2_bad_7 rfl (lv_at hl 0 rfl) ?_
    refine lv_iload_n hx hb dX2_bad_8 rfl (lv_at hl 1 rfl) ?_
    refine mp_24 X M dX2_bad_9 (fun H locs M => ?_)
    refine lv_aload_n hx hb dX2_bad_12 rfl (lv_at hl 0 rfl) ?_
    refine lv_aload_n hx hb dX2_bad_13 rfl (lv_at hl 0 rfl) ?_
    refine mg_22 X M (v := nI st.1) rfl dX2_bad_14 ?_
    refine mp_25 X M dX2_bad_17 (fun H locs M => ?_)
    exact W.vret hx hb hr (fun t9 ht9 hW9 => ⟨⟨(va_up (va_up (pF G (Rr 16) z st) 24 p1) 25 (nI st.1), Rr), rfl, (by first | (rw [pF_bad]; simp [p_bad, c_1]; done) | (simp [p_bad_id, c_1]; done)), by show va_P _ _ _ t9.heap; rw [ht9]; exact M.1⟩, M.2.2.F ht9⟩) M.2.2.2.2 dX2_bad_20

