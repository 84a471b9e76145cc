/-! THE REFERENCE, 5: passes asked, guests, the wall -/
def m_fgS1 (Rr : Nat → Nat → Int32) (p : Nat) (k : Nat) (z : Bool) : Bool := z || (decide (Rr 39 k = Rr 43 (7 * p + 4)) && inB (Rr 40 k) (Rr 41 k) (Rr 43 (7 * p + 5)))
def m_fgS2 (Rr : Nat → Nat → Int32) (p : Nat) (k : Nat) (z : Bool) : Bool := z || (decide (Rr 43 (7 * k + 2) = Rr 43 (7 * p + 2)) && !decide (Rr 43 (7 * k + 3) = Rr 43 (7 * p + 3)))
def m_isForged (n10 n38 : Int32) (Rr : Nat → Nat → Int32) (p : Nat) (day : Int32) : Bool := itr (m_fgS2 Rr p) p (itr (m_fgS1 Rr p) n38.toNatClampNeg (!m_isGood n10 Rr (Rr 43 (7 * p + 4)) day)) && decide (Rr 43 (7 * p) = 2)
set_option maxHeartbeats 4000000 in
set_option maxRecDepth 100000 in
theorem metX2_isForged (l : Launch) (D : va_G) (cl : List vw_C) (hcl : cl[0]? = some (RX2, TX2, 61)) (h : Nat) (ad : Nat → Nat) (dA : ClassId) (F : Nat → Int32) (Rr : Nat → Nat → Int32) (c1 : Nat) (p2 : Int32) (hc1 : c1 < 16) (h10 : cnB (F 10) 30) (h38 : cnB (F 38) 20) : Met l yX2_isForged (ws_ yX2_isForged cX2_isForged 5 (some .boolean)) ({ frames := 2, cells := 0, slots := 0, locals := 50 } : Room) (va_Pc [.ref h, .int (nI c1), .int p2] (mPre D cl h ad dA F Rr)) (vp_Si (fun r => r = b2i (m_isForged (F 10) (F 38) Rr c1 p2))) 0 0 (fun _ => False) := by
  refine Met.ofW (cc := cX2_isForged) (maxL := 5) (ret := (some .boolean)) (by decide) rfl ?_
  intro p e s m args below meth c s₁ B hml hv
  obtain ⟨rfl, hK, hP, hD⟩ := hv
  have hx := B.exec
  have hb := B.bytes
  have hr := B.returns
  have hts := atoms_spec (ws := (ws_ yX2_isForged cX2_isForged 5 (some .boolean))) B.pre
  have hts : ∀ w ∈ lw_all, w.before _ s = true := fun w h => hts w (List.mem_cons_of_mem _ h)
  have hown : s.vm.findClass RX2 = some m.cls := findClass_of_methodNamed B.named
  have hlocks := B.notSynchronized
  have S : CallFix p m c cX2_isForged 5 s ([.ref h, .int (nI c1), .int p2] : List Value).toArray lw_all RX2 := ⟨hx, hb, hml, hown, hts⟩
  have X : mX p s m ([.ref h, .int (nI c1), .int p2] : List Value).toArray c cX2_isForged 5 D cl dA := ⟨hx, hb, hml, hown, hts, hK, hcl⟩
  have M : mM D cl h ad dA (mN h ad) s F Rr s.heap [] := ⟨hP, mW_self hD, va_S.rf⟩
  have hl := lv_entry ([.ref h, .int (nI c1), .int p2]) (n := 5) (Nat.le_of_ble_eq_true rfl)
  rw [lg_entry_eq]
  generalize (lg_sl ([.ref h, .int (nI c1), .int p2]) ++ List.replicate (5 - (lg_sl ([.ref h, .int (nI c1), .int p2])).length) Slot.unset).toArray = ls at hl ⊢
  have hl : lv_has ls 5 [(0, .ref h), (1, .int (nI c1)), (2, .int p2)] := hl
  obtain ⟨n38, hn38, en38⟩ := cnB_ex h38 (n := 20) rfl
  have em38 : (F 38).toNatClampNeg = n38 := by rw [en38]; exact nI_clamp (by omega)
  have ec38 : (nI n38).toNatClampNeg = n38 := nI_clamp (by omega)
  refine lv_aload_n hx hb dX2_isForged_0 rfl (lv_at hl 0 rfl) ?_
  refine lv_aload_n hx hb dX2_isForged_1 rfl (lv_at hl 0 rfl) ?_
  refine lv_iload_n hx hb dX2_isForged_2 rfl (lv_at hl 1 rfl) ?_
  refine lv_iconst (v := 4) hx hb dX2_isForged_3 (by decide) ?_
  refine m_cQ (v := Rr 43 (7 * c1 + 4)) (As := [.int (nI c1), .int 4]) (rest := [.ref h]) X M (metX2_on l D cl hcl h ad dA F Rr c1 4 (by omega) (by omega)) (cwV 2 hts (lw_V q1832 q1834 qs45 q62 q1835) rfl rfl rfl (by decide +kernel) ⟨Nat.le_of_ble_eq_true rfl, Nat.le_of_ble_eq_true rfl⟩) rfl hl.1 rfl (Nat.le_of_ble_eq_true rfl) dX2_isForged_4 ⟨Nat.zero_le _, Nat.zero_le _⟩ ?_
  refine lv_iload_n hx hb dX2_isForged_7 rfl (lv_at hl 2 rfl) ?_
  refine m_cQ (v := b2i (m_isGood (F 10) Rr (Rr 43 (7 * c1 + 4)) p2)) (As := [.int (Rr 43 (7 * c1 + 4)), .int p2]) (rest := []) X M (metX2_isGood l D cl hcl h ad dA F Rr (Rr 43 (7 * c1 + 4)) p2 h10) (cwV 2 hts (lw_V q1753 q1755 qs38 q62 q1756) rfl rfl rfl (by decide +kernel) ⟨Nat.le_of_ble_eq_true rfl, Nat.le_of_ble_eq_true rfl⟩) rfl hl.1 rfl (Nat.le_of_ble_eq_true rfl) dX2_isForged_8 ⟨Nat.zero_le _, Nat.zero_le _⟩ ?_
  refine lz_if_ne (tgt := 18) hx hb dX2_isForged_11 (by decide) (fun c_1 => ?_) (fun c_1 => ?_)
  · -- c_1: m_isGood (F 10) Rr (Rr 43 (7 * c1 + 4)) p2 = true
    refine lv_iconst (v := 0) hx hb dX2_isForged_18 (by decide) ?_
    refine lv_istore_n (lv' := [(3, .int 0), (0, .ref h), (1, .int (nI c1)), (2, .int p2)]) hx hb dX2_isForged_19 rfl hl (by decide) rfl (fun ls hl => ?_)
    refine lv_iconst (v := 0) hx hb dX2_isForged_20 (by decide) ?_
    refine lv_istore (lv' := [(4, .int 0), (3, .int 0), (0, .ref h), (1, .int (nI c1)), (2, .int p2)]) hx hb dX2_isForged_21 hl (by decide) rfl (fun ls hl => ?_)
    have L_2 : ∀ (fuL_2 : Nat) (i : Nat) (z : Bool), (i ≤ n38) → (z = itr (m_fgS1 Rr c1) i (!m_isGood (F 10) Rr (Rr 43 (7 * c1 + 4)) p2)) → n38 - i < fuL_2 → ∀ ls, lv_has ls 5 [(0, .ref h), (1, .int (nI c1)), (2, .int p2), (3, .int (b2i z)), (4, .int (nI i))] → W p l e ({ frames := 2, cells := 0, slots := 0, locals := 50 } : Room) s m ([.ref h, .int (nI c1), .int p2] : List Value).toArray below meth c s.heap [] 0 0 (MQ below (vp_Si (fun r => r = b2i (m_isForged (F 10) (F 38) Rr c1 p2))) ([.ref h, .int (nI c1), .int p2] : List Value).toArray s 0 0 (fun _ => False)) (F0 m 23 ls []) := by
      intro fuL_2
      induction fuL_2 with
      | zero => intro i z hi qz hfuL_2; exact absurd hfuL_2 (Nat.not_lt_zero _)
      | succ fuL_2 L_2ih =>
        intro i z hi qz hfuL_2 ls hl
        refine lv_iload hx hb dX2_isForged_23 (lv_at hl 4 rfl) ?_
        refine lv_aload_n hx hb dX2_isForged_25 rfl (lv_at hl 0 rfl) ?_
        refine mg_38 X M (v := F 38) rfl dX2_isForged_26 ?_
        refine lv_asi (y := nI n38) en38 ?_
        refine ln_icmp_ge (tgt := 93) hx hb (a := i) (b := n38) (by omega) (by omega) dX2_isForged_29 (by decide) (fun c_3 => ?_) (fun c_3 => ?_)
        · -- c_3: nI i ≥ nI n38
          have ei : i = n38 := by omega
          rw [ei] at qz
          refine lv_iconst (v := 0) hx hb dX2_isForged_93 (by decide) ?_
          refine lv_istore (lv' := [(4, .int 0), (0, .ref h), (1, .int (nI c1)), (2, .int p2), (3, .int (b2i z))]) hx hb dX2_isForged_94 hl (by decide) rfl (fun ls hl => ?_)
          have L_4 : ∀ (fuL_4 : Nat) (j : Nat) (y : Bool), (j ≤ c1) → (y = itr (m_fgS2 Rr c1) j (itr (m_fgS1 Rr c1) n38 (!m_isGood (F 10) Rr (Rr 43 (7 * c1 + 4)) p2))) → c1 - j < fuL_4 → ∀ ls, lv_has ls 5 [(0, .ref h), (1, .int (nI c1)), (2, .int p2), (3, .int (b2i y)), (4, .int (nI j))] → W p l e ({ frames := 2, cells := 0, slots := 0, locals := 50 } : Room) s m ([.ref h, .int (nI c1), .int p2] : List Value).toArray below meth c s.heap [] 0 0 (MQ below (vp_Si (fun r => r = b2i (m_isForged (F 10) (F 38) Rr c1 p2))) ([.ref h, .int (nI c1), .int p2] : List Value).toArray s 0 0 (fun _ => False)) (F0 m 96 ls []) := by
            intro fuL_4
            induction fuL_4 with
            | zero => intro j y hj qy hfuL_4; exact absurd hfuL_4 (Nat.not_lt_zero _)
            | succ fuL_4 L_4ih =>
              intro j y hj qy hfuL_4 ls hl
              refine lv_iload hx hb dX2_isForged_96 (lv_at hl 4 rfl) ?_
              refine lv_iload_n hx hb dX2_isForged_98 rfl (lv_at hl 1 rfl) ?_
              refine ln_icmp_ge (tgt := 150) hx hb (a := j) (b := c1) (by omega) (by omega) dX2_isForged_99 (by decide) (fun c_5 => ?_) (fun c_5 => ?_)
              · -- c_5: nI j ≥ nI c1
                have ej : j = c1 := by omega
                rw [ej] at qy
                refine lv_iload_n hx hb dX2_isForged_150 rfl (lv_at hl 3 rfl) ?_
                refine lz_if_eq (tgt := 168) hx hb dX2_isForged_151 (by decide) (fun c_6 => ?_) (fun c_6 => ?_)
                · -- c_6: y = false
                  refine lv_iconst (v := 0) hx hb dX2_isForged_168 (by decide) ?_
                  exact W.zret (v := 0) hx hb hr rfl (fun t9 ht9 hW9 => ⟨_, rfl, (by first | (simp [m_isForged, b2i, em38, c_1, c_3, ← qz, c_5, ← qy, c_6, up_s, up_n, nI_1, b2i]; done) | (simp_all [m_isForged, b2i]; done) | grind [m_isForged, b2i]), ht9⟩) (fun _ h9 => by cases h9) dX2_isForged_169
                · -- c_6: y = true
                  refine lv_aload_n hx hb dX2_isForged_154 rfl (lv_at hl 0 rfl) ?_
                  refine lv_iload_n hx hb dX2_isForged_155 rfl (lv_at hl 1 rfl) ?_
                  refine lv_iconst (v := 0) hx hb dX2_isForged_156 (by decide) ?_
                  refine m_cQ (v := Rr 43 (7 * c1)) (As := [.int (nI c1), .int 0]) (rest := []) X M (metX2_on l D cl hcl h ad dA F Rr c1 0 (by omega) (by omega)) (cwV 2 hts (lw_V q1832 q1834 qs45 q62 q1835) rfl rfl rfl (by decide +kernel) ⟨Nat.le_of_ble_eq_true rfl, Nat.le_of_ble_eq_true rfl⟩) rfl hl.1 rfl (Nat.le_of_ble_eq_true rfl) dX2_isForged_157 ⟨Nat.zero_le _, Nat.zero_le _⟩ ?_
                  refine lv_iconst (v := 2) hx hb dX2_isForged_160 (by decide) ?_
                  refine lv_icmp_ne (tgt := 168) hx hb dX2_isForged_161 (by decide) (fun c_7 => ?_) (fun c_7 => ?_)
                  · -- c_7: Rr 43 (7 * c1) ≠ 2
                    refine lv_iconst (v := 0) hx hb dX2_isForged_168 (by decide) ?_
                    exact W.zret (v := 0) hx hb hr rfl (fun t9 ht9 hW9 => ⟨_, rfl, (by first | (simp [m_isForged, b2i, em38, c_1, c_3, ← qz, c_5, ← qy, c_6, c_7, up_s, up_n, nI_1, b2i]; done) | (simp_all [m_isForged, b2i]; done) | grind [m_isForged, b2i]), ht9⟩) (fun _ h9 => by cases h9) dX2_isForged_169
                  · -- c_7: Rr 43 (7 * c1) = 2
                    refine lv_iconst (v := 1) hx hb dX2_isForged_164 (by decide) ?_
                    refine lv_goto (tgt := 169) hx hb dX2_isForged_165 (by decide) ?_
                    exact W.zret (v := 1) hx hb hr rfl (fun t9 ht9 hW9 => ⟨_, rfl, (by first | (simp [m_isForged, b2i, em38, c_1, c_3, ← qz, c_5, ← qy, c_6, c_7, up_s, up_n, nI_1, b2i]; done) | (simp_all [m_isForged, b2i]; done) | grind [m_isForged, b2i]), ht9⟩) (fun _ h9 => by cases h9) dX2_isForged_169
              · -- c_5: nI j < nI c1
                refine lv_iload_n hx hb dX2_isForged_102 rfl (lv_at hl 3 rfl) ?_
                refine lz_if_ne (tgt := 138) hx hb dX2_isForged_103 (by decide) (fun c_8 => ?_) (fun c_8 => ?_)
                · -- c_8: y = true
                  refine lv_iconst (v := 1) hx hb dX2_isForged_138 (by decide) ?_
                  refine lv_goto (tgt := 143) hx hb dX2_isForged_139 (by decide) ?_
                  refine lv_istore_n (lv' := [(3, .int 1), (0, .ref h), (1, .int (nI c1)), (2, .int p2), (4, .int (nI j))]) hx hb dX2_isForged_143 rfl hl (by decide) rfl (fun ls hl => ?_)
                  refine lv_iinc (v := nI (j + 1)) (lv' := [(4, .int (nI (j + 1))), (3, .int 1), (0, .ref h), (1, .int (nI c1)), (2, .int p2)]) hx hb dX2_isForged_144 hl (k := 4) rfl (mk_inc _) (by decide) rfl (fun ls hl => ?_)
                  refine lv_goto (tgt := 96) hx hb dX2_isForged_147 (by decide) ?_
                  exact L_4ih  (j + 1) true (by omega) (by first | (rw [itr_s, ← qy]; done) | (rw [itr_s, ← qy]; first | (simp [m_fgS2, em38, c_1, c_3, ← qz, c_5, c_8, up_s, up_n, nI_1, b2i]; done) | (simp_all [m_fgS2]; done) | grind [m_fgS2])) (by omega) ls (lv_sub hl [2, 3, 4, 1, 0] rfl)
                · -- c_8: y = false
                  refine lv_aload_n hx hb dX2_isForged_106 rfl (lv_at hl 0 rfl) ?_
                  refine lv_iload hx hb dX2_isForged_107 (lv_at hl 4 rfl) ?_
                  refine lv_iconst (v := 2) hx hb dX2_isForged_109 (by decide) ?_
                  refine m_cQ (v := Rr 43 (7 * j + 2)) (As := [.int (nI j), .int 2]) (rest := []) X M (metX2_on l D cl hcl h ad dA F Rr j 2 (by omega) (by omega)) (cwV 2 hts (lw_V q1832 q1834 qs45 q62 q1835) rfl rfl rfl (by decide +kernel) ⟨Nat.le_of_ble_eq_true rfl, Nat.le_of_ble_eq_true rfl⟩) rfl hl.1 rfl (Nat.le_of_ble_eq_true rfl) dX2_isForged_110 ⟨Nat.zero_le _, Nat.zero_le _⟩ ?_
                  refine lv_aload_n hx hb dX2_isForged_113 rfl (lv_at hl 0 rfl) ?_
                  refine lv_iload_n hx hb dX2_isForged_114 rfl (lv_at hl 1 rfl) ?_
                  refine lv_iconst (v := 2) hx hb dX2_isForged_115 (by decide) ?_
                  refine m_cQ (v := Rr 43 (7 * c1 + 2)) (As := [.int (nI c1), .int 2]) (rest := [.int (Rr 43 (7 * j + 2))]) X M (metX2_on l D cl hcl h ad dA F Rr c1 2 (by omega) (by omega)) (cwV 2 hts (lw_V q1832 q1834 qs45 q62 q1835) rfl rfl rfl (by decide +kernel) ⟨Nat.le_of_ble_eq_true rfl, Nat.le_of_ble_eq_true rfl⟩) rfl hl.1 rfl (Nat.le_of_ble_eq_true rfl) dX2_isForged_116 ⟨Nat.zero_le _, Nat.zero_le _⟩ ?_
                  refine lv_icmp_ne (tgt := 142) hx hb dX2_isForged_119 (by decide) (fun c_9 => ?_) (fun c_9 => ?_)
                  · -- c_9: Rr 43 (7 * j + 2) ≠ Rr 43 (7 * c1 + 2)
                    refine lv_iconst (v := 0) hx hb dX2_isForged_142 (by decide) ?_
                    refine lv_istore_n (lv' := [(3, .int 0), (0, .ref h), (1, .int (nI c1)), (2, .int p2), (4, .int (nI j))]) hx hb dX2_isForged_143 rfl hl (by decide) rfl (fun ls hl => ?_)
                    refine lv_iinc (v := nI (j + 1)) (lv' := [(4, .int (nI (j + 1))), (3, .int 0), (0, .ref h), (1, .int (nI c1)), (2, .int p2)]) hx hb dX2_isForged_144 hl (k := 4) rfl (mk_inc _) (by decide) rfl (fun ls hl => ?_)
                    refine lv_goto (tgt := 96) hx hb dX2_isForged_147 (by decide) ?_
                    exact L_4ih  (j + 1) false (by omega) (by first | (rw [itr_s, ← qy]; done) | (rw [itr_s, ← qy]; first | (simp [m_fgS2, em38, c_1, c_3, ← qz, c_5, c_8, c_9, up_s, up_n, nI_1, b2i]; done) | (simp_all [m_fgS2]; done) | grind [m_fgS2])) (by omega) ls (lv_sub hl [2, 3, 4, 1, 0] rfl)
                  · -- c_9: Rr 43 (7 * j + 2) = Rr 43 (7 * c1 + 2)
                    refine lv_aload_n hx hb dX2_isForged_122 rfl (lv_at hl 0 rfl) ?_
                    refine lv_iload hx hb dX2_isForged_123 (lv_at hl 4 rfl) ?_
                    refine lv_iconst (v := 3) hx hb dX2_isForged_125 (by decide) ?_
                    refine m_cQ (v := Rr 43 (7 * j + 3)) (As := [.int (nI j), .int 3]) (rest := []) X M (metX2_on l D cl hcl h ad dA F Rr j 3 (by omega) (by omega)) (cwV 2 hts (lw_V q1832 q1834 qs45 q62 q1835) rfl rfl rfl (by decide +kernel) ⟨Nat.le_of_ble_eq_true rfl, Nat.le_of_ble_eq_true rfl⟩) rfl hl.1 rfl (Nat.le_of_ble_eq_true rfl) dX2_isForged_126 ⟨Nat.zero_le _, Nat.zero_le _⟩ ?_
                    refine lv_aload_n hx hb dX2_isForged_129 rfl (lv_at hl 0 rfl) ?_
                    refine lv_iload_n hx hb dX2_isForged_130 rfl (lv_at hl 1 rfl) ?_
                    refine lv_iconst (v := 3) hx hb dX2_isForged_131 (by decide) ?_
                    refine m_cQ (v := Rr 43 (7 * c1 + 3)) (As := [.int (nI c1), .int 3]) (rest := [.int (Rr 43 (7 * j + 3))]) X M (metX2_on l D cl hcl h ad dA F Rr c1 3 (by omega) (by omega)) (cwV 2 hts (lw_V q1832 q1834 qs45 q62 q1835) rfl rfl rfl (by decide +kernel) ⟨Nat.le_of_ble_eq_true rfl, Nat.le_of_ble_eq_true rfl⟩) rfl hl.1 rfl (Nat.le_of_ble_eq_true rfl) dX2_isForged_132 ⟨Nat.zero_le _, Nat.zero_le _⟩ ?_
                    refine lv_icmp_eq (tgt := 142) hx hb dX2_isForged_135 (by decide) (fun c_10 => ?_) (fun c_10 => ?_)
                    · -- c_10: Rr 43 (7 * j + 3) = Rr 43 (7 * c1 + 3)
                      refine lv_iconst (v := 0) hx hb dX2_isForged_142 (by decide) ?_
                      refine lv_istore_n (lv' := [(3, .int 0), (0, .ref h), (1, .int (nI c1)), (2, .int p2), (4, .int (nI j))]) hx hb dX2_isForged_143 rfl hl (by decide) rfl (fun ls hl => ?_)
                      refine lv_iinc (v := nI (j + 1)) (lv' := [(4, .int (nI (j + 1))), (3, .int 0), (0, .ref h), (1, .int (nI c1)), (2, .int p2)]) hx hb dX2_isForged_144 hl (k := 4) rfl (mk_inc _) (by decide) rfl (fun ls hl => ?_)
                      refine lv_goto (tgt := 96) hx hb dX2_isForged_147 (by decide) ?_
                      exact L_4ih  (j + 1) false (by omega) (by first | (rw [itr_s, ← qy]; done) | (rw [itr_s, ← qy]; first | (simp [m_fgS2, em38, c_1, c_3, ← qz, c_5, c_8, c_9, c_10, up_s, up_n, nI_1, b2i]; done) | (simp_all [m_fgS2]; done) | grind [m_fgS2])) (by omega) ls (lv_sub hl [2, 3, 4, 1, 0] rfl)
                    · -- c_10: Rr 43 (7 * j + 3) ≠ Rr 43 (7 * c1 + 3)
                      refine lv_iconst (v := 1) hx hb dX2_isForged_138 (by decide) ?_
                      refine lv_goto (tgt := 143) hx hb dX2_isForged_139 (by decide) ?_
                      refine lv_istore_n (lv' := [(3, .int 1), (0, .ref h), (1, .int (nI c1)), (2, .int p2), (4, .int (nI j))]) hx hb dX2_isForged_143 rfl hl (by decide) rfl (fun ls hl => ?_)
                      refine lv_iinc (v := nI (j + 1)) (lv' := [(4, .int (nI (j + 1))), (3, .int 1), (0, .ref h), (1, .int (nI c1)), (2, .int p2)]) hx hb dX2_isForged_144 hl (k := 4) rfl (mk_inc _) (by decide) rfl (fun ls hl => ?_)
                      refine lv_goto (tgt := 96) hx hb dX2_isForged_147 (by decide) ?_
                      exact L_4ih  (j + 1) true (by omega) (by first | (rw [itr_s, ← qy]; done) | (rw [itr_s, ← qy]; first | (simp [m_fgS2, em38, c_1, c_3, ← qz, c_5, c_8, c_9, c_10, up_s, up_n, nI_1, b2i]; done) | (simp_all [m_fgS2]; done) | grind [m_fgS2])) (by omega) ls (lv_sub hl [2, 3, 4, 1, 0] rfl)
          exact L_4 ((c1 - 0) + 1) 0 z (Nat.zero_le _) (by first | rfl | (simp only [itr]; assumption) | (simp [itr, em38, c_1, c_3, ← qz, up_s, up_n, nI_1, b2i]; done)) (Nat.lt_succ_self _) ls (lv_sub hl [1, 2, 3, 4, 0] rfl)
        · -- c_3: nI i < nI n38
          refine lv_iload_n hx hb dX2_isForged_32 rfl (lv_at hl 3 rfl) ?_
          refine lz_if_ne (tgt := 81) hx hb dX2_isForged_33 (by decide) (fun c_11 => ?_) (fun c_11 => ?_)
          · -- c_11: z = true
            refine lv_iconst (v := 1) hx hb dX2_isForged_81 (by decide) ?_
            refine lv_goto (tgt := 86) hx hb dX2_isForged_82 (by decide) ?_
            refine lv_istore_n (lv' := [(3, .int 1), (0, .ref h), (1, .int (nI c1)), (2, .int p2), (4, .int (nI i))]) hx hb dX2_isForged_86 rfl hl (by decide) rfl (fun ls hl => ?_)
            refine lv_iinc (v := nI (i + 1)) (lv' := [(4, .int (nI (i + 1))), (3, .int 1), (0, .ref h), (1, .int (nI c1)), (2, .int p2)]) hx hb dX2_isForged_87 hl (k := 4) rfl (mk_inc _) (by decide) rfl (fun ls hl => ?_)
            refine lv_goto (tgt := 23) hx hb dX2_isForged_90 (by decide) ?_
            exact L_2ih  (i + 1) true (by omega) (by first | (rw [itr_s, ← qz]; done) | (rw [itr_s, ← qz]; first | (simp [m_fgS1, em38, c_1, c_3, c_11, up_s, up_n, nI_1, b2i]; done) | (simp_all [m_fgS1]; done) | grind [m_fgS1])) (by omega) ls (lv_sub hl [2, 3, 4, 1, 0] rfl)
          · -- c_11: z = false
            refine lv_aload_n hx hb dX2_isForged_36 rfl (lv_at hl 0 rfl) ?_
            refine mg_39 X M dX2_isForged_37 ?_
            refine lv_iload hx hb dX2_isForged_40 (lv_at hl 4 rfl) ?_
            refine mr_39 X M (f := Rr 39) rfl (j := i) (vp_in_nI (by omega) (by omega)) (nI_clamp (by omega)) dX2_isForged_42 ?_
            refine lv_aload_n hx hb dX2_isForged_43 rfl (lv_at hl 0 rfl) ?_
            refine lv_iload_n hx hb dX2_isForged_44 rfl (lv_at hl 1 rfl) ?_
            refine lv_iconst (v := 4) hx hb dX2_isForged_45 (by decide) ?_
            refine m_cQ (v := Rr 43 (7 * c1 + 4)) (As := [.int (nI c1), .int 4]) (rest := [.int (Rr 39 i)]) X M (metX2_on l D cl hcl h ad dA F Rr c1 4 (by omega) (by omega)) (cwV 2 hts (lw_V q1832 q1834 qs45 q62 q1835) rfl rfl rfl (by decide +kernel) ⟨Nat.le_of_ble_eq_true rfl, Nat.le_of_ble_eq_true rfl⟩) rfl hl.1 rfl (Nat.le_of_ble_eq_true rfl) dX2_isForged_46 ⟨Nat.zero_le _, Nat.zero_le _⟩ ?_
            refine lv_icmp_ne (tgt := 85) hx hb dX2_isForged_49 (by decide) (fun c_12 => ?_) (fun c_12 => ?_)
            · -- c_12: Rr 39 i ≠ Rr 43 (7 * c1 + 4)
              refine lv_iconst (v := 0) hx hb dX2_isForged_85 (by decide) ?_
              refine lv_istore_n (lv' := [(3, .int 0), (0, .ref h), (1, .int (nI c1)), (2, .int p2), (4, .int (nI i))]) hx hb dX2_isForged_86 rfl hl (by decide) rfl (fun ls hl => ?_)
              refine lv_iinc (v := nI (i + 1)) (lv' := [(4, .int (nI (i + 1))), (3, .int 0), (0, .ref h), (1, .int (nI c1)), (2, .int p2)]) hx hb dX2_isForged_87 hl (k := 4) rfl (mk_inc _) (by decide) rfl (fun ls hl => ?_)
              refine lv_goto (tgt := 23) hx hb dX2_isForged_90 (by decide) ?_
              exact L_2ih  (i + 1) false (by omega) (by first | (rw [itr_s, ← qz]; done) | (rw [itr_s, ← qz]; first | (simp [m_fgS1, em38, c_1, c_3, c_11, c_12, up_s, up_n, nI_1, b2i]; done) | (simp_all [m_fgS1]; done) | grind [m_fgS1])) (by omega) ls (lv_sub hl [2, 3, 4, 1, 0] rfl)
            · -- c_12: Rr 39 i = Rr 43 (7 * c1 + 4)
              refine lv_aload_n hx hb dX2_isForged_52 rfl (lv_at hl 0 rfl) ?_
              refine lv_iload_n hx hb dX2_isForged_53 rfl (lv_at hl 1 rfl) ?_
              refine lv_iconst (v := 5) hx hb dX2_isForged_54 (by decide) ?_
              refine m_cQ (v := Rr 43 (7 * c1 + 5)) (As := [.int (nI c1), .int 5]) (rest := []) X M (metX2_on l D cl hcl h ad dA F Rr c1 5 (by omega) (by omega)) (cwV 2 hts (lw_V q1832 q1834 qs45 q62 q1835) rfl rfl rfl (by decide +kernel) ⟨Nat.le_of_ble_eq_true rfl, Nat.le_of_ble_eq_true rfl⟩) rfl hl.1 rfl (Nat.le_of_ble_eq_true rfl) dX2_isForged_55 ⟨Nat.zero_le _, Nat.zero_le _⟩ ?_
              refine lv_i2l (v := (Rr 43 (7 * c1 + 5)).toInt64) hx hb dX2_isForged_58 rfl ?_
              refine lv_aload_n hx hb dX2_isForged_59 rfl (lv_at hl 0 rfl) ?_
              refine mg_40 X M dX2_isForged_60 ?_
              refine lv_iload hx hb dX2_isForged_63 (lv_at hl 4 rfl) ?_
              refine mr_40 X M (f := Rr 40) rfl (j := i) (vp_in_nI (by omega) (by omega)) (nI_clamp (by omega)) dX2_isForged_65 ?_
              refine lv_i2l (v := (Rr 40 i).toInt64) hx hb dX2_isForged_66 rfl ?_
              refine lv_aload_n hx hb dX2_isForged_67 rfl (lv_at hl 0 rfl) ?_
              refine mg_41 X M dX2_isForged_68 ?_
              refine lv_iload hx hb dX2_isForged_71 (lv_at hl 4 rfl) ?_
              refine mr_41 X M (f := Rr 41) rfl (j := i) (vp_in_nI (by omega) (by omega)) (nI_clamp (by omega)) dX2_isForged_73 ?_
              refine lv_i2l (v := (Rr 41 i).toInt64) hx hb dX2_isForged_74 rfl ?_
              refine s_cI (v := b2i (inB (Rr 40 i) (Rr 41 i) (Rr 43 (7 * c1 + 5)))) (As := [.long ((Rr 43 (7 * c1 + 5)).toInt64), .long ((Rr 40 i).toInt64), .long ((Rr 41 i).toInt64)]) (rest := []) S (metX2_inI l (Rr 43 (7 * c1 + 5)) (Rr 40 i) (Rr 41 i) ((Rr 43 (7 * c1 + 5)).toInt64) ((Rr 40 i).toInt64) ((Rr 41 i).toInt64) rfl rfl rfl) (va_cwS 3 hts (lw_S q1623 q1624 q62 q1625) rfl rfl rfl (by decide +kernel) ⟨Nat.le_of_ble_eq_true rfl, Nat.le_of_ble_eq_true rfl⟩) rfl hl.1 rfl (Nat.le_of_ble_eq_true rfl) dX2_isForged_75 ⟨Nat.zero_le _, Nat.zero_le _⟩ ?_
              refine lz_if_eq (tgt := 85) hx hb dX2_isForged_78 (by decide) (fun c_13 => ?_) (fun c_13 => ?_)
              · -- c_13: inB (Rr 40 i) (Rr 41 i) (Rr 43 (7 * c1 + 5)) = false
                refine lv_iconst (v := 0) hx hb dX2_isForged_85 (by decide) ?_
                refine lv_istore_n (lv' := [(3, .int 0), (0, .ref h), (1, .int (nI c1)), (2, .int p2), (4, .int (nI i))]) hx hb dX2_isForged_86 rfl hl (by decide) rfl (fun ls hl => ?_)
                refine lv_iinc (v := nI (i + 1)) (lv' := [(4, .int (nI (i + 1))), (3, .int 0), (0, .ref h), (1, .int (nI c1)), (2, .int p2)]) hx hb dX2_isForged_87 hl (k := 4) rfl (mk_inc _) (by decide) rfl (fun ls hl => ?_)
                refine lv_goto (tgt := 23) hx hb dX2_isForged_90 (by decide) ?_
                exact L_2ih  (i + 1) false (by omega) (by first | (rw [itr_s, ← qz]; done) | (rw [itr_s, ← qz]; first | (simp [m_fgS1, em38, c_1, c_3, c_11, c_12, c_13, up_s, up_n, nI_1, b2i]; done) | (simp_all [m_fgS1]; done) | grind [m_fgS1])) (by omega) ls (lv_sub hl [2, 3, 4, 1, 0] rfl)
              · -- c_13: inB (Rr 40 i) (Rr 41 i) (Rr 43 (7 * c1 + 5)) = true
                refine lv_iconst (v := 1) hx hb dX2_isForged_81 (by decide) ?_
                refine lv_goto (tgt := 86) hx hb dX2_isForged_82 (by decide) ?_
                refine lv_istore_n (lv' := [(3, .int 1), (0, .ref h), (1, .int (nI c1)), (2, .int p2), (4, .int (nI i))]) hx hb dX2_isForged_86 rfl hl (by decide) rfl (fun ls hl => ?_)
                refine lv_iinc (v := nI (i + 1)) (lv' := [(4, .int (nI (i + 1))), (3, .int 1), (0, .ref h), (1, .int (nI c1)), (2, .int p2)]) hx hb dX2_isForged_87 hl (k := 4) rfl (mk_inc _) (by decide) rfl (fun ls hl => ?_)
                refine lv_goto (tgt := 23) hx hb dX2_isForged_90 (by decide) ?_
                exact L_2ih  (i + 1) true (by omega) (by first | (rw [itr_s, ← qz]; done) | (rw [itr_s, ← qz]; first | (simp [m_fgS1, em38, c_1, c_3, c_11, c_12, c_13, up_s, up_n, nI_1, b2i]; done) | (simp_all [m_fgS1]; done) | grind [m_fgS1])) (by omega) ls (lv_sub hl [2, 3, 4, 1, 0] rfl)
    exact L_2 ((n38 - 0) + 1) 0 false (Nat.zero_le _) (by first | rfl | (simp only [itr]; assumption) | (simp [itr, em38, c_1, up_s, up_n, nI_1, b2i]; done)) (Nat.lt_succ_self _) ls (lv_sub hl [2, 3, 4, 1, 0] rfl)
  · -- c_1: m_isGood (F 10) Rr (Rr 43 (7 * c1 + 4)) p2 = false
    refine lv_iconst (v := 1) hx hb dX2_isForged_14 (by decide) ?_
    refine lv_goto (tgt := 19) hx hb dX2_isForged_15 (by decide) ?_
    refine lv_istore_n (lv' := [(3, .int 1), (0, .ref h), (1, .int (nI c1)), (2, .int p2)]) hx hb dX2_isForged_19 rfl hl (by decide) rfl (fun ls hl => ?_)
    refine lv_iconst (v := 0) hx hb dX2_isForged_20 (by decide) ?_
    refine lv_istore (lv' := [(4, .int 0), (3, .int 1), (0, .ref h), (1, .int (nI c1)), (2, .int p2)]) hx hb dX2_isForged_21 hl (by decide) rfl (fun ls hl => ?_)
    have L_14 : ∀ (fuL_14 : Nat) (i : Nat) (z : Bool), (i ≤ n38) → (z = itr (m_fgS1 Rr c1) i (!m_isGood (F 10) Rr (Rr 43 (7 * c1 + 4)) p2)) → n38 - i < fuL_14 → ∀ ls, lv_has ls 5 [(0, .ref h), (1, .int (nI c1)), (2, .int p2), (3, .int (b2i z)), (4, .int (nI i))] → W p l e ({ frames := 2, cells := 0, slots := 0, locals := 50 } : Room) s m ([.ref h, .int (nI c1), .int p2] : List Value).toArray below meth c s.heap [] 0 0 (MQ below (vp_Si (fun r => r = b2i (m_isForged (F 10) (F 38) Rr c1 p2))) ([.ref h, .int (nI c1), .int p2] : List Value).toArray s 0 0 (fun _ => False)) (F0 m 23 ls []) := by
      intro fuL_14
      induction fuL_14 with
      | zero => intro i z hi qz hfuL_14; exact absurd hfuL_14 (Nat.not_lt_zero _)
      | succ fuL_14 L_14ih =>
        intro i z hi qz hfuL_14 ls hl
        refine lv_iload hx hb dX2_isForged_23 (lv_at hl 4 rfl) ?_
        refine lv_aload_n hx hb dX2_isForged_25 rfl (lv_at hl 0 rfl) ?_
        refine mg_38 X M (v := F 38) rfl dX2_isForged_26 ?_
        refine lv_asi (y := nI n38) en38 ?_
        refine ln_icmp_ge (tgt := 93) hx hb (a := i) (b := n38) (by omega) (by omega) dX2_isForged_29 (by decide) (fun c_15 => ?_) (fun c_15 => ?_)
        · -- c_15: nI i ≥ nI n38
          have ei : i = n38 := by omega
          rw [ei] at qz
          refine lv_iconst (v := 0) hx hb dX2_isForged_93 (by decide) ?_
          refine lv_istore (lv' := [(4, .int 0), (0, .ref h), (1, .int (nI c1)), (2, .int p2), (3, .int (b2i z))]) hx hb dX2_isForged_94 hl (by decide) rfl (fun ls hl => ?_)
          have L_16 : ∀ (fuL_16 : Nat) (j : Nat) (y : Bool), (j ≤ c1) → (y = itr (m_fgS2 Rr c1) j (itr (m_fgS1 Rr c1) n38 (!m_isGood (F 10) Rr (Rr 43 (7 * c1 + 4)) p2))) → c1 - j < fuL_16 → ∀ ls, lv_has ls 5 [(0, .ref h), (1, .int (nI c1)), (2, .int p2), (3, .int (b2i y)), (4, .int (nI j))] → W p l e ({ frames := 2, cells := 0, slots := 0, locals := 50 } : Room) s m ([.ref h, .int (nI c1), .int p2] : List Value).toArray below meth c s.heap [] 0 0 (MQ below (vp_Si (fun r => r = b2i (m_isForged (F 10) (F 38) Rr c1 p2))) ([.ref h, .int (nI c1), .int p2] : List Value).toArray s 0 0 (fun _ => False)) (F0 m 96 ls []) := by
            intro fuL_16
            induction fuL_16 with
            | zero => intro j y hj qy hfuL_16; exact absurd hfuL_16 (Nat.not_lt_zero _)
            | succ fuL_16 L_16ih =>
              intro j y hj qy hfuL_16 ls hl
              refine lv_iload hx hb dX2_isForged_96 (lv_at hl 4 rfl) ?_
              refine lv_iload_n hx hb dX2_isForged_98 rfl (lv_at hl 1 rfl) ?_
              refine ln_icmp_ge (tgt := 150) hx hb (a := j) (b := c1) (by omega) (by omega) dX2_isForged_99 (by decide) (fun c_17 => ?_) (fun c_17 => ?_)
              · -- c_17: nI j ≥ nI c1
                have ej : j = c1 := by omega
                rw [ej] at qy
                refine lv_iload_n hx hb dX2_isForged_150 rfl (lv_at hl 3 rfl) ?_
                refine lz_if_eq (tgt := 168) hx hb dX2_isForged_151 (by decide) (fun c_18 => ?_) (fun c_18 => ?_)
                · -- c_18: y = false
                  refine lv_iconst (v := 0) hx hb dX2_isForged_168 (by decide) ?_
                  exact W.zret (v := 0) hx hb hr rfl (fun t9 ht9 hW9 => ⟨_, rfl, (by first | (simp [m_isForged, b2i, em38, c_1, c_15, ← qz, c_17, ← qy, c_18, up_s, up_n, nI_1, b2i]; done) | (simp_all [m_isForged, b2i]; done) | grind [m_isForged, b2i]), ht9⟩) (fun _ h9 => by cases h9) dX2_isForged_169
                · -- c_18: y = true
                  refine lv_aload_n hx hb dX2_isForged_154 rfl (lv_at hl 0 rfl) ?_
                  refine lv_iload_n hx hb dX2_isForged_155 rfl (lv_at hl 1 rfl) ?_
                  refine lv_iconst (v := 0) hx hb dX2_isForged_156 (by decide) ?_
                  refine m_cQ (v := Rr 43 (7 * c1)) (As := [.int (nI c1), .int 0]) (rest := []) X M (metX2_on l D cl hcl h ad dA F Rr c1 0 (by omega) (by omega)) (cwV 2 hts (lw_V q1832 q1834 qs45 q62 q1835) rfl rfl rfl (by decide +kernel) ⟨Nat.le_of_ble_eq_true rfl, Nat.le_of_ble_eq_true rfl⟩) rfl hl.1 rfl (Nat.le_of_ble_eq_true rfl) dX2_isForged_157 ⟨Nat.zero_le _, Nat.zero_le _⟩ ?_
                  refine lv_iconst (v := 2) hx hb dX2_isForged_160 (by decide) ?_
                  refine lv_icmp_ne (tgt := 168) hx hb dX2_isForged_161 (by decide) (fun c_19 => ?_) (fun c_19 => ?_)
                  · -- c_19: Rr 43 (7 * c1) ≠ 2
                    refine lv_iconst (v := 0) hx hb dX2_isForged_168 (by decide) ?_
                    exact W.zret (v := 0) hx hb hr rfl (fun t9 ht9 hW9 => ⟨_, rfl, (by first | (simp [m_isForged, b2i, em38, c_1, c_15, ← qz, c_17, ← qy, c_18, c_19, up_s, up_n, nI_1, b2i]; done) | (simp_all [m_isForged, b2i]; done) | grind [m_isForged, b2i]), ht9⟩) (fun _ h9 => by cases h9) dX2_isForged_169
                  · -- c_19: Rr 43 (7 * c1) = 2
                    refine lv_iconst (v := 1) hx hb dX2_isForged_164 (by decide) ?_
                    refine lv_goto (tgt := 169) hx hb dX2_isForged_165 (by decide) ?_
                    exact W.zret (v := 1) hx hb hr rfl (fun t9 ht9 hW9 => ⟨_, rfl, (by first | (simp [m_isForged, b2i, em38, c_1, c_15, ← qz, c_17, ← qy, c_18, c_19, up_s, up_n, nI_1, b2i]; done) | (simp_all [m_isForged, b2i]; done) | grind [m_isForged, b2i]), ht9⟩) (fun _ h9 => by cases h9) dX2_isForged_169
              · -- c_17: nI j < nI c1
                refine lv_iload_n hx hb dX2_isForged_102 rfl (lv_at hl 3 rfl) ?_
                refine lz_if_ne (tgt := 138) hx hb dX2_isForged_103 (by decide) (fun c_20 => ?_) (fun c_20 => ?_)
                · -- c_20: y = true
                  refine lv_iconst (v := 1) hx hb dX2_isForged_138 (by decide) ?_
                  refine lv_goto (tgt := 143) hx hb dX2_isForged_139 (by decide) ?_
                  refine lv_istore_n (lv' := [(3, .int 1), (0, .ref h), (1, .int (nI c1)), (2, .int p2), (4, .int (nI j))]) hx hb dX2_isForged_143 rfl hl (by decide) rfl (fun ls hl => ?_)
                  refine lv_iinc (v := nI (j + 1)) (lv' := [(4, .int (nI (j + 1))), (3, .int 1), (0, .ref h), (1, .int (nI c1)), (2, .int p2)]) hx hb dX2_isForged_144 hl (k := 4) rfl (mk_inc _) (by decide) rfl (fun ls hl => ?_)
                  refine lv_goto (tgt := 96) hx hb dX2_isForged_147 (by decide) ?_
                  exact L_16ih  (j + 1) true (by omega) (by first | (rw [itr_s, ← qy]; done) | (rw [itr_s, ← qy]; first | (simp [m_fgS2, em38, c_1, c_15, ← qz, c_17, c_20, up_s, up_n, nI_1, b2i]; done) | (simp_all [m_fgS2]; done) | grind [m_fgS2])) (by omega) ls (lv_sub hl [2, 3, 4, 1, 0] rfl)
                · -- c_20: y = false
                  refine lv_aload_n hx hb dX2_isForged_106 rfl (lv_at hl 0 rfl) ?_
                  refine lv_iload hx hb dX2_isForged_107 (lv_at hl 4 rfl) ?_
                  refine lv_iconst (v := 2) hx hb dX2_isForged_109 (by decide) ?_
                  refine m_cQ (v := Rr 43 (7 * j + 2)) (As := [.int (nI j), .int 2]) (rest := []) X M (metX2_on l D cl hcl h ad dA F Rr j 2 (by omega) (by omega)) (cwV 2 hts (lw_V q1832 q1834 qs45 q62 q1835) rfl rfl rfl (by decide +kernel) ⟨Nat.le_of_ble_eq_true rfl, Nat.le_of_ble_eq_true rfl⟩) rfl hl.1 rfl (Nat.le_of_ble_eq_true rfl) dX2_isForged_110 ⟨Nat.zero_le _, Nat.zero_le _⟩ ?_
                  refine lv_aload_n hx hb dX2_isForged_113 rfl (lv_at hl 0 rfl) ?_
                  refine lv_iload_n hx hb dX2_isForged_114 rfl (lv_at hl 1 rfl) ?_
                  refine lv_iconst (v := 2) hx hb dX2_isForged_115 (by decide) ?_
                  refine m_cQ (v := Rr 43 (7 * c1 + 2)) (As := [.int (nI c1), .int 2]) (rest := [.int (Rr 43 (7 * j + 2))]) X M (metX2_on l D cl hcl h ad dA F Rr c1 2 (by omega) (by omega)) (cwV 2 hts (lw_V q1832 q1834 qs45 q62 q1835) rfl rfl rfl (by decide +kernel) ⟨Nat.le_of_ble_eq_true rfl, Nat.le_of_ble_eq_true rfl⟩) rfl hl.1 rfl (Nat.le_of_ble_eq_true rfl) dX2_isForged_116 ⟨Nat.zero_le _, Nat.zero_le _⟩ ?_
                  refine lv_icmp_ne (tgt := 142) hx hb dX2_isForged_119 (by decide) (fun c_21 => ?_) (fun c_21 => ?_)
                  · -- c_21: Rr 43 (7 * j + 2) ≠ Rr 43 (7 * c1 + 2)
                    refine lv_iconst (v := 0) hx hb dX2_isForged_142 (by decide) ?_
                    refine lv_istore_n (lv' := [(3, .int 0), (0, .ref h), (1, .int (nI c1)), (2, .int p2), (4, .int (nI j))]) hx hb dX2_isForged_143 rfl hl (by decide) rfl (fun ls hl => ?_)
                    refine lv_iinc (v := nI (j + 1)) (lv' := [(4, .int (nI (j + 1))), (3, .int 0), (0, .ref h), (1, .int (nI c1)), (2, .int p2)]) hx hb dX2_isForged_144 hl (k := 4) rfl (mk_inc _) (by decide) rfl (fun ls hl => ?_)
                    refine lv_goto (tgt := 96) hx hb dX2_isForged_147 (by decide) ?_
                    exact L_16ih  (j + 1) false (by omega) (by first | (rw [itr_s, ← qy]; done) | (rw [itr_s, ← qy]; first | (simp [m_fgS2, em38, c_1, c_15, ← qz, c_17, c_20, c_21, up_s, up_n, nI_1, b2i]; done) | (simp_all [m_fgS2]; done) | grind [m_fgS2])) (by omega) ls (lv_sub hl [2, 3, 4, 1, 0] rfl)
                  · -- c_21: Rr 43 (7 * j + 2) = Rr 43 (7 * c1 + 2)
                    refine lv_aload_n hx hb dX2_isForged_122 rfl (lv_at hl 0 rfl) ?_
                    refine lv_iload hx hb dX2_isForged_123 (lv_at hl 4 rfl) ?_
                    refine lv_iconst (v := 3) hx hb dX2_isForged_125 (by decide) ?_
                    refine m_cQ (v := Rr 43 (7 * j + 3)) (As := [.int (nI j), .int 3]) (rest := []) X M (metX2_on l D cl hcl h ad dA F Rr j 3 (by omega) (by omega)) (cwV 2 hts (lw_V q1832 q1834 qs45 q62 q1835) rfl rfl rfl (by decide +kernel) ⟨Nat.le_of_ble_eq_true rfl, Nat.le_of_ble_eq_true rfl⟩) rfl hl.1 rfl (Nat.le_of_ble_eq_true rfl) dX2_isForged_126 ⟨Nat.zero_le _, Nat.zero_le _⟩ ?_
                    refine lv_aload_n hx hb dX2_isForged_129 rfl (lv_at hl 0 rfl) ?_
                    refine lv_iload_n hx hb dX2_isForged_130 rfl (lv_at hl 1 rfl) ?_
                    refine lv_iconst (v := 3) hx hb dX2_isForged_131 (by decide) ?_
                    refine m_cQ (v := Rr 43 (7 * c1 + 3)) (As := [.int (nI c1), .int 3]) (rest := [.int (Rr 43 (7 * j + 3))]) X M (metX2_on l D cl hcl h ad dA F Rr c1 3 (by omega) (by omega)) (cwV 2 hts (lw_V q1832 q1834 qs45 q62 q1835) rfl rfl rfl (by decide +kernel) ⟨Nat.le_of_ble_eq_true rfl, Nat.le_of_ble_eq_true rfl⟩) rfl hl.1 rfl (Nat.le_of_ble_eq_true rfl) dX2_isForged_132 ⟨Nat.zero_le _, Nat.zero_le _⟩ ?_
                    refine lv_icmp_eq (tgt := 142) hx hb dX2_isForged_135 (by decide) (fun c_22 => ?_) (fun c_22 => ?_)
                    · -- c_22: Rr 43 (7 * j + 3) = Rr 43 (7 * c1 + 3)
                      refine lv_iconst (v := 0) hx hb dX2_isForged_142 (by decide) ?_
                      refine lv_istore_n (lv' := [(3, .int 0), (0, .ref h), (1, .int (nI c1)), (2, .int p2), (4, .int (nI j))]) hx hb dX2_isForged_143 rfl hl (by decide) rfl (fun ls hl => ?_)
                      refine lv_iinc (v := nI (j + 1)) (lv' := [(4, .int (nI (j + 1))), (3, .int 0), (0, .ref h), (1, .int (nI c1)), (2, .int p2)]) hx hb dX2_isForged_144 hl (k := 4) rfl (mk_inc _) (by decide) rfl (fun ls hl => ?_)
                      refine lv_goto (tgt := 96) hx hb dX2_isForged_147 (by decide) ?_
                      exact L_16ih  (j + 1) false (by omega) (by first | (rw [itr_s, ← qy]; done) | (rw [itr_s, ← qy]; first | (simp [m_fgS2, em38, c_1, c_15, ← qz, c_17, c_20, c_21, c_22, up_s, up_n, nI_1, b2i]; done) | (simp_all [m_fgS2]; done) | grind [m_fgS2])) (by omega) ls (lv_sub hl [2, 3, 4, 1, 0] rfl)
                    · -- c_22: Rr 43 (7 * j + 3) ≠ Rr 43 (7 * c1 + 3)
                      refine lv_iconst (v := 1) hx hb dX2_isForged_138 (by decide) ?_
                      refine lv_goto (tgt := 143) hx hb dX2_isForged_139 (by decide) ?_
                      refine lv_istore_n (lv' := [(3, .int 1), (0, .ref h), (1, .int (nI c1)), (2, .int p2), (4, .int (nI j))]) hx hb dX2_isForged_143 rfl hl (by decide) rfl (fun ls hl => ?_)
                      refine lv_iinc (v := nI (j + 1)) (lv' := [(4, .int (nI (j + 1))), (3, .int 1), (0, .ref h), (1, .int (nI c1)), (2, .int p2)]) hx hb dX2_isForged_144 hl (k := 4) rfl (mk_inc _) (by decide) rfl (fun ls hl => ?_)
                      refine lv_goto (tgt := 96) hx hb dX2_isForged_147 (by decide) ?_
                      exact L_16ih  (j + 1) true (by omega) (by first | (rw [itr_s, ← qy]; done) | (rw [itr_s, ← qy]; first | (simp [m_fgS2, em38, c_1, c_15, ← qz, c_17, c_20, c_21, c_22, up_s, up_n, nI_1, b2i]; done) | (simp_all [m_fgS2]; done) | grind [m_fgS2])) (by omega) ls (lv_sub hl [2, 3, 4, 1, 0] rfl)
          exact L_16 ((c1 - 0) + 1) 0 z (Nat.zero_le _) (by first | rfl | (simp only [itr]; assumption) | (simp [itr, em38, c_1, c_15, ← qz, up_s, up_n, nI_1, b2i]; done)) (Nat.lt_succ_self _) ls (lv_sub hl [1, 2, 3, 4, 0] rfl)
        · -- c_15: nI i < nI n38
          refine lv_iload_n hx hb dX2_isForged_32 rfl (lv_at hl 3 rfl) ?_
          refine lz_if_ne (tgt := 81) hx hb dX2_isForged_33 (by decide) (fun c_23 => ?_) (fun c_23 => ?_)
          · -- c_23: z = true
            refine lv_iconst (v := 1) hx hb dX2_isForged_81 (by decide) ?_
            refine lv_goto (tgt := 86) hx hb dX2_isForged_82 (by decide) ?_
            refine lv_istore_n (lv' := [(3, .int 1), (0, .ref h), (1, .int (nI c1)), (2, .int p2), (4, .int (nI i))]) hx hb dX2_isForged_86 rfl hl (by decide) rfl (fun ls hl => ?_)
            refine lv_iinc (v := nI (i + 1)) (lv' := [(4, .int (nI (i + 1))), (3, .int 1), (0, .ref h), (1, .int (nI c1)), (2, .int p2)]) hx hb dX2_isForged_87 hl (k := 4) rfl (mk_inc _) (by decide) rfl (fun ls hl => ?_)
            refine lv_goto (tgt := 23) hx hb dX2_isForged_90 (by decide) ?_
            exact L_14ih  (i + 1) true (by omega) (by first | (rw [itr_s, ← qz]; done) | (rw [itr_s, ← qz]; first | (simp [m_fgS1, em38, c_1, c_15, c_23, up_s, up_n, nI_1, b2i]; done) | (simp_all [m_fgS1]; done) | grind [m_fgS1])) (by omega) ls (lv_sub hl [2, 3, 4, 1, 0] rfl)
          · -- c_23: z = false
            refine lv_aload_n hx hb dX2_isForged_36 rfl (lv_at hl 0 rfl) ?_
            refine mg_39 X M dX2_isForged_37 ?_
            refine lv_iload hx hb dX2_isForged_40 (lv_at hl 4 rfl) ?_
            refine mr_39 X M (f := Rr 39) rfl (j := i) (vp_in_nI (by omega) (by omega)) (nI_clamp (by omega)) dX2_isForged_42 ?_
            refine lv_aload_n hx hb dX2_isForged_43 rfl (lv_at hl 0 rfl) ?_
            refine lv_iload_n hx hb dX2_isForged_44 rfl (lv_at hl 1 rfl) ?_
            refine lv_iconst (v := 4) hx hb dX2_isForged_45 (by decide) ?_
            refine m_cQ (v := Rr 43 (7 * c1 + 4)) (As := [.int (nI c1), .int 4]) (rest := [.int (Rr 39 i)]) X M (metX2_on l D cl hcl h ad dA F Rr c1 4 (by omega) (by omega)) (cwV 2 hts (lw_V q1832 q1834 qs45 q62 q1835) rfl rfl rfl (by decide +kernel) ⟨Nat.le_of_ble_eq_true rfl, Nat.le_of_ble_eq_true rfl⟩) rfl hl.1 rfl (Nat.le_of_ble_eq_true rfl) dX2_isForged_46 ⟨Nat.zero_le _, Nat.zero_le _⟩ ?_
            refine lv_icmp_ne (tgt := 85) hx hb dX2_isForged_49 (by decide) (fun c_24 => ?_) (fun c_24 => ?_)
            · -- c_24: Rr 39 i ≠ Rr 43 (7 * c1 + 4)
              refine lv_iconst (v := 0) hx hb dX2_isForged_85 (by decide) ?_
              refine lv_istore_n (lv' := [(3, .int 0), (0, .ref h), (1, .int (nI c1)), (2, .int p2), (4, .int (nI i))]) hx hb dX2_isForged_86 rfl hl (by decide) rfl (fun ls hl => ?_)
              refine lv_iinc (v := nI (i + 1)) (lv' := [(4, .int (nI (i + 1))), (3, .int 0), (0, .ref h), (1, .int (nI c1)), (2, .int p2)]) hx hb dX2_isForged_87 hl (k := 4) rfl (mk_inc _) (by decide) rfl (fun ls hl => ?_)
              refine lv_goto (tgt := 23) hx hb dX2_isForged_90 (by decide) ?_
              exact L_14ih  (i + 1) false (by omega) (by first | (rw [itr_s, ← qz]; done) | (rw [itr_s, ← qz]; first | (simp [m_fgS1, em38, c_1, c_15, c_23, c_24, up_s, up_n, nI_1, b2i]; done) | (simp_all [m_fgS1]; done) | grind [m_fgS1])) (by omega) ls (lv_sub hl [2, 3, 4, 1, 0] rfl)
            · -- c_24: Rr 39 i = Rr 43 (7 * c1 + 4)
              refine lv_aload_n hx hb dX2_isForged_52 rfl (lv_at hl 0 rfl) ?_
              refine lv_iload_n hx hb dX2_isForged_53 rfl (lv_at hl 1 rfl) ?_
              refine lv_iconst (v := 5) hx hb dX2_isForged_54 (by decide) ?_
              refine m_cQ (v := Rr 43 (7 * c1 + 5)) (As := [.int (nI c1), .int 5]) (rest := []) X M (metX2_on l D cl hcl h ad dA F Rr c1 5 (by omega) (by omega)) (cwV 2 hts (lw_V q1832 q1834 qs45 q62 q1835) rfl rfl rfl (by decide +kernel) ⟨Nat.le_of_ble_eq_true rfl, Nat.le_of_ble_eq_true rfl⟩) rfl hl.1 rfl (Nat.le_of_ble_eq_true rfl) dX2_isForged_55 ⟨Nat.zero_le _, Nat.zero_le _⟩ ?_
              refine lv_i2l (v := (Rr 43 (7 * c1 + 5)).toInt64) hx hb dX2_isForged_58 rfl ?_
              refine lv_aload_n hx hb dX2_isForged_59 rfl (lv_at hl 0 rfl) ?_
              refine mg_40 X M dX2_isForged_60 ?_
              refine lv_iload hx hb dX2_isForged_63 (lv_at hl 4 rfl) ?_
              refine mr_40 X M (f := Rr 40) rfl (j := i) (vp_in_nI (by omega) (by omega)) (nI_clamp (by omega)) dX2_isForged_65 ?_
              refine lv_i2l (v := (Rr 40 i).toInt64) hx hb dX2_isForged_66 rfl ?_
              refine lv_aload_n hx hb dX2_isForged_67 rfl (lv_at hl 0 rfl) ?_
              refine mg_41 X M dX2_isForged_68 ?_
              refine lv_iload hx hb dX2_isForged_71 (lv_at hl 4 rfl) ?_
              refine mr_41 X M (f := Rr 41) rfl (j := i) (vp_in_nI (by omega) (by omega)) (nI_clamp (by omega)) dX2_isForged_73 ?_
              refine lv_i2l (v := (Rr 41 i).toInt64) hx hb dX2_isForged_74 rfl ?_
              refine s_cI (v := b2i (inB (Rr 40 i) (Rr 41 i) (Rr 43 (7 * c1 + 5)))) (As := [.long ((Rr 43 (7 * c1 + 5)).toInt64), .long ((Rr 40 i).toInt64), .long ((Rr 41 i).toInt64)]) (rest := []) S (metX2_inI l (Rr 43 (7 * c1 + 5)) (Rr 40 i) (Rr 41 i) ((Rr 43 (7 * c1 + 5)).toInt64) ((Rr 40 i).toInt64) ((Rr 41 i).toInt64) rfl rfl rfl) (va_cwS 3 hts (lw_S q1623 q1624 q62 q1625) rfl rfl rfl (by decide +kernel) ⟨Nat.le_of_ble_eq_true rfl, Nat.le_of_ble_eq_true rfl⟩) rfl hl.1 rfl (Nat.le_of_ble_eq_true rfl) dX2_isForged_75 ⟨Nat.zero_le _, Nat.zero_le _⟩ ?_
              refine lz_if_eq (tgt := 85) hx hb dX2_isForged_78 (by decide) (fun c_25 => ?_) (fun c_25 => ?_)
              · -- c_25: inB (Rr 40 i) (Rr 41 i) (Rr 43 (7 * c1 + 5)) = false
                refine lv_iconst (v := 0) hx hb dX2_isForged_85 (by decide) ?_
                refine lv_istore_n (lv' := [(3, .int 0), (0, .ref h), (1, .int (nI c1)), (2, .int p2), (4, .int (nI i))]) hx hb dX2_isForged_86 rfl hl (by decide) rfl (fun ls hl => ?_)
                refine lv_iinc (v := nI (i + 1)) (lv' := [(4, .int (nI (i + 1))), (3, .int 0), (0, .ref h), (1, .int (nI c1)), (2, .int p2)]) hx hb dX2_isForged_87 hl (k := 4) rfl (mk_inc _) (by decide) rfl (fun ls hl => ?_)
                refine lv_goto (tgt := 23) hx hb dX2_isForged_90 (by decide) ?_
                exact L_14ih  (i + 1) false (by omega) (by first | (rw [itr_s, ← qz]; done) | (rw [itr_s, ← qz]; first | (simp [m_fgS1, em38, c_1, c_15, c_23, c_24, c_25, up_s, up_n, nI_1, b2i]; done) | (simp_all [m_fgS1]; done) | grind [m_fgS1])) (by omega) ls (lv_sub hl [2, 3, 4, 1, 0] rfl)
              · -- c_25: inB (Rr 40 i) (Rr 41 i) (Rr 43 (7 * c1 + 5)) = true
                refine lv_iconst (v := 1) hx hb dX2_isForged_81 (by decide) ?_
                refine lv_goto (tgt := 86) hx hb dX2_isForged_82 (by decide) ?_
                refine lv_istore_n (lv' := [(3, .int 1), (0, .ref h), (1, .int (nI c1)), (2, .int p2), (4, .int (nI i))]) hx hb dX2_isForged_86 rfl hl (by decide) rfl (fun ls hl => ?_)
                refine lv_iinc (v := nI (i + 1)) (lv' := [(4, .int (nI (i + 1))), (3, .int 1), (0, .ref h), (1, .int (nI c1)), (2, .int p2)]) hx hb dX2_isForged_87 hl (k := 4) rfl (mk_inc _) (by decide) rfl (fun ls hl => ?_)
                refine lv_goto (tgt := 23) hx hb dX2_isForged_90 (by decide) ?_
                exact L_14ih  (i + 1) true (by omega) (by first | (rw [itr_s, ← qz]; done) | (rw [itr_s, ← qz]; first | (simp [m_fgS1, em38, c_1, c_15, c_23, c_24, c_25, up_s, up_n, nI_1, b2i]; done) | (simp_all [m_fgS1]; done) | grind [m_fgS1])) (by omega) ls (lv_sub hl [2, 3, 4, 1, 0] rfl)
    exact L_14 ((n38 - 0) + 1) 0 true (Nat.zero_le _) (by first | rfl | (simp only [itr]; assumption) | (simp [itr, em38, c_1, up_s, up_n, nI_1, b2i]; done)) (Nat.lt_succ_self _) ls (lv_sub hl [2, 3, 4, 1, 0] rfl)

def m_kindOf (n10 n38 n44 : Int32) (Rr : Nat → Nat → Int32) (p : Nat) : Int32 := if m_isForged n10 n38 Rr p n44 = true then 3 else if Rr 43 (7 * p) = 2 then 2 else if Rr 43 (7 * p) = 1 then 1 else if Rr 43 (7 * p) = 3 then 4 else 0
set_option maxHeartbeats 4000000 in
set_option maxRecDepth 100000 in
theorem metX2_kindOf (l : Launch) (D : va_G) (cl : List vw_C) (hcl : cl[0]? = some (RX2, TX2, 61)) (h : Nat) (ad : Nat → Nat) (dA : ClassId) (F : Nat → Int32) (Rr : Nat → Nat → Int32) (c1 : Nat) (hc1 : c1 < 16) (h10 : cnB (F 10) 30) (h38 : cnB (F 38) 20) : Met l yX2_kindOf (ws_ yX2_kindOf cX2_kindOf 3 (some .int)) ({ frames := 3, cells := 0, slots := 0, locals := 74 } : Room) (va_Pc [.ref h, .int (nI c1)] (mPre D cl h ad dA F Rr)) (vp_Si (fun r => r = m_kindOf (F 10) (F 38) (F 44) Rr c1)) 0 0 (fun _ => False) := by
  refine Met.ofW (cc := cX2_kindOf) (maxL := 3) (ret := (some .int)) (by decide) rfl ?_
  intro p e s m args below meth c s₁ B hml hv
  obtain ⟨rfl, hK, hP, hD⟩ := hv
  have hx := B.exec
  have hb := B.bytes
  have hr := B.returns
  have hts := atoms_spec (ws := (ws_ yX2_kindOf cX2_kindOf 3 (some .int))) B.pre
  have hts : ∀ w ∈ lw_all, w.before _ s = true := fun w h => hts w (List.mem_cons_of_mem _ h)
  have hown : s.vm.findClass RX2 = some m.cls := findClass_of_methodNamed B.named
  have hlocks := B.notSynchronized
  have S : CallFix p m c cX2_kindOf 3 s ([.ref h, .int (nI c1)] : List Value).toArray lw_all RX2 := ⟨hx, hb, hml, hown, hts⟩
  have X : mX p s m ([.ref h, .int (nI c1)] : List Value).toArray c cX2_kindOf 3 D cl dA := ⟨hx, hb, hml, hown, hts, hK, hcl⟩
  have M : mM D cl h ad dA (mN h ad) s F Rr s.heap [] := ⟨hP, mW_self hD, va_S.rf⟩
  have hl := lv_entry ([.ref h, .int (nI c1)]) (n := 3) (Nat.le_of_ble_eq_true rfl)
  rw [lg_entry_eq]
  generalize (lg_sl ([.ref h, .int (nI c1)]) ++ List.replicate (3 - (lg_sl ([.ref h, .int (nI c1)])).length) Slot.unset).toArray = ls at hl ⊢
  have hl : lv_has ls 3 [(0, .ref h), (1, .int (nI c1))] := hl
  refine lv_aload_n hx hb dX2_kindOf_0 rfl (lv_at hl 0 rfl) ?_
  refine lv_iload_n hx hb dX2_kindOf_1 rfl (lv_at hl 1 rfl) ?_
  refine lv_iconst (v := 0) hx hb dX2_kindOf_2 (by decide) ?_
  refine m_cQ (v := Rr 43 (7 * c1)) (As := [.int (nI c1), .int 0]) (rest := []) X M (metX2_on l D cl hcl h ad dA F Rr c1 0 (by omega) (by omega)) (cwV 2 hts (lw_V q1832 q1834 qs45 q62 q1835) rfl rfl rfl (by decide +kernel) ⟨Nat.le_of_ble_eq_true rfl, Nat.le_of_ble_eq_true rfl⟩) rfl hl.1 rfl (Nat.le_of_ble_eq_true rfl) dX2_kindOf_3 ⟨Nat.zero_le _, Nat.zero_le _⟩ ?_
  refine lv_istore_n (lv' := [(2, .int (Rr 43 (7 * c1))), (0, .ref h), (1, .int (nI c1))]) hx hb dX2_kindOf_6 rfl hl (by decide) rfl (fun ls hl => ?_)
  refine lv_aload_n hx hb dX2_kindOf_7 rfl (lv_at hl 1 rfl) ?_
  refine lv_iload_n hx hb dX2_kindOf_8 rfl (lv_at hl 2 rfl) ?_
  refine lv_aload_n hx hb dX2_kindOf_9 rfl (lv_at hl 1 rfl) ?_
  refine mg_44 X M (v := F 44) rfl dX2_kindOf_10 ?_
  refine m_cQ (v := b2i (m_isForged (F 10) (F 38) Rr c1 (F 44))) (As := [.int (nI c1), .int (F 44)]) (rest := []) X M (metX2_isForged l D cl hcl h ad dA F Rr c1 (F 44) (by omega) h10 h38) (cwV 2 hts (lw_V q1844 q1846 qs47 q62 q1847) rfl rfl rfl (by decide +kernel) ⟨Nat.le_of_ble_eq_true rfl, Nat.le_of_ble_eq_true rfl⟩) rfl hl.1 rfl (Nat.le_of_ble_eq_true rfl) dX2_kindOf_13 ⟨Nat.zero_le _, Nat.zero_le _⟩ ?_
  refine lz_if_eq (tgt := 23) hx hb dX2_kindOf_16 (by decide) (fun c_1 => ?_) (fun c_1 => ?_)
  · -- c_1: m_isForged (F 10) (F 38) Rr c1 (F 44) = false
    refine lv_iload_n hx hb dX2_kindOf_23 rfl (lv_at hl 0 rfl) ?_
    refine lv_iconst (v := 2) hx hb dX2_kindOf_24 (by decide) ?_
    refine lv_icmp_ne (tgt := 32) hx hb dX2_kindOf_25 (by decide) (fun c_2 => ?_) (fun c_2 => ?_)
    · -- c_2: Rr 43 (7 * c1) ≠ 2
      refine lv_iload_n hx hb dX2_kindOf_32 rfl (lv_at hl 0 rfl) ?_
      refine lv_iconst (v := 1) hx hb dX2_kindOf_33 (by decide) ?_
      refine lv_icmp_ne (tgt := 41) hx hb dX2_kindOf_34 (by decide) (fun c_3 => ?_) (fun c_3 => ?_)
      · -- c_3: Rr 43 (7 * c1) ≠ 1
        refine lv_iload_n hx hb dX2_kindOf_41 rfl (lv_at hl 0 rfl) ?_
        refine lv_iconst (v := 3) hx hb dX2_kindOf_42 (by decide) ?_
        refine lv_icmp_ne (tgt := 50) hx hb dX2_kindOf_43 (by decide) (fun c_4 => ?_) (fun c_4 => ?_)
        · -- c_4: Rr 43 (7 * c1) ≠ 3
          refine lv_iconst (v := 0) hx hb dX2_kindOf_50 (by decide) ?_
          exact W.iret (v := 0) hx hb hr (fun t9 ht9 hW9 => ⟨_, rfl, (by first | (simp [m_kindOf, c_1, c_2, c_3, c_4, up_s, up_n, nI_1, b2i]; done) | (simp_all [m_kindOf]; done) | grind [m_kindOf]), ht9⟩) (fun _ h9 => by cases h9) dX2_kindOf_51
        · -- c_4: Rr 43 (7 * c1) = 3
          refine lv_iconst (v := 4) hx hb dX2_kindOf_46 (by decide) ?_
          refine lv_goto (tgt := 51) hx hb dX2_kindOf_47 (by decide) ?_
          exact W.iret (v := 4) hx hb hr (fun t9 ht9 hW9 => ⟨_, rfl, (by first | (simp [m_kindOf, c_1, c_2, c_3, c_4, up_s, up_n, nI_1, b2i]; done) | (simp_all [m_kindOf]; done) | grind [m_kindOf]), ht9⟩) (fun _ h9 => by cases h9) dX2_kindOf_51
      · -- c_3: Rr 43 (7 * c1) = 1
        refine lv_iconst (v := 1) hx hb dX2_kindOf_37 (by decide) ?_
        refine lv_goto (tgt := 51) hx hb dX2_kindOf_38 (by decide) ?_
        exact W.iret (v := 1) hx hb hr (fun t9 ht9 hW9 => ⟨_, rfl, (by first | (simp [m_kindOf, c_1, c_2, c_3, up_s, up_n, nI_1, b2i]; done) | (simp_all [m_kindOf]; done) | grind [m_kindOf]), ht9⟩) (fun _ h9 => by cases h9) dX2_kindOf_51
    · -- c_2: Rr 43 (7 * c1) = 2
      refine lv_iconst (v := 2) hx hb dX2_kindOf_28 (by decide) ?_
      refine lv_goto (tgt := 51) hx hb dX2_kindOf_29 (by decide) ?_
      exact W.iret (v := 2) hx hb hr (fun t9 ht9 hW9 => ⟨_, rfl, (by first | (simp [m_kindOf, c_1, c_2, up_s, up_n, nI_1, b2i]; done) | (simp_all [m_kindOf]; done) | grind [m_kindOf]), ht9⟩) (fun _ h9 => by cases h9) dX2_kindOf_51
  · -- c_1: m_isForged (F 10) (F 38) Rr c1 (F 44) = true
    refine lv_iconst (v := 3) hx hb dX2_kindOf_19 (by decide) ?_
    refine lv_goto (tgt := 51) hx hb dX2_kindOf_20 (by decide) ?_
    exact W.iret (v := 3) hx hb hr (fun t9 ht9 hW9 => ⟨_, rfl, (by first | (simp [m_kindOf, c_1, up_s, up_n, nI_1, b2i]; done) | (simp_all [m_kindOf]; done) | grind [m_kindOf]), ht9⟩) (fun _ h9 => by cases h9) dX2_kindOf_51

def m_kind (F : Nat → Int32) (Rr : Nat → Nat → Int32) (p : Int32) : Int32 × mST := if inB 0 (F 42 - 1) p = false then ((-1000001), F, Rr) else (m_kindOf (F 10) (F 38) (F 44) Rr p.toNatClampNeg, F, Rr)
def m_as (F : Nat → Int32) (Rr : Nat → Nat → Int32) (p f : Int32) : Int32 × mST := if inB 0 (F 42 - 1) p = false ∨ inB 0 4 f = false then ((-1000001), F, Rr) else if m_isOf (m_kindOf (F 10) (F 38) (F 44) Rr p.toNatClampNeg) f = true then (Rr 43 (7 * p.toNatClampNeg + 2), va_up F 1 0, Rr) else m_finding (va_up F 1 0) Rr 3
set_option maxHeartbeats 4000000 in
set_option maxRecDepth 100000 in
theorem metX2_kind (l : Launch) (D : va_G) (cl : List vw_C) (hcl : cl[0]? = some (RX2, TX2, 61)) (h : Nat) (ad : Nat → Nat) (dA : ClassId) (F : Nat → Int32) (Rr : Nat → Nat → Int32) (p1 : Int32) (h10 : cnB (F 10) 30) (h38 : cnB (F 38) 20) (h42 : cnB (F 42) 16) : Met l yX2_kind (ws_ yX2_kind cX2_kind 2 (some .int)) ({ frames := 4, cells := 0, slots := 0, locals := 96 } : Room) (va_Pc [.ref h, .int p1] (mPre D cl h ad dA F Rr)) (va_Qi (fun r u => (r, u) = m_kind (va_up F 0 0) Rr p1) (mB D cl h ad dA) (mN h ad)) 0 0 (mN h ad) := by
  refine Met.ofW (cc := cX2_kind) (maxL := 2) (ret := (some .int)) (by decide) rfl ?_
  intro p e s m args below meth c s₁ B hml hv
  obtain ⟨rfl, hK, hP, hD⟩ := hv
  have hx := B.exec
  have hb := B.bytes
  have hr := B.returns
  have hts := atoms_spec (ws := (ws_ yX2_kind cX2_kind 2 (some .int))) B.pre
  have hts : ∀ w ∈ lw_all, w.before _ s = true := fun w h => hts w (List.mem_cons_of_mem _ h)
  have hown : s.vm.findClass RX2 = some m.cls := findClass_of_methodNamed B.named
  have hlocks := B.notSynchronized
  have S : CallFix p m c cX2_kind 2 s ([.ref h, .int p1] : List Value).toArray lw_all RX2 := ⟨hx, hb, hml, hown, hts⟩
  have X : mX p s m ([.ref h, .int p1] : List Value).toArray c cX2_kind 2 D cl dA := ⟨hx, hb, hml, hown, hts, hK, hcl⟩
  have M : mM D cl h ad dA (mN h ad) s F Rr s.heap [] := ⟨hP, mW_self hD, va_S.rf⟩
  have hl := lv_entry ([.ref h, .int p1]) (n := 2) (Nat.le_of_ble_eq_true rfl)
  rw [lg_entry_eq]
  generalize (lg_sl ([.ref h, .int p1]) ++ List.replicate (2 - (lg_sl ([.ref h, .int p1])).length) Slot.unset).toArray = ls at hl ⊢
  have hl : lv_has ls 2 [(0, .ref h), (1, .int p1)] := hl
  refine lv_aload_n hx hb dX2_kind_0 rfl (lv_at hl 0 rfl) ?_
  refine lv_iconst (v := 0) hx hb dX2_kind_1 (by decide) ?_
  refine mp_0 X M dX2_kind_2 (fun H locs M => ?_)
  refine lv_aload_n hx hb dX2_kind_5 rfl (lv_at hl 0 rfl) ?_
  refine lv_iload_n hx hb dX2_kind_6 rfl (lv_at hl 1 rfl) ?_
  refine m_cQ (v := b2i (inB 0 ((F 42) - 1) p1)) (As := [.int p1]) (rest := []) X M (metX2_isPass l D cl hcl h ad dA (va_up F 0 0) Rr p1) (cwV 1 hts (lw_V q1840 q1842 qs46 q62 q1843) rfl rfl rfl (by decide +kernel) ⟨Nat.le_of_ble_eq_true rfl, Nat.le_of_ble_eq_true rfl⟩) rfl hl.1 rfl (Nat.le_of_ble_eq_true rfl) dX2_kind_7 ⟨Nat.zero_le _, Nat.zero_le _⟩ ?_
  refine lz_if_eq (tgt := 21) hx hb dX2_kind_10 (by decide) (fun c_1 => ?_) (fun c_1 => ?_)
  · -- c_1: inB 0 ((F 42) - 1) p1 = false
    refine lv_ldc (v := (-1000001)) hx hb hown (hts _ q1627) dX2_kind_21 ?_
    exact W.iret (v := (-1000001)) hx hb hr (fun t9 ht9 hW9 => ⟨⟨_, (va_up F 0 0, Rr), rfl, (by first | (simp [m_kind, c_1, up_s, up_n, nI_1, b2i]; done) | (simp_all [m_kind]; done) | grind [m_kind]), by show va_P _ _ _ t9.heap; rw [ht9]; exact M.1⟩, M.2.2.F ht9⟩) M.2.2.2.2 dX2_kind_23
  · -- c_1: inB 0 ((F 42) - 1) p1 = true
    obtain ⟨c1, hc1, rfl⟩ := at_ex c_1 h42 (m := 16) rfl
    have ec1 : (nI c1).toNatClampNeg = c1 := nI_clamp (by omega)
    refine lv_aload_n hx hb dX2_kind_13 rfl (lv_at hl 0 rfl) ?_
    refine lv_iload_n hx hb dX2_kind_14 rfl (lv_at hl 1 rfl) ?_
    refine m_cQ (v := m_kindOf (F 10) (F 38) (F 44) Rr c1) (As := [.int (nI c1)]) (rest := []) X M (metX2_kindOf l D cl hcl h ad dA (va_up F 0 0) Rr c1 (by omega) h10 h38) (cwV 1 hts (lw_V q1915 q1917 qs51 q62 q1918) rfl rfl rfl (by decide +kernel) ⟨Nat.le_of_ble_eq_true rfl, Nat.le_of_ble_eq_true rfl⟩) rfl hl.1 rfl (Nat.le_of_ble_eq_true rfl) dX2_kind_15 ⟨Nat.zero_le _, Nat.zero_le _⟩ ?_
    refine lv_goto (tgt := 23) hx hb dX2_kind_18 (by decide) ?_
    exact W.iret (v := m_kindOf (F 10) (F 38) (F 44) Rr c1) hx hb hr (fun t9 ht9 hW9 => ⟨⟨_, (va_up F 0 0, Rr), rfl, (by first | (simp [m_kind, c_1, ec1, up_s, up_n, nI_1, b2i]; done) | (simp_all [m_kind]; done) | grind [m_kind]), by show va_P _ _ _ t9.heap; rw [ht9]; exact M.1⟩, M.2.2.F ht9⟩) M.2.2.2.2 dX2_kind_23

set_option maxHeartbeats 4000000 in
set_option maxRecDepth 100000 in
theorem metX2_as (l : Launch) (D : va_G) (cl : List vw_C) (hcl : cl[0]? = some (RX2, TX2, 61)) (h : Nat) (ad : Nat → Nat) (dA : ClassId) (F : Nat → Int32) (Rr : Nat → Nat → Int32) (p1 : Int32) (p2 : Int32) (h10 : cnB (F 10) 30) (h38 : cnB (F 38) 20) (h42 : cnB (F 42) 16) : Met l yX2_as (ws_ yX2_as cX2_as 3 (some .int)) ({ frames := 4, cells := 0, slots := 0, locals := 96 } : Room) (va_Pc [.ref h, .int p1, .int p2] (mPre D cl h ad dA F Rr)) (va_Qi (fun r u => (r, u) = m_as (va_up F 0 0) Rr p1 p2) (mB D cl h ad dA) (mN h ad)) 0 0 (mN h ad) := by
  refine Met.ofW (cc := cX2_as) (maxL := 3) (ret := (some .int)) (by decide) rfl ?_
  intro p e s m args below meth c s₁ B hml hv
  obtain ⟨rfl, hK, hP, hD⟩ := hv
  have hx := B.exec
  have hb := B.bytes
  have hr := B.returns
  have hts := atoms_spec (ws := (ws_ yX2_as cX2_as 3 (some .int))) B.pre
  have hts : ∀ w ∈ lw_all, w.before _ s = true := fun w h => hts w (List.mem_cons_of_mem _ h)
  have hown : s.vm.findClass RX2 = some m.cls := findClass_of_methodNamed B.named
  have hlocks := B.notSynchronized
  have S : CallFix p m c cX2_as 3 s ([.ref h, .int p1, .int p2] : List Value).toArray lw_all RX2 := ⟨hx, hb, hml, hown, hts⟩
  have X : mX p s m ([.ref h, .int p1, .int p2] : List Value).toArray c cX2_as 3 D cl dA := ⟨hx, hb, hml, hown, hts, hK, hcl⟩
  have M : mM D cl h ad dA (mN h ad) s F Rr s.heap [] := ⟨hP, mW_self hD, va_S.rf⟩
  have hl := lv_entry ([.ref h, .int p1, .int p2]) (n := 3) (Nat.le_of_ble_eq_true rfl)
  rw [lg_entry_eq]
  generalize (lg_sl ([.ref h, .int p1, .int p2]) ++ List.replicate (3 - (lg_sl ([.ref h, .int p1, .int p2])).length) Slot.unset).toArray = ls at hl ⊢
  have hl : lv_has ls 3 [(0, .ref h), (1, .int p1), (2, .int p2)] := hl
  refine lv_aload_n hx hb dX2_as_0 rfl (lv_at hl 0 rfl) ?_
  refine lv_iconst (v := 0) hx hb dX2_as_1 (by decide) ?_
  refine mp_0 X M dX2_as_2 (fun H locs M => ?_)
  refine lv_aload_n hx hb dX2_as_5 rfl (lv_at hl 0 rfl) ?_
  refine lv_iload_n hx hb dX2_as_6 rfl (lv_at hl 1 rfl) ?_
  refine m_cQ (v := b2i (inB 0 ((F 42) - 1) p1)) (As := [.int p1]) (rest := []) X M (metX2_isPass l D cl hcl h ad dA (va_up F 0 0) Rr p1) (cwV 1 hts (lw_V q1840 q1842 qs46 q62 q1843) rfl rfl rfl (by decide +kernel) ⟨Nat.le_of_ble_eq_true rfl, Nat.le_of_ble_eq_true rfl⟩) rfl hl.1 rfl (Nat.le_of_ble_eq_true rfl) dX2_as_7 ⟨Nat.zero_le _, Nat.zero_le _⟩ ?_
  refine lz_if_eq (tgt := 25) hx hb dX2_as_10 (by decide) (fun c_1 => ?_) (fun c_1 => ?_)
  · -- c_1: inB 0 ((F 42) - 1) p1 = false
    refine lv_ldc (v := (-1000001)) hx hb hown (hts _ q1627) dX2_as_25 ?_
    exact W.iret (v := (-1000001)) hx hb hr (fun t9 ht9 hW9 => ⟨⟨_, (va_up F 0 0, Rr), rfl, (by first | (simp [m_as, c_1, up_s, up_n, nI_1, b2i]; done) | (simp_all [m_as]; done) | grind [m_as]), by show va_P _ _ _ t9.heap; rw [ht9]; exact M.1⟩, M.2.2.F ht9⟩) M.2.2.2.2 dX2_as_27
  · -- c_1: inB 0 ((F 42) - 1) p1 = true
    obtain ⟨c1, hc1, rfl⟩ := at_ex c_1 h42 (m := 16) rfl
    have ec1 : (nI c1).toNatClampNeg = c1 := nI_clamp (by omega)
    refine lv_iload_n hx hb dX2_as_13 rfl (lv_at hl 2 rfl) ?_
    refine lv_i2l (v := p2.toInt64) hx hb dX2_as_14 rfl ?_
    refine lv_lconst (v := 0) hx hb dX2_as_15 (by decide) ?_
    refine lv_ldc2 (v := 4) hx hb hown (hts _ q1771) dX2_as_16 ?_
    refine s_cI (v := b2i (inB 0 4 p2)) (As := [.long p2.toInt64, .long 0, .long 4]) (rest := []) S (metX2_inI l p2 0 4 p2.toInt64 0 4 rfl rfl rfl) (va_cwS 3 hts (lw_S q1623 q1624 q62 q1625) rfl rfl rfl (by decide +kernel) ⟨Nat.le_of_ble_eq_true rfl, Nat.le_of_ble_eq_true rfl⟩) rfl hl.1 rfl (Nat.le_of_ble_eq_true rfl) dX2_as_19 ⟨Nat.zero_le _, Nat.zero_le _⟩ ?_
    refine lz_if_ne (tgt := 28) hx hb dX2_as_22 (by decide) (fun c_2 => ?_) (fun c_2 => ?_)
    · -- c_2: inB 0 4 p2 = true
      refine lv_aload_n hx hb dX2_as_28 rfl (lv_at hl 0 rfl) ?_
      refine lv_iconst (v := 0) hx hb dX2_as_29 (by decide) ?_
      refine mp_1 X M dX2_as_30 (fun H locs M => ?_)
      refine lv_aload_n hx hb dX2_as_33 rfl (lv_at hl 0 rfl) ?_
      refine lv_iload_n hx hb dX2_as_34 rfl (lv_at hl 1 rfl) ?_
      refine m_cQ (v := m_kindOf (F 10) (F 38) (F 44) Rr c1) (As := [.int (nI c1)]) (rest := []) X M (metX2_kindOf l D cl hcl h ad dA (va_up (va_up F 0 0) 1 0) Rr c1 (by omega) h10 h38) (cwV 1 hts (lw_V q1915 q1917 qs51 q62 q1918) rfl rfl rfl (by decide +kernel) ⟨Nat.le_of_ble_eq_true rfl, Nat.le_of_ble_eq_true rfl⟩) rfl hl.1 rfl (Nat.le_of_ble_eq_true rfl) dX2_as_35 ⟨Nat.zero_le _, Nat.zero_le _⟩ ?_
      refine lv_iload_n hx hb dX2_as_38 rfl (lv_at hl 2 rfl) ?_
      refine s_cI (v := b2i (m_isOf (m_kindOf (F 10) (F 38) (F 44) Rr c1) p2)) (As := [.int (m_kindOf (F 10) (F 38) (F 44) Rr c1), .int p2]) (rest := []) S (metX2_isOf l (m_kindOf (F 10) (F 38) (F 44) Rr c1) p2) (va_cwS 2 hts (lw_S q1923 q1924 q62 q1925) rfl rfl rfl (by decide +kernel) ⟨Nat.le_of_ble_eq_true rfl, Nat.le_of_ble_eq_true rfl⟩) rfl hl.1 rfl (Nat.le_of_ble_eq_true rfl) dX2_as_39 ⟨Nat.zero_le _, Nat.zero_le _⟩ ?_
      refine lz_if_eq (tgt := 54) hx hb dX2_as_42 (by decide) (fun c_3 => ?_) (fun c_3 => ?_)
      · -- c_3: m_isOf (m_kindOf (F 10) (F 38) (F 44) Rr c1) p2 = false
        refine lv_aload_n hx hb dX2_as_54 rfl (lv_at hl 0 rfl) ?_
        refine lv_iconst (v := 3) hx hb dX2_as_55 (by decide) ?_
        refine m_cU (As := [.int 3]) (rest := []) X M (metX2_finding l D cl hcl h ad dA (va_up (va_up F 0 0) 1 0) Rr 3) (cwV 1 hts (lw_V q1628 q1630 qs27 q62 q1631) rfl rfl rfl (by decide +kernel) ⟨Nat.le_of_ble_eq_true rfl, Nat.le_of_ble_eq_true rfl⟩) rfl hl.1 rfl (Nat.le_of_ble_eq_true rfl) dX2_as_56 ⟨Nat.zero_le _, Nat.zero_le _⟩ (fun r9 F9 R9 hr9 H locs M => ?_)
        obtain ⟨Z_4, eZ_4⟩ : ∃ z, z = m_finding (va_up (va_up F 0 0) 1 0) Rr 3 := ⟨_, rfl⟩
        rw [← eZ_4] at hr9
        obtain ⟨rfl, rfl, rfl⟩ : r9 = Z_4.1 ∧ F9 = Z_4.2.1 ∧ R9 = Z_4.2.2 := ⟨congrArg Prod.fst hr9, congrArg (fun z => z.2.1) hr9, congrArg (fun z => z.2.2) hr9⟩
        exact W.iret (v := Z_4.1) hx hb hr (fun t9 ht9 hW9 => ⟨⟨_, (Z_4.2.1, Z_4.2.2), rfl, (by first | (simp [m_as, c_1, ec1, c_2, c_3, ← eZ_4, up_s, up_n, nI_1, b2i]; done) | (simp [m_as, c_1, ec1, c_2, c_3, eZ_4, up_s, up_n, nI_1, b2i]; done) | (simp_all [m_as]; done) | grind [m_as]), by show va_P _ _ _ t9.heap; rw [ht9]; exact M.1⟩, M.2.2.F ht9⟩) M.2.2.2.2 dX2_as_59
      · -- c_3: m_isOf (m_kindOf (F 10) (F 38) (F 44) Rr c1) p2 = true
        refine lv_aload_n hx hb dX2_as_45 rfl (lv_at hl 0 rfl) ?_
        refine lv_iload_n hx hb dX2_as_46 rfl (lv_at hl 1 rfl) ?_
        refine lv_iconst (v := 2) hx hb dX2_as_47 (by decide) ?_
        refine m_cQ (v := Rr 43 (7 * c1 + 2)) (As := [.int (nI c1), .int 2]) (rest := []) X M (metX2_on l D cl hcl h ad dA (va_up (va_up F 0 0) 1 0) Rr c1 2 (by omega) (by omega)) (cwV 2 hts (lw_V q1832 q1834 qs45 q62 q1835) rfl rfl rfl (by decide +kernel) ⟨Nat.le_of_ble_eq_true rfl, Nat.le_of_ble_eq_true rfl⟩) rfl hl.1 rfl (Nat.le_of_ble_eq_true rfl) dX2_as_48 ⟨Nat.zero_le _, Nat.zero_le _⟩ ?_
        refine lv_goto (tgt := 59) hx hb dX2_as_51 (by decide) ?_
        exact W.iret (v := Rr 43 (7 * c1 + 2)) hx hb hr (fun t9 ht9 hW9 => ⟨⟨_, (va_up (va_up F 0 0) 1 0, Rr), rfl, (by first | (simp [m_as, c_1, ec1, c_2, c_3, up_s, up_n, nI_1, b2i]; done) | (simp_all [m_as]; done) | grind [m_as]), by show va_P _ _ _ t9.heap; rw [ht9]; exact M.1⟩, M.2.2.F ht9⟩) M.2.2.2.2 dX2_as_59
    · -- c_2: inB 0 4 p2 = false
      refine lv_ldc (v := (-1000001)) hx hb hown (hts _ q1627) dX2_as_25 ?_
      exact W.iret (v := (-1000001)) hx hb hr (fun t9 ht9 hW9 => ⟨⟨_, (va_up F 0 0, Rr), rfl, (by first | (simp [m_as, c_1, ec1, c_2, up_s, up_n, nI_1, b2i]; done) | (simp_all [m_as]; done) | grind [m_as]), by show va_P _ _ _ t9.heap; rw [ht9]; exact M.1⟩, M.2.2.F ht9⟩) M.2.2.2.2 dX2_as_27

def m_cbRoad (Rr : Nat → Nat → Int32) (a b : Nat) : Int32 := if Rr 43 (7 * a + 4) = Rr 43 (7 * b + 4) then 0 else Rr 37 (8 * (Rr 43 (7 * a + 4)).toNatClampNeg + (Rr 43 (7 * b + 4)).toNatClampNeg)
def m_cbStep (Rr : Nat → Nat → Int32) (person : Int32) (a b : Nat) (z : Bool) : Bool := z && (!decide (Rr 43 (7 * a + 1) = person) || !decide (Rr 43 (7 * b + 1) = person) || decide (m_cbRoad Rr a b ≤ if Rr 43 (7 * a + 5) - Rr 43 (7 * b + 5) < 0 then -(Rr 43 (7 * a + 5) - Rr 43 (7 * b + 5)) else Rr 43 (7 * a + 5) - Rr 43 (7 * b + 5)))
def m_canbe (F : Nat → Int32) (Rr : Nat → Nat → Int32) (p : Int32) : Int32 × mST := if inB 0 11 p = false then ((-1000001), F, Rr) else (b2i (itr (fun a z => itr (m_cbStep Rr p a) a z) (F 42).toNatClampNeg true), F, Rr)
set_option maxHeartbeats 4000000 in
set_option maxRecDepth 100000 in
theorem metX2_canbe (l : Launch) (D : va_G) (cl : List vw_C) (hcl : cl[0]? = some (RX2, TX2, 61)) (h : Nat) (ad : Nat → Nat) (dA : ClassId) (F : Nat → Int32) (Rr : Nat → Nat → Int32) (p1 : Int32) (h42 : cnB (F 42) 16) (h43 : ∀ q, q < (F 42).toNatClampNeg → cnB (Rr 43 (7 * q + 4)) 7) : Met l yX2_canbe (ws_ yX2_canbe cX2_canbe 7 (some .int)) ({ frames := 2, cells := 0, slots := 0, locals := 45 } : Room) (va_Pc [.ref h, .int p1] (mPre D cl h ad dA F Rr)) (va_Qi (fun r u => (r, u) = m_canbe (va_up F 0 0) Rr p1) (mB D cl h ad dA) (mN h ad)) 0 0 (mN h ad) := by
  refine Met.ofW (cc := cX2_canbe) (maxL := 7) (ret := (some .int)) (by decide) rfl ?_
  intro p e s m args below meth c s₁ B hml hv
  obtain ⟨rfl, hK, hP, hD⟩ := hv
  have hx := B.exec
  have hb := B.bytes
  have hr := B.returns
  have hts := atoms_spec (ws := (ws_ yX2_canbe cX2_canbe 7 (some .int))) B.pre
  have hts : ∀ w ∈ lw_all, w.before _ s = true := fun w h => hts w (List.mem_cons_of_mem _ h)
  have hown : s.vm.findClass RX2 = some m.cls := findClass_of_methodNamed B.named
  have hlocks := B.notSynchronized
  have S : CallFix p m c cX2_canbe 7 s ([.ref h, .int p1] : List Value).toArray lw_all RX2 := ⟨hx, hb, hml, hown, hts⟩
  have X : mX p s m ([.ref h, .int p1] : List Value).toArray c cX2_canbe 7 D cl dA := ⟨hx, hb, hml, hown, hts, hK, hcl⟩
  have M : mM D cl h ad dA (mN h ad) s F Rr s.heap [] := ⟨hP, mW_self hD, va_S.rf⟩
  have hl := lv_entry ([.ref h, .int p1]) (n := 7) (Nat.le_of_ble_eq_true rfl)
  rw [lg_entry_eq]
  generalize (lg_sl ([.ref h, .int p1]) ++ List.replicate (7 - (lg_sl ([.ref h, .int p1])).length) Slot.unset).toArray = ls at hl ⊢
  have hl : lv_has ls 7 [(0, .ref h), (1, .int p1)] := hl
  obtain ⟨n42, hn42, en42⟩ := cnB_ex h42 (n := 16) rfl
  have em42 : (F 42).toNatClampNeg = n42 := by rw [en42]; exact nI_clamp (by omega)
  have ec42 : (nI n42).toNatClampNeg = n42 := nI_clamp (by omega)
  refine lv_aload_n hx hb dX2_canbe_0 rfl (lv_at hl 0 rfl) ?_
  refine lv_iconst (v := 0) hx hb dX2_canbe_1 (by decide) ?_
  refine mp_0 X M dX2_canbe_2 (fun H locs M => ?_)
  refine lv_iload_n hx hb dX2_canbe_5 rfl (lv_at hl 1 rfl) ?_
  refine s_cI (v := b2i (inB 0 11 p1)) (As := [.int p1]) (rest := []) S (metX2_isPerson l p1) (va_cwS 1 hts (lw_S q1823 q1824 q62 q1825) rfl rfl rfl (by decide +kernel) ⟨Nat.le_of_ble_eq_true rfl, Nat.le_of_ble_eq_true rfl⟩) rfl hl.1 rfl (Nat.le_of_ble_eq_true rfl) dX2_canbe_6 ⟨Nat.zero_le _, Nat.zero_le _⟩ ?_
  refine lz_if_ne (tgt := 15) hx hb dX2_canbe_9 (by decide) (fun c_1 => ?_) (fun c_1 => ?_)
  · -- c_1: inB 0 11 p1 = true
    refine lv_iconst (v := 1) hx hb dX2_canbe_15 (by decide) ?_
    refine lv_istore_n (lv' := [(2, .int 1), (0, .ref h), (1, .int p1)]) hx hb dX2_canbe_16 rfl hl (by decide) rfl (fun ls hl => ?_)
    refine lv_iconst (v := 0) hx hb dX2_canbe_17 (by decide) ?_
    refine lv_istore_n (lv' := [(3, .int 0), (2, .int 1), (0, .ref h), (1, .int p1)]) hx hb dX2_canbe_18 rfl hl (by decide) rfl (fun ls hl => ?_)
    have L_2 : ∀ (fuL_2 : Nat) (i : Nat) (z : Bool), (i ≤ n42) → (z = itr (fun a z => itr (m_cbStep Rr p1 a) a z) i true) → n42 - i < fuL_2 → ∀ (H : Heap) (locs : List Loc), mM D cl h ad dA (mN h ad) s (va_up F 0 0) Rr H locs → ∀ ls, lv_has ls 7 [(0, .ref h), (1, .int p1), (2, .int (b2i z)), (3, .int (nI i))] → W p l e ({ frames := 2, cells := 0, slots := 0, locals := 45 } : Room) s m ([.ref h, .int p1] : List Value).toArray below meth c H locs 0 0 (MQ below (va_Qi (fun r u => (r, u) = m_canbe (va_up F 0 0) Rr p1) (mB D cl h ad dA) (mN h ad)) ([.ref h, .int p1] : List Value).toArray s 0 0 (mN h ad)) (F0 m 19 ls []) := by
      intro fuL_2
      induction fuL_2 with
      | zero => intro i z hi qz hfuL_2; exact absurd hfuL_2 (Nat.not_lt_zero _)
      | succ fuL_2 L_2ih =>
        intro i z hi qz hfuL_2 H locs M ls hl
        refine lv_iload_n hx hb dX2_canbe_19 rfl (lv_at hl 3 rfl) ?_
        refine lv_aload_n hx hb dX2_canbe_20 rfl (lv_at hl 0 rfl) ?_
        refine mg_42 X M (v := F 42) rfl dX2_canbe_21 ?_
        refine lv_asi (y := nI n42) en42 ?_
        refine ln_icmp_ge (tgt := 157) hx hb (a := i) (b := n42) (by omega) (by omega) dX2_canbe_24 (by decide) (fun c_3 => ?_) (fun c_3 => ?_)
        · -- c_3: nI i ≥ nI n42
          have ei : i = n42 := by omega
          rw [ei] at qz
          refine lv_iload_n hx hb dX2_canbe_157 rfl (lv_at hl 2 rfl) ?_
          refine lz_if_eq (tgt := 165) hx hb dX2_canbe_158 (by decide) (fun c_4 => ?_) (fun c_4 => ?_)
          · -- c_4: z = false
            refine lv_iconst (v := 0) hx hb dX2_canbe_165 (by decide) ?_
            exact W.iret (v := 0) hx hb hr (fun t9 ht9 hW9 => ⟨⟨_, (va_up F 0 0, Rr), rfl, (by simp [m_canbe, up_s, up_n, b2i, em42, c_1, c_3, ← qz, c_4]), by show va_P _ _ _ t9.heap; rw [ht9]; exact M.1⟩, M.2.2.F ht9⟩) M.2.2.2.2 dX2_canbe_166
          · -- c_4: z = true
            refine lv_iconst (v := 1) hx hb dX2_canbe_161 (by decide) ?_
            refine lv_goto (tgt := 166) hx hb dX2_canbe_162 (by decide) ?_
            exact W.iret (v := 1) hx hb hr (fun t9 ht9 hW9 => ⟨⟨_, (va_up F 0 0, Rr), rfl, (by simp [m_canbe, up_s, up_n, b2i, em42, c_1, c_3, ← qz, c_4]), by show va_P _ _ _ t9.heap; rw [ht9]; exact M.1⟩, M.2.2.F ht9⟩) M.2.2.2.2 dX2_canbe_166
        · -- c_3: nI i < nI n42
          refine lv_iconst (v := 0) hx hb dX2_canbe_27 (by decide) ?_
          refine lv_istore (lv' := [(4, .int 0), (0, .ref h), (1, .int p1), (2, .int (b2i z)), (3, .int (nI i))]) hx hb dX2_canbe_28 hl (by decide) rfl (fun ls hl => ?_)
          have L_5 : ∀ (fuL_5 : Nat) (j : Nat) (y : Bool), (j ≤ i) → (y = itr (m_cbStep Rr p1 i) j z) → i - j < fuL_5 → ∀ (H : Heap) (locs : List Loc), mM D cl h ad dA (mN h ad) s (va_up F 0 0) Rr H locs → ∀ ls, lv_has ls 7 [(0, .ref h), (1, .int p1), (2, .int (b2i y)), (3, .int (nI i)), (4, .int (nI j))] → W p l e ({ frames := 2, cells := 0, slots := 0, locals := 45 } : Room) s m ([.ref h, .int p1] : List Value).toArray below meth c H locs 0 0 (MQ below (va_Qi (fun r u => (r, u) = m_canbe (va_up F 0 0) Rr p1) (mB D cl h ad dA) (mN h ad)) ([.ref h, .int p1] : List Value).toArray s 0 0 (mN h ad)) (F0 m 30 ls []) := by
            intro fuL_5
            induction fuL_5 with
            | zero => intro j y hj qy hfuL_5; exact absurd hfuL_5 (Nat.not_lt_zero _)
            | succ fuL_5 L_5ih =>
              intro j y hj qy hfuL_5 H locs M ls hl
              refine lv_iload hx hb dX2_canbe_30 (lv_at hl 4 rfl) ?_
              refine lv_iload_n hx hb dX2_canbe_32 rfl (lv_at hl 3 rfl) ?_
              refine ln_icmp_ge (tgt := 151) hx hb (a := j) (b := i) (by omega) (by omega) dX2_canbe_33 (by decide) (fun c_6 => ?_) (fun c_6 => ?_)
              · -- c_6: nI j ≥ nI i
                have ej : j = i := by omega
                rw [ej] at qy
                refine lv_iinc (v := nI (i + 1)) (lv' := [(3, .int (nI (i + 1))), (0, .ref h), (1, .int p1), (2, .int (b2i y)), (4, .int (nI j))]) hx hb dX2_canbe_151 hl (k := 3) rfl (mk_inc _) (by decide) rfl (fun ls hl => ?_)
                refine lv_goto (tgt := 19) hx hb dX2_canbe_154 (by decide) ?_
                exact L_2ih  (i + 1) y (by omega) (by first | (rw [itr_s, ← qz]; done) | (rw [itr_s, ← qz]; first | (simp [em42, c_1, c_3, c_6, ← qy, up_s, up_n, nI_1, b2i]; done) | (simp_all []; done) | grind [])) (by omega) _ _ M ls (lv_sub hl [1, 2, 3, 0] rfl)
              · -- c_6: nI j < nI i
                refine lv_aload_n hx hb dX2_canbe_36 rfl (lv_at hl 0 rfl) ?_
                refine lv_iload_n hx hb dX2_canbe_37 rfl (lv_at hl 3 rfl) ?_
                refine lv_iconst (v := 5) hx hb dX2_canbe_38 (by decide) ?_
                refine m_cQ (v := Rr 43 (7 * i + 5)) (As := [.int (nI i), .int 5]) (rest := []) X M (metX2_on l D cl hcl h ad dA (va_up F 0 0) Rr i 5 (by omega) (by omega)) (cwV 2 hts (lw_V q1832 q1834 qs45 q62 q1835) rfl rfl rfl (by decide +kernel) ⟨Nat.le_of_ble_eq_true rfl, Nat.le_of_ble_eq_true rfl⟩) rfl hl.1 rfl (Nat.le_of_ble_eq_true rfl) dX2_canbe_39 ⟨Nat.zero_le _, Nat.zero_le _⟩ ?_
                refine lv_aload_n hx hb dX2_canbe_42 rfl (lv_at hl 0 rfl) ?_
                refine lv_iload hx hb dX2_canbe_43 (lv_at hl 4 rfl) ?_
                refine lv_iconst (v := 5) hx hb dX2_canbe_45 (by decide) ?_
                refine m_cQ (v := Rr 43 (7 * j + 5)) (As := [.int (nI j), .int 5]) (rest := [.int (Rr 43 (7 * i + 5))]) X M (metX2_on l D cl hcl h ad dA (va_up F 0 0) Rr j 5 (by omega) (by omega)) (cwV 2 hts (lw_V q1832 q1834 qs45 q62 q1835) rfl rfl rfl (by decide +kernel) ⟨Nat.le_of_ble_eq_true rfl, Nat.le_of_ble_eq_true rfl⟩) rfl hl.1 rfl (Nat.le_of_ble_eq_true rfl) dX2_canbe_46 ⟨Nat.zero_le _, Nat.zero_le _⟩ ?_
                refine lv_isub hx hb dX2_canbe_49 ?_
                refine lv_istore (lv' := [(5, .int ((Rr 43 (7 * i + 5)) - (Rr 43 (7 * j + 5)))), (0, .ref h), (1, .int p1), (2, .int (b2i y)), (3, .int (nI i)), (4, .int (nI j))]) hx hb dX2_canbe_50 hl (by decide) rfl (fun ls hl => ?_)
                refine lv_aload_n hx hb dX2_canbe_52 rfl (lv_at hl 1 rfl) ?_
                refine lv_iload_n hx hb dX2_canbe_53 rfl (lv_at hl 4 rfl) ?_
                refine lv_iconst (v := 4) hx hb dX2_canbe_54 (by decide) ?_
                refine m_cQ (v := Rr 43 (7 * i + 4)) (As := [.int (nI i), .int 4]) (rest := []) X M (metX2_on l D cl hcl h ad dA (va_up F 0 0) Rr i 4 (by omega) (by omega)) (cwV 2 hts (lw_V q1832 q1834 qs45 q62 q1835) rfl rfl rfl (by decide +kernel) ⟨Nat.le_of_ble_eq_true rfl, Nat.le_of_ble_eq_true rfl⟩) rfl hl.1 rfl (Nat.le_of_ble_eq_true rfl) dX2_canbe_55 ⟨Nat.zero_le _, Nat.zero_le _⟩ ?_
                refine lv_aload_n hx hb dX2_canbe_58 rfl (lv_at hl 1 rfl) ?_
                refine lv_iload hx hb dX2_canbe_59 (lv_at hl 5 rfl) ?_
                refine lv_iconst (v := 4) hx hb dX2_canbe_61 (by decide) ?_
                refine m_cQ (v := Rr 43 (7 * j + 4)) (As := [.int (nI j), .int 4]) (rest := [.int (Rr 43 (7 * i + 4))]) X M (metX2_on l D cl hcl h ad dA (va_up F 0 0) Rr j 4 (by omega) (by omega)) (cwV 2 hts (lw_V q1832 q1834 qs45 q62 q1835) rfl rfl rfl (by decide +kernel) ⟨Nat.le_of_ble_eq_true rfl, Nat.le_of_ble_eq_true rfl⟩) rfl hl.1 rfl (Nat.le_of_ble_eq_true rfl) dX2_canbe_62 ⟨Nat.zero_le _, Nat.zero_le _⟩ ?_
                refine lv_icmp_ne (tgt := 72) hx hb dX2_canbe_65 (by decide) (fun c_7 => ?_) (fun c_7 => ?_)
                · -- c_7: Rr 43 (7 * i + 4) ≠ Rr 43 (7 * j + 4)
                  refine lv_aload_n hx hb dX2_canbe_72 rfl (lv_at hl 1 rfl) ?_
                  refine mg_37 X M dX2_canbe_73 ?_
                  refine lv_bipush (v := 8) hx hb dX2_canbe_76 (by decide) ?_
                  refine lv_aload_n hx hb dX2_canbe_78 rfl (lv_at hl 1 rfl) ?_
                  refine lv_iload_n hx hb dX2_canbe_79 rfl (lv_at hl 4 rfl) ?_
                  refine lv_iconst (v := 4) hx hb dX2_canbe_80 (by decide) ?_
                  refine m_cQ (v := Rr 43 (7 * i + 4)) (As := [.int (nI i), .int 4]) (rest := [.int 8, .ref (ad 37)]) X M (metX2_on l D cl hcl h ad dA (va_up F 0 0) Rr i 4 (by omega) (by omega)) (cwV 2 hts (lw_V q1832 q1834 qs45 q62 q1835) rfl rfl rfl (by decide +kernel) ⟨Nat.le_of_ble_eq_true rfl, Nat.le_of_ble_eq_true rfl⟩) rfl hl.1 rfl (Nat.le_of_ble_eq_true rfl) dX2_canbe_81 ⟨Nat.zero_le _, Nat.zero_le _⟩ ?_
                  have b_8 : (Rr 43 (7 * i + 4)).toNatClampNeg ≤ 7 := cnB_le (h43 i (by omega)) rfl
                  refine lv_asi (y := nI (Rr 43 (7 * i + 4)).toNatClampNeg) (nJ_of ((h43 i (by omega))).1) ?_
                  refine lv_imul hx hb dX2_canbe_84 ?_
                  refine lv_asi (y := nI (8 * ((Rr 43 (7 * i + 4)).toNatClampNeg))) (nI_mul 8 ((Rr 43 (7 * i + 4)).toNatClampNeg)) ?_
                  refine lv_aload_n hx hb dX2_canbe_85 rfl (lv_at hl 1 rfl) ?_
                  refine lv_iload hx hb dX2_canbe_86 (lv_at hl 5 rfl) ?_
                  refine lv_iconst (v := 4) hx hb dX2_canbe_88 (by decide) ?_
                  refine m_cQ (v := Rr 43 (7 * j + 4)) (As := [.int (nI j), .int 4]) (rest := [.int (nI (8 * ((Rr 43 (7 * i + 4)).toNatClampNeg))), .ref (ad 37)]) X M (metX2_on l D cl hcl h ad dA (va_up F 0 0) Rr j 4 (by omega) (by omega)) (cwV 2 hts (lw_V q1832 q1834 qs45 q62 q1835) rfl rfl rfl (by decide +kernel) ⟨Nat.le_of_ble_eq_true rfl, Nat.le_of_ble_eq_true rfl⟩) rfl hl.1 rfl (Nat.le_of_ble_eq_true rfl) dX2_canbe_89 ⟨Nat.zero_le _, Nat.zero_le _⟩ ?_
                  have b_9 : (Rr 43 (7 * j + 4)).toNatClampNeg ≤ 7 := cnB_le (h43 j (by omega)) rfl
                  refine lv_asi (y := nI (Rr 43 (7 * j + 4)).toNatClampNeg) (nJ_of ((h43 j (by omega))).1) ?_
                  refine lv_iadd hx hb dX2_canbe_92 ?_
                  refine lv_asi (y := nI ((8 * ((Rr 43 (7 * i + 4)).toNatClampNeg)) + ((Rr 43 (7 * j + 4)).toNatClampNeg))) (nI_add (8 * ((Rr 43 (7 * i + 4)).toNatClampNeg)) ((Rr 43 (7 * j + 4)).toNatClampNeg)) ?_
                  refine mr_37 X M (f := Rr 37) rfl (j := (8 * ((Rr 43 (7 * i + 4)).toNatClampNeg)) + ((Rr 43 (7 * j + 4)).toNatClampNeg)) (vp_in_nI (by omega) (by omega)) (nI_clamp (by omega)) dX2_canbe_93 ?_
                  refine lv_istore (lv' := [(6, .int (Rr 37 ((8 * ((Rr 43 (7 * i + 4)).toNatClampNeg)) + ((Rr 43 (7 * j + 4)).toNatClampNeg)))), (5, .int ((Rr 43 (7 * i + 5)) - (Rr 43 (7 * j + 5)))), (0, .ref h), (1, .int p1), (2, .int (b2i y)), (3, .int (nI i)), (4, .int (nI j))]) hx hb dX2_canbe_94 hl (by decide) rfl (fun ls hl => ?_)
                  refine lv_iload_n hx hb dX2_canbe_96 rfl (lv_at hl 4 rfl) ?_
                  refine lz_if_eq (tgt := 143) hx hb dX2_canbe_97 (by decide) (fun c_10 => ?_) (fun c_10 => ?_)
                  · -- c_10: y = false
                    refine lv_iconst (v := 0) hx hb dX2_canbe_143 (by decide) ?_
                    refine lv_istore_n (lv' := [(2, .int 0), (6, .int (Rr 37 ((8 * ((Rr 43 (7 * i + 4)).toNatClampNeg)) + ((Rr 43 (7 * j + 4)).toNatClampNeg)))), (5, .int ((Rr 43 (7 * i + 5)) - (Rr 43 (7 * j + 5)))), (0, .ref h), (1, .int p1), (3, .int (nI i)), (4, .int (nI j))]) hx hb dX2_canbe_144 rfl hl (by decide) rfl (fun ls hl => ?_)
                    refine lv_iinc (v := nI (j + 1)) (lv' := [(4, .int (nI (j + 1))), (2, .int 0), (6, .int (Rr 37 ((8 * ((Rr 43 (7 * i + 4)).toNatClampNeg)) + ((Rr 43 (7 * j + 4)).toNatClampNeg)))), (5, .int ((Rr 43 (7 * i + 5)) - (Rr 43 (7 * j + 5)))), (0, .ref h), (1, .int p1), (3, .int (nI i))]) hx hb dX2_canbe_145 hl (k := 6) rfl (mk_inc _) (by decide) rfl (fun ls hl => ?_)
                    refine lv_goto (tgt := 30) hx hb dX2_canbe_148 (by decide) ?_
                    exact L_5ih  (j + 1) false (by omega) (by first | (rw [itr_s, ← qy]; done) | (rw [itr_s, ← qy]; first | (simp [m_cbStep, m_cbRoad, em42, c_1, c_3, c_6, c_7, c_10, up_s, up_n, nI_1, b2i]; done) | (simp_all [m_cbStep, m_cbRoad]; done) | grind [m_cbStep, m_cbRoad])) (by omega) _ _ M ls (lv_sub hl [4, 5, 1, 6, 0] rfl)
                  · -- c_10: y = true
                    refine lv_aload_n hx hb dX2_canbe_100 rfl (lv_at hl 2 rfl) ?_
                    refine lv_iload_n hx hb dX2_canbe_101 rfl (lv_at hl 5 rfl) ?_
                    refine lv_iconst (v := 1) hx hb dX2_canbe_102 (by decide) ?_
                    refine m_cQ (v := Rr 43 (7 * i + 1)) (As := [.int (nI i), .int 1]) (rest := []) X M (metX2_on l D cl hcl h ad dA (va_up F 0 0) Rr i 1 (by omega) (by omega)) (cwV 2 hts (lw_V q1832 q1834 qs45 q62 q1835) rfl rfl rfl (by decide +kernel) ⟨Nat.le_of_ble_eq_true rfl, Nat.le_of_ble_eq_true rfl⟩) rfl hl.1 rfl (Nat.le_of_ble_eq_true rfl) dX2_canbe_103 ⟨Nat.zero_le _, Nat.zero_le _⟩ ?_
                    refine lv_iload_n hx hb dX2_canbe_106 rfl (lv_at hl 3 rfl) ?_
                    refine lv_icmp_ne (tgt := 139) hx hb dX2_canbe_107 (by decide) (fun c_11 => ?_) (fun c_11 => ?_)
                    · -- c_11: Rr 43 (7 * i + 1) ≠ p1
                      refine lv_iconst (v := 1) hx hb dX2_canbe_139 (by decide) ?_
                      refine lv_goto (tgt := 144) hx hb dX2_canbe_140 (by decide) ?_
                      refine lv_istore_n (lv' := [(2, .int 1), (6, .int (Rr 37 ((8 * ((Rr 43 (7 * i + 4)).toNatClampNeg)) + ((Rr 43 (7 * j + 4)).toNatClampNeg)))), (5, .int ((Rr 43 (7 * i + 5)) - (Rr 43 (7 * j + 5)))), (0, .ref h), (1, .int p1), (3, .int (nI i)), (4, .int (nI j))]) hx hb dX2_canbe_144 rfl hl (by decide) rfl (fun ls hl => ?_)
                      refine lv_iinc (v := nI (j + 1)) (lv' := [(4, .int (nI (j + 1))), (2, .int 1), (6, .int (Rr 37 ((8 * ((Rr 43 (7 * i + 4)).toNatClampNeg)) + ((Rr 43 (7 * j + 4)).toNatClampNeg)))), (5, .int ((Rr 43 (7 * i + 5)) - (Rr 43 (7 * j + 5)))), (0, .ref h), (1, .int p1), (3, .int (nI i))]) hx hb dX2_canbe_145 hl (k := 6) rfl (mk_inc _) (by decide) rfl (fun ls hl => ?_)
                      refine lv_goto (tgt := 30) hx hb dX2_canbe_148 (by decide) ?_
                      exact L_5ih  (j + 1) true (by omega) (by first | (rw [itr_s, ← qy]; done) | (rw [itr_s, ← qy]; first | (simp [m_cbStep, m_cbRoad, em42, c_1, c_3, c_6, c_7, c_10, c_11, up_s, up_n, nI_1, b2i]; done) | (simp_all [m_cbStep, m_cbRoad]; done) | grind [m_cbStep, m_cbRoad])) (by omega) _ _ M ls (lv_sub hl [4, 5, 1, 6, 0] rfl)
                    · -- c_11: Rr 43 (7 * i + 1) = p1
                      refine lv_aload_n hx hb dX2_canbe_110 rfl (lv_at hl 2 rfl) ?_
                      refine lv_iload hx hb dX2_canbe_111 (lv_at hl 6 rfl) ?_
                      refine lv_iconst (v := 1) hx hb dX2_canbe_113 (by decide) ?_
                      refine m_cQ (v := Rr 43 (7 * j + 1)) (As := [.int (nI j), .int 1]) (rest := []) X M (metX2_on l D cl hcl h ad dA (va_up F 0 0) Rr j 1 (by omega) (by omega)) (cwV 2 hts (lw_V q1832 q1834 qs45 q62 q1835) rfl rfl rfl (by decide +kernel) ⟨Nat.le_of_ble_eq_true rfl, Nat.le_of_ble_eq_true rfl⟩) rfl hl.1 rfl (Nat.le_of_ble_eq_true rfl) dX2_canbe_114 ⟨Nat.zero_le _, Nat.zero_le _⟩ ?_
                      refine lv_iload_n hx hb dX2_canbe_117 rfl (lv_at hl 3 rfl) ?_
                      refine lv_icmp_ne (tgt := 139) hx hb dX2_canbe_118 (by decide) (fun c_12 => ?_) (fun c_12 => ?_)
                      · -- c_12: Rr 43 (7 * j + 1) ≠ p1
                        refine lv_iconst (v := 1) hx hb dX2_canbe_139 (by decide) ?_
                        refine lv_goto (tgt := 144) hx hb dX2_canbe_140 (by decide) ?_
                        refine lv_istore_n (lv' := [(2, .int 1), (6, .int (Rr 37 ((8 * ((Rr 43 (7 * i + 4)).toNatClampNeg)) + ((Rr 43 (7 * j + 4)).toNatClampNeg)))), (5, .int ((Rr 43 (7 * i + 5)) - (Rr 43 (7 * j + 5)))), (0, .ref h), (1, .int p1), (3, .int (nI i)), (4, .int (nI j))]) hx hb dX2_canbe_144 rfl hl (by decide) rfl (fun ls hl => ?_)
                        refine lv_iinc (v := nI (j + 1)) (lv' := [(4, .int (nI (j + 1))), (2, .int 1), (6, .int (Rr 37 ((8 * ((Rr 43 (7 * i + 4)).toNatClampNeg)) + ((Rr 43 (7 * j + 4)).toNatClampNeg)))), (5, .int ((Rr 43 (7 * i + 5)) - (Rr 43 (7 * j + 5)))), (0, .ref h), (1, .int p1), (3, .int (nI i))]) hx hb dX2_canbe_145 hl (k := 6) rfl (mk_inc _) (by decide) rfl (fun ls hl => ?_)
                        refine lv_goto (tgt := 30) hx hb dX2_canbe_148 (by decide) ?_
                        exact L_5ih  (j + 1) true (by omega) (by first | (rw [itr_s, ← qy]; done) | (rw [itr_s, ← qy]; first | (simp [m_cbStep, m_cbRoad, em42, c_1, c_3, c_6, c_7, c_10, c_11, c_12, up_s, up_n, nI_1, b2i]; done) | (simp_all [m_cbStep, m_cbRoad]; done) | grind [m_cbStep, m_cbRoad])) (by omega) _ _ M ls (lv_sub hl [4, 5, 1, 6, 0] rfl)
                      · -- c_12: Rr 43 (7 * j + 1) = p1
                        refine lv_iload hx hb dX2_canbe_121 (lv_at hl 1 rfl) ?_
                        refine lb_if_ge (tgt := 132) hx hb dX2_canbe_123 (by decide) (fun c_13 c_13' => ?_) (fun c_13 c_13' => ?_)
                        · -- c_13: (Rr 43 (7 * i + 5)) - (Rr 43 (7 * j + 5)) ≥ 0
                          refine lv_iload hx hb dX2_canbe_132 (lv_at hl 1 rfl) ?_
                          refine lv_iload hx hb dX2_canbe_134 (lv_at hl 0 rfl) ?_
                          refine lb_icmp_lt (tgt := 143) hx hb dX2_canbe_136 (by decide) (fun c_14 c_14' => ?_) (fun c_14 c_14' => ?_)
                          · -- c_14: (Rr 43 (7 * i + 5)) - (Rr 43 (7 * j + 5)) < Rr 37 ((8 * ((Rr 43 (7 * i + 4)).toNatClampNeg)) + ((Rr 43 (7 * j + 4)).toNatClampNeg))
                            refine lv_iconst (v := 0) hx hb dX2_canbe_143 (by decide) ?_
                            refine lv_istore_n (lv' := [(2, .int 0), (6, .int (Rr 37 ((8 * ((Rr 43 (7 * i + 4)).toNatClampNeg)) + ((Rr 43 (7 * j + 4)).toNatClampNeg)))), (5, .int ((Rr 43 (7 * i + 5)) - (Rr 43 (7 * j + 5)))), (0, .ref h), (1, .int p1), (3, .int (nI i)), (4, .int (nI j))]) hx hb dX2_canbe_144 rfl hl (by decide) rfl (fun ls hl => ?_)
                            refine lv_iinc (v := nI (j + 1)) (lv' := [(4, .int (nI (j + 1))), (2, .int 0), (6, .int (Rr 37 ((8 * ((Rr 43 (7 * i + 4)).toNatClampNeg)) + ((Rr 43 (7 * j + 4)).toNatClampNeg)))), (5, .int ((Rr 43 (7 * i + 5)) - (Rr 43 (7 * j + 5)))), (0, .ref h), (1, .int p1), (3, .int (nI i))]) hx hb dX2_canbe_145 hl (k := 6) rfl (mk_inc _) (by decide) rfl (fun ls hl => ?_)
                            refine lv_goto (tgt := 30) hx hb dX2_canbe_148 (by decide) ?_
                            exact L_5ih  (j + 1) false (by omega) (by first | (rw [itr_s, ← qy]; done) | (rw [itr_s, ← qy]; first | (simp [m_cbStep, m_cbRoad, em42, c_1, c_3, c_6, c_7, c_10, c_11, c_12, c_13, c_13', c_14, c_14', up_s, up_n, nI_1, b2i]; done) | (simp_all [m_cbStep, m_cbRoad]; done) | grind [m_cbStep, m_cbRoad])) (by omega) _ _ M ls (lv_sub hl [4, 5, 1, 6, 0] rfl)
                          · -- c_14: (Rr 43 (7 * i + 5)) - (Rr 43 (7 * j + 5)) ≥ Rr 37 ((8 * ((Rr 43 (7 * i + 4)).toNatClampNeg)) + ((Rr 43 (7 * j + 4)).toNatClampNeg))
                            refine lv_iconst (v := 1) hx hb dX2_canbe_139 (by decide) ?_
                            refine lv_goto (tgt := 144) hx hb dX2_canbe_140 (by decide) ?_
                            refine lv_istore_n (lv' := [(2, .int 1), (6, .int (Rr 37 ((8 * ((Rr 43 (7 * i + 4)).toNatClampNeg)) + ((Rr 43 (7 * j + 4)).toNatClampNeg)))), (5, .int ((Rr 43 (7 * i + 5)) - (Rr 43 (7 * j + 5)))), (0, .ref h), (1, .int p1), (3, .int (nI i)), (4, .int (nI j))]) hx hb dX2_canbe_144 rfl hl (by decide) rfl (fun ls hl => ?_)
                            refine lv_iinc (v := nI (j + 1)) (lv' := [(4, .int (nI (j + 1))), (2, .int 1), (6, .int (Rr 37 ((8 * ((Rr 43 (7 * i + 4)).toNatClampNeg)) + ((Rr 43 (7 * j + 4)).toNatClampNeg)))), (5, .int ((Rr 43 (7 * i + 5)) - (Rr 43 (7 * j + 5)))), (0, .ref h), (1, .int p1), (3, .int (nI i))]) hx hb dX2_canbe_145 hl (k := 6) rfl (mk_inc _) (by decide) rfl (fun ls hl => ?_)
                            refine lv_goto (tgt := 30) hx hb dX2_canbe_148 (by decide) ?_
                            exact L_5ih  (j + 1) true (by omega) (by first | (rw [itr_s, ← qy]; done) | (rw [itr_s, ← qy]; first | (simp [m_cbStep, m_cbRoad, em42, c_1, c_3, c_6, c_7, c_10, c_11, c_12, c_13, c_13', c_14, c_14', up_s, up_n, nI_1, b2i]; done) | (simp_all [m_cbStep, m_cbRoad]; done) | grind [m_cbStep, m_cbRoad])) (by omega) _ _ M ls (lv_sub hl [4, 5, 1, 6, 0] rfl)
                        · -- c_13: (Rr 43 (7 * i + 5)) - (Rr 43 (7 * j + 5)) < 0
                          refine lv_iload hx hb dX2_canbe_126 (lv_at hl 1 rfl) ?_
                          refine lv_ineg hx hb dX2_canbe_128 ?_
                          refine lv_goto (tgt := 134) hx hb dX2_canbe_129 (by decide) ?_
                          refine lv_iload hx hb dX2_canbe_134 (lv_at hl 0 rfl) ?_
                          refine lb_icmp_lt (tgt := 143) hx hb dX2_canbe_136 (by decide) (fun c_15 c_15' => ?_) (fun c_15 c_15' => ?_)
                          · -- c_15: -((Rr 43 (7 * i + 5)) - (Rr 43 (7 * j + 5))) < Rr 37 ((8 * ((Rr 43 (7 * i + 4)).toNatClampNeg)) + ((Rr 43 (7 * j + 4)).toNatClampNeg))
                            refine lv_iconst (v := 0) hx hb dX2_canbe_143 (by decide) ?_
                            refine lv_istore_n (lv' := [(2, .int 0), (6, .int (Rr 37 ((8 * ((Rr 43 (7 * i + 4)).toNatClampNeg)) + ((Rr 43 (7 * j + 4)).toNatClampNeg)))), (5, .int ((Rr 43 (7 * i + 5)) - (Rr 43 (7 * j + 5)))), (0, .ref h), (1, .int p1), (3, .int (nI i)), (4, .int (nI j))]) hx hb dX2_canbe_144 rfl hl (by decide) rfl (fun ls hl => ?_)
                            refine lv_iinc (v := nI (j + 1)) (lv' := [(4, .int (nI (j + 1))), (2, .int 0), (6, .int (Rr 37 ((8 * ((Rr 43 (7 * i + 4)).toNatClampNeg)) + ((Rr 43 (7 * j + 4)).toNatClampNeg)))), (5, .int ((Rr 43 (7 * i + 5)) - (Rr 43 (7 * j + 5)))), (0, .ref h), (1, .int p1), (3, .int (nI i))]) hx hb dX2_canbe_145 hl (k := 6) rfl (mk_inc _) (by decide) rfl (fun ls hl => ?_)
                            refine lv_goto (tgt := 30) hx hb dX2_canbe_148 (by decide) ?_
                            exact L_5ih  (j + 1) false (by omega) (by first | (rw [itr_s, ← qy]; done) | (rw [itr_s, ← qy]; first | (simp [m_cbStep, m_cbRoad, em42, c_1, c_3, c_6, c_7, c_10, c_11, c_12, c_13, c_13', c_15, c_15', up_s, up_n, nI_1, b2i]; done) | (simp_all [m_cbStep, m_cbRoad]; done) | grind [m_cbStep, m_cbRoad])) (by omega) _ _ M ls (lv_sub hl [4, 5, 1, 6, 0] rfl)
                          · -- c_15: -((Rr 43 (7 * i + 5)) - (Rr 43 (7 * j + 5))) ≥ Rr 37 ((8 * ((Rr 43 (7 * i + 4)).toNatClampNeg)) + ((Rr 43 (7 * j + 4)).toNatClampNeg))
                            refine lv_iconst (v := 1) hx hb dX2_canbe_139 (by decide) ?_
                            refine lv_goto (tgt := 144) hx hb dX2_canbe_140 (by decide) ?_
                            refine lv_istore_n (lv' := [(2, .int 1), (6, .int (Rr 37 ((8 * ((Rr 43 (7 * i + 4)).toNatClampNeg)) + ((Rr 43 (7 * j + 4)).toNatClampNeg)))), (5, .int ((Rr 43 (7 * i + 5)) - (Rr 43 (7 * j + 5)))), (0, .ref h), (1, .int p1), (3, .int (nI i)), (4, .int (nI j))]) hx hb dX2_canbe_144 rfl hl (by decide) rfl (fun ls hl => ?_)
                            refine lv_iinc (v := nI (j + 1)) (lv' := [(4, .int (nI (j + 1))), (2, .int 1), (6, .int (Rr 37 ((8 * ((Rr 43 (7 * i + 4)).toNatClampNeg)) + ((Rr 43 (7 * j + 4)).toNatClampNeg)))), (5, .int ((Rr 43 (7 * i + 5)) - (Rr 43 (7 * j + 5)))), (0, .ref h), (1, .int p1), (3, .int (nI i))]) hx hb dX2_canbe_145 hl (k := 6) rfl (mk_inc _) (by decide) rfl (fun ls hl => ?_)
                            refine lv_goto (tgt := 30) hx hb dX2_canbe_148 (by decide) ?_
                            exact L_5ih  (j + 1) true (by omega) (by first | (rw [itr_s, ← qy]; done) | (rw [itr_s, ← qy]; first | (simp [m_cbStep, m_cbRoad, em42, c_1, c_3, c_6, c_7, c_10, c_11, c_12, c_13, c_13', c_15, c_15', up_s, up_n, nI_1, b2i]; done) | (simp_all [m_cbStep, m_cbRoad]; done) | grind [m_cbStep, m_cbRoad])) (by omega) _ _ M ls (lv_sub hl [4, 5, 1, 6, 0] rfl)
                · -- c_7: Rr 43 (7 * i + 4) = Rr 43 (7 * j + 4)
                  refine lv_iconst (v := 0) hx hb dX2_canbe_68 (by decide) ?_
                  refine lv_goto (tgt := 94) hx hb dX2_canbe_69 (by decide) ?_
                  refine lv_istore (lv' := [(6, .int 0), (5, .int ((Rr 43 (7 * i + 5)) - (Rr 43 (7 * j + 5)))), (0, .ref h), (1, .int p1), (2, .int (b2i y)), (3, .int (nI i)), (4, .int (nI j))]) hx hb dX2_canbe_94 hl (by decide) rfl (fun ls hl => ?_)
                  refine lv_iload_n hx hb dX2_canbe_96 rfl (lv_at hl 4 rfl) ?_
                  refine lz_if_eq (tgt := 143) hx hb dX2_canbe_97 (by decide) (fun c_16 => ?_) (fun c_16 => ?_)
                  · -- c_16: y = false
                    refine lv_iconst (v := 0) hx hb dX2_canbe_143 (by decide) ?_
                    refine lv_istore_n (lv' := [(2, .int 0), (6, .int 0), (5, .int ((Rr 43 (7 * i + 5)) - (Rr 43 (7 * j + 5)))), (0, .ref h), (1, .int p1), (3, .int (nI i)), (4, .int (nI j))]) hx hb dX2_canbe_144 rfl hl (by decide) rfl (fun ls hl => ?_)
                    refine lv_iinc (v := nI (j + 1)) (lv' := [(4, .int (nI (j + 1))), (2, .int 0), (6, .int 0), (5, .int ((Rr 43 (7 * i + 5)) - (Rr 43 (7 * j + 5)))), (0, .ref h), (1, .int p1), (3, .int (nI i))]) hx hb dX2_canbe_145 hl (k := 6) rfl (mk_inc _) (by decide) rfl (fun ls hl => ?_)
                    refine lv_goto (tgt := 30) hx hb dX2_canbe_148 (by decide) ?_
                    exact L_5ih  (j + 1) false (by omega) (by first | (rw [itr_s, ← qy]; done) | (rw [itr_s, ← qy]; first | (simp [m_cbStep, m_cbRoad, em42, c_1, c_3, c_6, c_7, c_16, up_s, up_n, nI_1, b2i]; done) | (simp_all [m_cbStep, m_cbRoad]; done) | grind [m_cbStep, m_cbRoad])) (by omega) _ _ M ls (lv_sub hl [4, 5, 1, 6, 0] rfl)
                  · -- c_16: y = true
                    refine lv_aload_n hx hb dX2_canbe_100 rfl (lv_at hl 2 rfl) ?_
                    refine lv_iload_n hx hb dX2_canbe_101 rfl (lv_at hl 5 rfl) ?_
                    refine lv_iconst (v := 1) hx hb dX2_canbe_102 (by decide) ?_
                    refine m_cQ (v := Rr 43 (7 * i + 1)) (As := [.int (nI i), .int 1]) (rest := []) X M (metX2_on l D cl hcl h ad dA (va_up F 0 0) Rr i 1 (by omega) (by omega)) (cwV 2 hts (lw_V q1832 q1834 qs45 q62 q1835) rfl rfl rfl (by decide +kernel) ⟨Nat.le_of_ble_eq_true rfl, Nat.le_of_ble_eq_true rfl⟩) rfl hl.1 rfl (Nat.le_of_ble_eq_true rfl) dX2_canbe_103 ⟨Nat.zero_le _, Nat.zero_le _⟩ ?_
                    refine lv_iload_n hx hb dX2_canbe_106 rfl (lv_at hl 3 rfl) ?_
                    refine lv_icmp_ne (tgt := 139) hx hb dX2_canbe_107 (by decide) (fun c_17 => ?_) (fun c_17 => ?_)
                    · -- c_17: Rr 43 (7 * i + 1) ≠ p1
                      refine lv_iconst (v := 1) hx hb dX2_canbe_139 (by decide) ?_
                      refine lv_goto (tgt := 144) hx hb dX2_canbe_140 (by decide) ?_
                      refine lv_istore_n (lv' := [(2, .int 1), (6, .int 0), (5, .int ((Rr 43 (7 * i + 5)) - (Rr 43 (7 * j + 5)))), (0, .ref h), (1, .int p1), (3, .int (nI i)), (4, .int (nI j))]) hx hb dX2_canbe_144 rfl hl (by decide) rfl (fun ls hl => ?_)
                      refine lv_iinc (v := nI (j + 1)) (lv' := [(4, .int (nI (j + 1))), (2, .int 1), (6, .int 0), (5, .int ((Rr 43 (7 * i + 5)) - (Rr 43 (7 * j + 5)))), (0, .ref h), (1, .int p1), (3, .int (nI i))]) hx hb dX2_canbe_145 hl (k := 6) rfl (mk_inc _) (by decide) rfl (fun ls hl => ?_)
                      refine lv_goto (tgt := 30) hx hb dX2_canbe_148 (by decide) ?_
                      exact L_5ih  (j + 1) true (by omega) (by first | (rw [itr_s, ← qy]; done) | (rw [itr_s, ← qy]; first | (simp [m_cbStep, m_cbRoad, em42, c_1, c_3, c_6, c_7, c_16, c_17, up_s, up_n, nI_1, b2i]; done) | (simp_all [m_cbStep, m_cbRoad]; done) | grind [m_cbStep, m_cbRoad])) (by omega) _ _ M ls (lv_sub hl [4, 5, 1, 6, 0] rfl)
                    · -- c_17: Rr 43 (7 * i + 1) = p1
                      refine lv_aload_n hx hb dX2_canbe_110 rfl (lv_at hl 2 rfl) ?_
                      refine lv_iload hx hb dX2_canbe_111 (lv_at hl 6 rfl) ?_
                      refine lv_iconst (v := 1) hx hb dX2_canbe_113 (by decide) ?_
                      refine m_cQ (v := Rr 43 (7 * j + 1)) (As := [.int (nI j), .int 1]) (rest := []) X M (metX2_on l D cl hcl h ad dA (va_up F 0 0) Rr j 1 (by omega) (by omega)) (cwV 2 hts (lw_V q1832 q1834 qs45 q62 q1835) rfl rfl rfl (by decide +kernel) ⟨Nat.le_of_ble_eq_true rfl, Nat.le_of_ble_eq_true rfl⟩) rfl hl.1 rfl (Nat.le_of_ble_eq_true rfl) dX2_canbe_114 ⟨Nat.zero_le _, Nat.zero_le _⟩ ?_
                      refine lv_iload_n hx hb dX2_canbe_117 rfl (lv_at hl 3 rfl) ?_
                      refine lv_icmp_ne (tgt := 139) hx hb dX2_canbe_118 (by decide) (fun c_18 => ?_) (fun c_18 => ?_)
                      · -- c_18: Rr 43 (7 * j + 1) ≠ p1
                        refine lv_iconst (v := 1) hx hb dX2_canbe_139 (by decide) ?_
                        refine lv_goto (tgt := 144) hx hb dX2_canbe_140 (by decide) ?_
                        refine lv_istore_n (lv' := [(2, .int 1), (6, .int 0), (5, .int ((Rr 43 (7 * i + 5)) - (Rr 43 (7 * j + 5)))), (0, .ref h), (1, .int p1), (3, .int (nI i)), (4, .int (nI j))]) hx hb dX2_canbe_144 rfl hl (by decide) rfl (fun ls hl => ?_)
                        refine lv_iinc (v := nI (j + 1)) (lv' := [(4, .int (nI (j + 1))), (2, .int 1), (6, .int 0), (5, .int ((Rr 43 (7 * i + 5)) - (Rr 43 (7 * j + 5)))), (0, .ref h), (1, .int p1), (3, .int (nI i))]) hx hb dX2_canbe_145 hl (k := 6) rfl (mk_inc _) (by decide) rfl (fun ls hl => ?_)
                        refine lv_goto (tgt := 30) hx hb dX2_canbe_148 (by decide) ?_
                        exact L_5ih  (j + 1) true (by omega) (by first | (rw [itr_s, ← qy]; done) | (rw [itr_s, ← qy]; first | (simp [m_cbStep, m_cbRoad, em42, c_1, c_3, c_6, c_7, c_16, c_17, c_18, up_s, up_n, nI_1, b2i]; done) | (simp_all [m_cbStep, m_cbRoad]; done) | grind [m_cbStep, m_cbRoad])) (by omega) _ _ M ls (lv_sub hl [4, 5, 1, 6, 0] rfl)
                      · -- c_18: Rr 43 (7 * j + 1) = p1
                        refine lv_iload hx hb dX2_canbe_121 (lv_at hl 1 rfl) ?_
                        refine lb_if_ge (tgt := 132) hx hb dX2_canbe_123 (by decide) (fun c_19 c_19' => ?_) (fun c_19 c_19' => ?_)
                        · -- c_19: (Rr 43 (7 * i + 5)) - (Rr 43 (7 * j + 5)) ≥ 0
                          refine lv_iload hx hb dX2_canbe_132 (lv_at hl 1 rfl) ?_
                          refine lv_iload hx hb dX2_canbe_134 (lv_at hl 0 rfl) ?_
                          refine lb_icmp_lt (tgt := 143) hx hb dX2_canbe_136 (by decide) (fun c_20 c_20' => ?_) (fun c_20 c_20' => ?_)
                          · -- c_20: (Rr 43 (7 * i + 5)) - (Rr 43 (7 * j + 5)) < 0
                            refine lv_iconst (v := 0) hx hb dX2_canbe_143 (by decide) ?_
                            refine lv_istore_n (lv' := [(2, .int 0), (6, .int 0), (5, .int ((Rr 43 (7 * i + 5)) - (Rr 43 (7 * j + 5)))), (0, .ref h), (1, .int p1), (3, .int (nI i)), (4, .int (nI j))]) hx hb dX2_canbe_144 rfl hl (by decide) rfl (fun ls hl => ?_)
                            refine lv_iinc (v := nI (j + 1)) (lv' := [(4, .int (nI (j + 1))), (2, .int 0), (6, .int 0), (5, .int ((Rr 43 (7 * i + 5)) - (Rr 43 (7 * j + 5)))), (0, .ref h), (1, .int p1), (3, .int (nI i))]) hx hb dX2_canbe_145 hl (k := 6) rfl (mk_inc _) (by decide) rfl (fun ls hl => ?_)
                            refine lv_goto (tgt := 30) hx hb dX2_canbe_148 (by decide) ?_
                            exact L_5ih  (j + 1) false (by omega) (by first | (rw [itr_s, ← qy]; done) | (rw [itr_s, ← qy]; first | (simp [m_cbStep, m_cbRoad, em42, c_1, c_3, c_6, c_7, c_16, c_17, c_18, c_19, c_19', c_20, c_20', up_s, up_n, nI_1, b2i]; done) | (simp_all [m_cbStep, m_cbRoad]; done) | grind [m_cbStep, m_cbRoad])) (by omega) _ _ M ls (lv_sub hl [4, 5, 1, 6, 0] rfl)
                          · -- c_20: (Rr 43 (7 * i + 5)) - (Rr 43 (7 * j + 5)) ≥ 0
                            refine lv_iconst (v := 1) hx hb dX2_canbe_139 (by decide) ?_
                            refine lv_goto (tgt := 144) hx hb dX2_canbe_140 (by decide) ?_
                            refine lv_istore_n (lv' := [(2, .int 1), (6, .int 0), (5, .int ((Rr 43 (7 * i + 5)) - (Rr 43 (7 * j + 5)))), (0, .ref h), (1, .int p1), (3, .int (nI i)), (4, .int (nI j))]) hx hb dX2_canbe_144 rfl hl (by decide) rfl (fun ls hl => ?_)
                            refine lv_iinc (v := nI (j + 1)) (lv' := [(4, .int (nI (j + 1))), (2, .int 1), (6, .int 0), (5, .int ((Rr 43 (7 * i + 5)) - (Rr 43 (7 * j + 5)))), (0, .ref h), (1, .int p1), (3, .int (nI i))]) hx hb dX2_canbe_145 hl (k := 6) rfl (mk_inc _) (by decide) rfl (fun ls hl => ?_)
                            refine lv_goto (tgt := 30) hx hb dX2_canbe_148 (by decide) ?_
                            exact L_5ih  (j + 1) true (by omega) (by first | (rw [itr_s, ← qy]; done) | (rw [itr_s, ← qy]; first | (simp [m_cbStep, m_cbRoad, em42, c_1, c_3, c_6, c_7, c_16, c_17, c_18, c_19, c_19', c_20, c_20', up_s, up_n, nI_1, b2i]; done) | (simp_all [m_cbStep, m_cbRoad]; done) | grind [m_cbStep, m_cbRoad])) (by omega) _ _ M ls (lv_sub hl [4, 5, 1, 6, 0] rfl)
                        · -- c_19: (Rr 43 (7 * i + 5)) - (Rr 43 (7 * j + 5)) < 0
                          refine lv_iload hx hb dX2_canbe_126 (lv_at hl 1 rfl) ?_
                          refine lv_ineg hx hb dX2_canbe_128 ?_
                          refine lv_goto (tgt := 134) hx hb dX2_canbe_129 (by decide) ?_
                          refine lv_iload hx hb dX2_canbe_134 (lv_at hl 0 rfl) ?_
                          refine lb_icmp_lt (tgt := 143) hx hb dX2_canbe_136 (by decide) (fun c_21 c_21' => ?_) (fun c_21 c_21' => ?_)
                          · -- c_21: -((Rr 43 (7 * i + 5)) - (Rr 43 (7 * j + 5))) < 0
                            refine lv_iconst (v := 0) hx hb dX2_canbe_143 (by decide) ?_
                            refine lv_istore_n (lv' := [(2, .int 0), (6, .int 0), (5, .int ((Rr 43 (7 * i + 5)) - (Rr 43 (7 * j + 5)))), (0, .ref h), (1, .int p1), (3, .int (nI i)), (4, .int (nI j))]) hx hb dX2_canbe_144 rfl hl (by decide) rfl (fun ls hl => ?_)
                            refine lv_iinc (v := nI (j + 1)) (lv' := [(4, .int (nI (j + 1))), (2, .int 0), (6, .int 0), (5, .int ((Rr 43 (7 * i + 5)) - (Rr 43 (7 * j + 5)))), (0, .ref h), (1, .int p1), (3, .int (nI i))]) hx hb dX2_canbe_145 hl (k := 6) rfl (mk_inc _) (by decide) rfl (fun ls hl => ?_)
                            refine lv_goto (tgt := 30) hx hb dX2_canbe_148 (by decide) ?_
                            exact L_5ih  (j + 1) false (by omega) (by first | (rw [itr_s, ← qy]; done) | (rw [itr_s, ← qy]; first | (simp [m_cbStep, m_cbRoad, em42, c_1, c_3, c_6, c_7, c_16, c_17, c_18, c_19, c_19', c_21, c_21', up_s, up_n, nI_1, b2i]; done) | (simp_all [m_cbStep, m_cbRoad]; done) | grind [m_cbStep, m_cbRoad])) (by omega) _ _ M ls (lv_sub hl [4, 5, 1, 6, 0] rfl)
                          · -- c_21: -((Rr 43 (7 * i + 5)) - (Rr 43 (7 * j + 5))) ≥ 0
                            refine lv_iconst (v := 1) hx hb dX2_canbe_139 (by decide) ?_
                            refine lv_goto (tgt := 144) hx hb dX2_canbe_140 (by decide) ?_
                            refine lv_istore_n (lv' := [(2, .int 1), (6, .int 0), (5, .int ((Rr 43 (7 * i + 5)) - (Rr 43 (7 * j + 5)))), (0, .ref h), (1, .int p1), (3, .int (nI i)), (4, .int (nI j))]) hx hb dX2_canbe_144 rfl hl (by decide) rfl (fun ls hl => ?_)
                            refine lv_iinc (v := nI (j + 1)) (lv' := [(4, .int (nI (j + 1))), (2, .int 1), (6, .int 0), (5, .int ((Rr 43 (7 * i + 5)) - (Rr 43 (7 * j + 5)))), (0, .ref h), (1, .int p1), (3, .int (nI i))]) hx hb dX2_canbe_145 hl (k := 6) rfl (mk_inc _) (by decide) rfl (fun ls hl => ?_)
                            refine lv_goto (tgt := 30) hx hb dX2_canbe_148 (by decide) ?_
                            exact L_5ih  (j + 1) true (by omega) (by first | (rw [itr_s, ← qy]; done) | (rw [itr_s, ← qy]; first | (simp [m_cbStep, m_cbRoad, em42, c_1, c_3, c_6, c_7, c_16, c_17, c_18, c_19, c_19', c_21, c_21', up_s, up_n, nI_1, b2i]; done) | (simp_all [m_cbStep, m_cbRoad]; done) | grind [m_cbStep, m_cbRoad])) (by omega) _ _ M ls (lv_sub hl [4, 5, 1, 6, 0] rfl)
          exact L_5 ((i - 0) + 1) 0 z (Nat.zero_le _) (by first | rfl | (simp only [itr]; assumption) | (simp [itr, em42, c_1, c_3, up_s, up_n, nI_1, b2i]; done)) (Nat.lt_succ_self _) _ _ M ls (lv_sub hl [1, 2, 3, 4, 0] rfl)
    exact L_2 ((n42 - 0) + 1) 0 true (Nat.zero_le _) (by first | rfl | (simp only [itr]; assumption) | (simp [itr, em42, c_1, up_s, up_n, nI_1, b2i]; done)) (Nat.lt_succ_self _) _ _ M ls (lv_sub hl [2, 3, 1, 0] rfl)
  · -- c_1: inB 0 11 p1 = false
    refine lv_ldc (v := (-1000001)) hx hb hown (hts _ q1627) dX2_canbe_12 ?_
    exact W.iret (v := (-1000001)) hx hb hr (fun t9 ht9 hW9 => ⟨⟨_, (va_up F 0 0, Rr), rfl, (by first | (simp [m_canbe, em42, c_1, up_s, up_n, nI_1, b2i]; done) | (simp_all [m_canbe]; done) | grind [m_canbe]), by show va_P _ _ _ t9.heap; rw [ht9]; exact M.1⟩, M.2.2.F ht9⟩) M.2.2.2.2 dX2_canbe_14

def m_lets (F : Nat → Int32) (Rr : Nat → Nat → Int32) (p day g minute : Int32) : Int32 × mST := if inB 0 (F 42 - 1) p = false ∨ inB 0 999 day = false ∨ inB 0 8 g = false ∨ inB 0 1439 minute = false then ((-1000001), F, Rr) else (b2i (!m_isBanned (F 10) Rr (Rr 43 (7 * p.toNatClampNeg + 1)) day && decide (day ≤ Rr 43 (7 * p.toNatClampNeg + 6)) && decide (Rr 37 (64 + (Rr 43 (7 * p.toNatClampNeg + 4)).toNatClampNeg) ≤ day - Rr 43 (7 * p.toNatClampNeg + 5)) && !m_isForged (F 10) (F 38) Rr p.toNatClampNeg day && (m_isOpen Rr g minute || decide (Rr 43 (7 * p.toNatClampNeg) = 3))), F, Rr)
set_option maxHeartbeats 4000000 in
set_option maxRecDepth 100000 in
theorem metX2_lets (l : Launch) (D : va_G) (cl : List vw_C) (hcl : cl[0]? = some (RX2, TX2, 61)) (h : Nat) (ad : Nat → Nat) (dA : ClassId) (F : Nat → Int32) (Rr : Nat → Nat → Int32) (p1 : Int32) (p2 : Int32) (p3 : Int32) (p4 : Int32) (h10 : cnB (F 10) 30) (h38 : cnB (F 38) 20) (h42 : cnB (F 42) 16) (h43 : ∀ q, q < (F 42).toNatClampNeg → cnB (Rr 43 (7 * q + 4)) 7) : Met l yX2_lets (ws_ yX2_lets cX2_lets 6 (some .int)) ({ frames := 3, cells := 0, slots := 0, locals := 74 } : Room) (va_Pc [.ref h, .int p1, .int p2, .int p3, .int p4] (mPre D cl h ad dA F Rr)) (va_Qi (fun r u => (r, u) = m_lets (va_up F 0 0) Rr p1 p2 p3 p4) (mB D cl h ad dA) (mN h ad)) 0 0 (mN h ad) := by
  refine Met.ofW (cc := cX2_lets) (maxL := 6) (ret := (some .int)) (by decide) rfl ?_
  intro p e s m args below meth c s₁ B hml hv
  obtain ⟨rfl, hK, hP, hD⟩ := hv
  have hx := B.exec
  have hb := B.bytes
  have hr := B.returns
  have hts := atoms_spec (ws := (ws_ yX2_lets cX2_lets 6 (some .int))) B.pre
  have hts : ∀ w ∈ lw_all, w.before _ s = true := fun w h => hts w (List.mem_cons_of_mem _ h)
  have hown : s.vm.findClass RX2 = some m.cls := findClass_of_methodNamed B.named
  have hlocks := B.notSynchronized
  have S : CallFix p m c cX2_lets 6 s ([.ref h, .int p1, .int p2, .int p3, .int p4] : List Value).toArray lw_all RX2 := ⟨hx, hb, hml, hown, hts⟩
  have X : mX p s m ([.ref h, .int p1, .int p2, .int p3, .int p4] : List Value).toArray c cX2_lets 6 D cl dA := ⟨hx, hb, hml, hown, hts, hK, hcl⟩
  have M : mM D cl h ad dA (mN h ad) s F Rr s.heap [] := ⟨hP, mW_self hD, va_S.rf⟩
  have hl := lv_entry ([.ref h, .int p1, .int p2, .int p3, .int p4]) (n := 6) (Nat.le_of_ble_eq_true rfl)
  rw [lg_entry_eq]
  generalize (lg_sl ([.ref h, .int p1, .int p2, .int p3, .int p4]) ++ List.replicate (6 - (lg_sl ([.ref h, .int p1, .int p2, .int p3, .int p4])).length) Slot.unset).toArray = ls at hl ⊢
  have hl : lv_has ls 6 [(0, .ref h), (1, .int p1), (2, .int p2), (3, .int p3), (4, .int p4)] := hl
  refine lv_aload_n hx hb dX2_lets_0 rfl (lv_at hl 0 rfl) ?_
  refine lv_iconst (v := 0) hx hb dX2_lets_1 (by decide) ?_
  refine mp_0 X M dX2_lets_2 (fun H locs M => ?_)
  refine lv_aload_n hx hb dX2_lets_5 rfl (lv_at hl 0 rfl) ?_
  refine lv_iload_n hx hb dX2_lets_6 rfl (lv_at hl 1 rfl) ?_
  refine m_cQ (v := b2i (inB 0 ((F 42) - 1) p1)) (As := [.int p1]) (rest := []) X M (metX2_isPass l D cl hcl h ad dA (va_up F 0 0) Rr p1) (cwV 1 hts (lw_V q1840 q1842 qs46 q62 q1843) rfl rfl rfl (by decide +kernel) ⟨Nat.le_of_ble_eq_true rfl, Nat.le_of_ble_eq_true rfl⟩) rfl hl.1 rfl (Nat.le_of_ble_eq_true rfl) dX2_lets_7 ⟨Nat.zero_le _, Nat.zero_le _⟩ ?_
  refine lz_if_eq (tgt := 35) hx hb dX2_lets_10 (by decide) (fun c_1 => ?_) (fun c_1 => ?_)
  · -- c_1: inB 0 ((F 42) - 1) p1 = false
    refine lv_ldc (v := (-1000001)) hx hb hown (hts _ q1627) dX2_lets_35 ?_
    exact W.iret (v := (-1000001)) hx hb hr (fun t9 ht9 hW9 => ⟨⟨_, (va_up F 0 0, Rr), rfl, (by first | (simp [m_lets, c_1, up_s, up_n, nI_1, b2i]; done) | (simp_all [m_lets]; done) | grind [m_lets]), by show va_P _ _ _ t9.heap; rw [ht9]; exact M.1⟩, M.2.2.F ht9⟩) M.2.2.2.2 dX2_lets_37
  · -- c_1: inB 0 ((F 42) - 1) p1 = true
    obtain ⟨c1, hc1, rfl⟩ := at_ex c_1 h42 (m := 16) rfl
    have ec1 : (nI c1).toNatClampNeg = c1 := nI_clamp (by omega)
    refine lv_iload_n hx hb dX2_lets_13 rfl (lv_at hl 2 rfl) ?_
    refine s_cI (v := b2i (inB 0 999 p2)) (As := [.int p2]) (rest := []) S (metX2_isDay l p2) (va_cwS 1 hts (lw_S q1736 q1737 q62 q1738) rfl rfl rfl (by decide +kernel) ⟨Nat.le_of_ble_eq_true rfl, Nat.le_of_ble_eq_true rfl⟩) rfl hl.1 rfl (Nat.le_of_ble_eq_true rfl) dX2_lets_14 ⟨Nat.zero_le _, Nat.zero_le _⟩ ?_
    refine lz_if_eq (tgt := 35) hx hb dX2_lets_17 (by decide) (fun c_2 => ?_) (fun c_2 => ?_)
    · -- c_2: inB 0 999 p2 = false
      refine lv_ldc (v := (-1000001)) hx hb hown (hts _ q1627) dX2_lets_35 ?_
      exact W.iret (v := (-1000001)) hx hb hr (fun t9 ht9 hW9 => ⟨⟨_, (va_up F 0 0, Rr), rfl, (by first | (simp [m_lets, c_1, ec1, c_2, up_s, up_n, nI_1, b2i]; done) | (simp_all [m_lets]; done) | grind [m_lets]), by show va_P _ _ _ t9.heap; rw [ht9]; exact M.1⟩, M.2.2.F ht9⟩) M.2.2.2.2 dX2_lets_37
    · -- c_2: inB 0 999 p2 = true
      refine lv_iload_n hx hb dX2_lets_20 rfl (lv_at hl 3 rfl) ?_
      refine s_cI (v := b2i (inB 0 8 p3)) (As := [.int p3]) (rest := []) S (metX2_isGate l p3) (va_cwS 1 hts (lw_S q1649 q1650 q62 q1651) rfl rfl rfl (by decide +kernel) ⟨Nat.le_of_ble_eq_true rfl, Nat.le_of_ble_eq_true rfl⟩) rfl hl.1 rfl (Nat.le_of_ble_eq_true rfl) dX2_lets_21 ⟨Nat.zero_le _, Nat.zero_le _⟩ ?_
      refine lz_if_eq (tgt := 35) hx hb dX2_lets_24 (by decide) (fun c_3 => ?_) (fun c_3 => ?_)
      · -- c_3: inB 0 8 p3 = false
        refine lv_ldc (v := (-1000001)) hx hb hown (hts _ q1627) dX2_lets_35 ?_
        exact W.iret (v := (-1000001)) hx hb hr (fun t9 ht9 hW9 => ⟨⟨_, (va_up F 0 0, Rr), rfl, (by first | (simp [m_lets, c_1, ec1, c_2, c_3, up_s, up_n, nI_1, b2i]; done) | (simp_all [m_lets]; done) | grind [m_lets]), by show va_P _ _ _ t9.heap; rw [ht9]; exact M.1⟩, M.2.2.F ht9⟩) M.2.2.2.2 dX2_lets_37
      · -- c_3: inB 0 8 p3 = true
        refine lv_iload hx hb dX2_lets_27 (lv_at hl 4 rfl) ?_
        refine s_cI (v := b2i (inB 0 1439 p4)) (As := [.int p4]) (rest := []) S (metX2_isMinute l p4) (va_cwS 1 hts (lw_S q1653 q1654 q62 q1655) rfl rfl rfl (by decide +kernel) ⟨Nat.le_of_ble_eq_true rfl, Nat.le_of_ble_eq_true rfl⟩) rfl hl.1 rfl (Nat.le_of_ble_eq_true rfl) dX2_lets_29 ⟨Nat.zero_le _, Nat.zero_le _⟩ ?_
        refine lz_if_ne (tgt := 38) hx hb dX2_lets_32 (by decide) (fun c_4 => ?_) (fun c_4 => ?_)
        · -- c_4: inB 0 1439 p4 = true
          refine lv_aload_n hx hb dX2_lets_38 rfl (lv_at hl 0 rfl) ?_
          refine lv_aload_n hx hb dX2_lets_39 rfl (lv_at hl 0 rfl) ?_
          refine lv_iload_n hx hb dX2_lets_40 rfl (lv_at hl 1 rfl) ?_
          refine lv_iconst (v := 1) hx hb dX2_lets_41 (by decide) ?_
          refine m_cQ (v := Rr 43 (7 * c1 + 1)) (As := [.int (nI c1), .int 1]) (rest := [.ref h]) X M (metX2_on l D cl hcl h ad dA (va_up F 0 0) Rr c1 1 (by omega) (by omega)) (cwV 2 hts (lw_V q1832 q1834 qs45 q62 q1835) rfl rfl rfl (by decide +kernel) ⟨Nat.le_of_ble_eq_true rfl, Nat.le_of_ble_eq_true rfl⟩) rfl hl.1 rfl (Nat.le_of_ble_eq_true rfl) dX2_lets_42 ⟨Nat.zero_le _, Nat.zero_le _⟩ ?_
          refine lv_iload_n hx hb dX2_lets_45 rfl (lv_at hl 2 rfl) ?_
          refine m_cQ (v := b2i (m_isBanned (F 10) Rr (Rr 43 (7 * c1 + 1)) p2)) (As := [.int (Rr 43 (7 * c1 + 1)), .int p2]) (rest := []) X M (metX2_isBanned l D cl hcl h ad dA (va_up F 0 0) Rr (Rr 43 (7 * c1 + 1)) p2 h10) (cwV 2 hts (lw_V q1759 q1761 qs39 q62 q1762) rfl rfl rfl (by decide +kernel) ⟨Nat.le_of_ble_eq_true rfl, Nat.le_of_ble_eq_true rfl⟩) rfl hl.1 rfl (Nat.le_of_ble_eq_true rfl) dX2_lets_46 ⟨Nat.zero_le _, Nat.zero_le _⟩ ?_
          refine lz_if_ne (tgt := 121) hx hb dX2_lets_49 (by decide) (fun c_5 => ?_) (fun c_5 => ?_)
          · -- c_5: m_isBanned (F 10) Rr (Rr 43 (7 * c1 + 1)) p2 = true
            refine lv_iconst (v := 0) hx hb dX2_lets_121 (by decide) ?_
            refine lv_istore (lv' := [(5, .int 0), (0, .ref h), (1, .int (nI c1)), (2, .int p2), (3, .int p3), (4, .int p4)]) hx hb dX2_lets_122 hl (by decide) rfl (fun ls hl => ?_)
            refine lv_iload hx hb dX2_lets_124 (lv_at hl 0 rfl) ?_
            refine lv_if_eq (tgt := 133) hx hb dX2_lets_126 (by decide) (fun c_6 => ?_) (fun c_6 => absurd c_6 (by decide))
            refine lv_iconst (v := 0) hx hb dX2_lets_133 (by decide) ?_
            exact W.iret (v := 0) hx hb hr (fun t9 ht9 hW9 => ⟨⟨_, (va_up F 0 0, Rr), rfl, (by first | (simp [m_lets, c_1, ec1, c_2, c_3, c_4, c_5, up_s, up_n, nI_1, b2i]; done) | (simp_all [m_lets]; done) | grind [m_lets]), by show va_P _ _ _ t9.heap; rw [ht9]; exact M.1⟩, M.2.2.F ht9⟩) M.2.2.2.2 dX2_lets_134
          · -- c_5: m_isBanned (F 10) Rr (Rr 43 (7 * c1 + 1)) p2 = false
            refine lv_iload_n hx hb dX2_lets_52 rfl (lv_at hl 2 rfl) ?_
            refine lv_aload_n hx hb dX2_lets_53 rfl (lv_at hl 0 rfl) ?_
            refine lv_iload_n hx hb dX2_lets_54 rfl (lv_at hl 1 rfl) ?_
            refine lv_bipush (v := 6) hx hb dX2_lets_55 (by decide) ?_
            refine m_cQ (v := Rr 43 (7 * c1 + 6)) (As := [.int (nI c1), .int 6]) (rest := [.int p2]) X M (metX2_on l D cl hcl h ad dA (va_up F 0 0) Rr c1 6 (by omega) (by omega)) (cwV 2 hts (lw_V q1832 q1834 qs45 q62 q1835) rfl rfl rfl (by decide +kernel) ⟨Nat.le_of_ble_eq_true rfl, Nat.le_of_ble_eq_true rfl⟩) rfl hl.1 rfl (Nat.le_of_ble_eq_true rfl) dX2_lets_57 ⟨Nat.zero_le _, Nat.zero_le _⟩ ?_
            refine lb_icmp_gt (tgt := 121) hx hb dX2_lets_60 (by decide) (fun c_7 c_7' => ?_) (fun c_7 c_7' => ?_)
            · -- c_7: p2 > Rr 43 (7 * c1 + 6)
              refine lv_iconst (v := 0) hx hb dX2_lets_121 (by decide) ?_
              refine lv_istore (lv' := [(5, .int 0), (0, .ref h), (1, .int (nI c1)), (2, .int p2), (3, .int p3), (4, .int p4)]) hx hb dX2_lets_122 hl (by decide) rfl (fun ls hl => ?_)
              refine lv_iload hx hb dX2_lets_124 (lv_at hl 0 rfl) ?_
              refine lv_if_eq (tgt := 133) hx hb dX2_lets_126 (by decide) (fun c_8 => ?_) (fun c_8 => absurd c_8 (by decide))
              refine lv_iconst (v := 0) hx hb dX2_lets_133 (by decide) ?_
              exact W.iret (v := 0) hx hb hr (fun t9 ht9 hW9 => ⟨⟨_, (va_up F 0 0, Rr), rfl, (by first | (simp [m_lets, c_1, ec1, c_2, c_3, c_4, c_5, c_7, c_7', up_s, up_n, nI_1, b2i]; done) | (simp_all [m_lets]; done) | grind [m_lets]), by show va_P _ _ _ t9.heap; rw [ht9]; exact M.1⟩, M.2.2.F ht9⟩) M.2.2.2.2 dX2_lets_134
            · -- c_7: p2 ≤ Rr 43 (7 * c1 + 6)
              refine lv_iload_n hx hb dX2_lets_63 rfl (lv_at hl 2 rfl) ?_
              refine lv_aload_n hx hb dX2_lets_64 rfl (lv_at hl 0 rfl) ?_
              refine lv_iload_n hx hb dX2_lets_65 rfl (lv_at hl 1 rfl) ?_
              refine lv_iconst (v := 5) hx hb dX2_lets_66 (by decide) ?_
              refine m_cQ (v := Rr 43 (7 * c1 + 5)) (As := [.int (nI c1), .int 5]) (rest := [.int p2]) X M (metX2_on l D cl hcl h ad dA (va_up F 0 0) Rr c1 5 (by omega) (by omega)) (cwV 2 hts (lw_V q1832 q1834 qs45 q62 q1835) rfl rfl rfl (by decide +kernel) ⟨Nat.le_of_ble_eq_true rfl, Nat.le_of_ble_eq_true rfl⟩) rfl hl.1 rfl (Nat.le_of_ble_eq_true rfl) dX2_lets_67 ⟨Nat.zero_le _, Nat.zero_le _⟩ ?_
              refine lv_isub hx hb dX2_lets_70 ?_
              refine lv_aload_n hx hb dX2_lets_71 rfl (lv_at hl 0 rfl) ?_
              refine mg_37 X M dX2_lets_72 ?_
              refine lv_bipush (v := 64) hx hb dX2_lets_75 (by decide) ?_
              refine lv_aload_n hx hb dX2_lets_77 rfl (lv_at hl 0 rfl) ?_
              refine lv_iload_n hx hb dX2_lets_78 rfl (lv_at hl 1 rfl) ?_
              refine lv_iconst (v := 4) hx hb dX2_lets_79 (by decide) ?_
              refine m_cQ (v := Rr 43 (7 * c1 + 4)) (As := [.int (nI c1), .int 4]) (rest := [.int 64, .ref (ad 37), .int (p2 - (Rr 43 (7 * c1 + 5)))]) X M (metX2_on l D cl hcl h ad dA (va_up F 0 0) Rr c1 4 (by omega) (by omega)) (cwV 2 hts (lw_V q1832 q1834 qs45 q62 q1835) rfl rfl rfl (by decide +kernel) ⟨Nat.le_of_ble_eq_true rfl, Nat.le_of_ble_eq_true rfl⟩) rfl hl.1 rfl (Nat.le_of_ble_eq_true rfl) dX2_lets_80 ⟨Nat.zero_le _, Nat.zero_le _⟩ ?_
              have b_9 : (Rr 43 (7 * c1 + 4)).toNatClampNeg ≤ 7 := cnB_le (h43 c1 hc1.1) rfl
              refine lv_asi (y := nI (Rr 43 (7 * c1 + 4)).toNatClampNeg) (nJ_of ((h43 c1 hc1.1)).1) ?_
              refine lv_iadd hx hb dX2_lets_83 ?_
              refine lv_asi (y := nI (64 + ((Rr 43 (7 * c1 + 4)).toNatClampNeg))) (nI_add 64 ((Rr 43 (7 * c1 + 4)).toNatClampNeg)) ?_
              refine mr_37 X M (f := Rr 37) rfl (j := 64 + ((Rr 43 (7 * c1 + 4)).toNatClampNeg)) (vp_in_nI (by omega) (by omega)) (nI_clamp (by omega)) dX2_lets_84 ?_
              refine lb_icmp_lt (tgt := 121) hx hb dX2_lets_85 (by decide) (fun c_10 c_10' => ?_) (fun c_10 c_10' => ?_)
              · -- c_10: p2 - (Rr 43 (7 * c1 + 5)) < Rr 37 (64 + ((Rr 43 (7 * c1 + 4)).toNatClampNeg))
                refine lv_iconst (v := 0) hx hb dX2_lets_121 (by decide) ?_
                refine lv_istore (lv' := [(5, .int 0), (0, .ref h), (1, .int (nI c1)), (2, .int p2), (3, .int p3), (4, .int p4)]) hx hb dX2_lets_122 hl (by decide) rfl (fun ls hl => ?_)
                refine lv_iload hx hb dX2_lets_124 (lv_at hl 0 rfl) ?_
                refine lv_if_eq (tgt := 133) hx hb dX2_lets_126 (by decide) (fun c_11 => ?_) (fun c_11 => absurd c_11 (by decide))
                refine lv_iconst (v := 0) hx hb dX2_lets_133 (by decide) ?_
                exact W.iret (v := 0) hx hb hr (fun t9 ht9 hW9 => ⟨⟨_, (va_up F 0 0, Rr), rfl, (by first | (simp [m_lets, c_1, ec1, c_2, c_3, c_4, c_5, c_7, c_7', c_10, c_10', up_s, up_n, nI_1, b2i]; done) | (simp_all [m_lets]; done) | grind [m_lets]), by show va_P _ _ _ t9.heap; rw [ht9]; exact M.1⟩, M.2.2.F ht9⟩) M.2.2.2.2 dX2_lets_134
              · -- c_10: p2 - (Rr 43 (7 * c1 + 5)) ≥ Rr 37 (64 + ((Rr 43 (7 * c1 + 4)).toNatClampNeg))
                refine lv_aload_n hx hb dX2_lets_88 rfl (lv_at hl 0 rfl) ?_
                refine lv_iload_n hx hb dX2_lets_89 rfl (lv_at hl 1 rfl) ?_
                refine lv_iload_n hx hb dX2_lets_90 rfl (lv_at hl 2 rfl) ?_
                refine m_cQ (v := b2i (m_isForged (F 10) (F 38) Rr c1 p2)) (As := [.int (nI c1), .int p2]) (rest := []) X M (metX2_isForged l D cl hcl h ad dA (va_up F 0 0) Rr c1 p2 (by omega) h10 h38) (cwV 2 hts (lw_V q1844 q1846 qs47 q62 q1847) rfl rfl rfl (by decide +kernel) ⟨Nat.le_of_ble_eq_true rfl, Nat.le_of_ble_eq_true rfl⟩) rfl hl.1 rfl (Nat.le_of_ble_eq_true rfl) dX2_lets_91 ⟨Nat.zero_le _, Nat.zero_le _⟩ ?_
                refine lz_if_ne (tgt := 121) hx hb dX2_lets_94 (by decide) (fun c_12 => ?_) (fun c_12 => ?_)
                · -- c_12: m_isForged (F 10) (F 38) Rr c1 p2 = true
                  refine lv_iconst (v := 0) hx hb dX2_lets_121 (by decide) ?_
                  refine lv_istore (lv' := [(5, .int 0), (0, .ref h), (1, .int (nI c1)), (2, .int p2), (3, .int p3), (4, .int p4)]) hx hb dX2_lets_122 hl (by decide) rfl (fun ls hl => ?_)
                  refine lv_iload hx hb dX2_lets_124 (lv_at hl 0 rfl) ?_
                  refine lv_if_eq (tgt := 133) hx hb dX2_lets_126 (by decide) (fun c_13 => ?_) (fun c_13 => absurd c_13 (by decide))
                  refine lv_iconst (v := 0) hx hb dX2_lets_133 (by decide) ?_
                  exact W.iret (v := 0) hx hb hr (fun t9 ht9 hW9 => ⟨⟨_, (va_up F 0 0, Rr), rfl, (by first | (simp [m_lets, c_1, ec1, c_2, c_3, c_4, c_5, c_7, c_7', c_10, c_10', c_12, up_s, up_n, nI_1, b2i]; done) | (simp_all [m_lets]; done) | grind [m_lets]), by show va_P _ _ _ t9.heap; rw [ht9]; exact M.1⟩, M.2.2.F ht9⟩) M.2.2.2.2 dX2_lets_134
                · -- c_12: m_isForged (F 10) (F 38) Rr c1 p2 = false
                  refine lv_aload_n hx hb dX2_lets_97 rfl (lv_at hl 0 rfl) ?_
                  refine lv_iload_n hx hb dX2_lets_98 rfl (lv_at hl 3 rfl) ?_
                  refine lv_iload hx hb dX2_lets_99 (lv_at hl 4 rfl) ?_
                  refine m_cQ (v := b2i (m_isOpen Rr p3 p4)) (As := [.int p3, .int p4]) (rest := []) X M (metX2_isOpen l D cl hcl h ad dA (va_up F 0 0) Rr p3 p4 (vp_inB c_3 (by decide) (by decide))) (cwV 2 hts (lw_V q1798 q1800 qs44 q62 q1801) rfl rfl rfl (by decide +kernel) ⟨Nat.le_of_ble_eq_true rfl, Nat.le_of_ble_eq_true rfl⟩) rfl hl.1 rfl (Nat.le_of_ble_eq_true rfl) dX2_lets_101 ⟨Nat.zero_le _, Nat.zero_le _⟩ ?_
                  refine lz_if_ne (tgt := 117) hx hb dX2_lets_104 (by decide) (fun c_14 => ?_) (fun c_14 => ?_)
                  · -- c_14: m_isOpen Rr p3 p4 = true
                    refine lv_iconst (v := 1) hx hb dX2_lets_117 (by decide) ?_
                    refine lv_goto (tgt := 122) hx hb dX2_lets_118 (by decide) ?_
                    refine lv_istore (lv' := [(5, .int 1), (0, .ref h), (1, .int (nI c1)), (2, .int p2), (3, .int p3), (4, .int p4)]) hx hb dX2_lets_122 hl (by decide) rfl (fun ls hl => ?_)
                    refine lv_iload hx hb dX2_lets_124 (lv_at hl 0 rfl) ?_
                    refine lv_if_eq (tgt := 133) hx hb dX2_lets_126 (by decide) (fun c_15 => absurd c_15 (by decide)) (fun c_15 => ?_)
                    refine lv_iconst (v := 1) hx hb dX2_lets_129 (by decide) ?_
                    refine lv_goto (tgt := 134) hx hb dX2_lets_130 (by decide) ?_
                    exact W.iret (v := 1) hx hb hr (fun t9 ht9 hW9 => ⟨⟨_, (va_up F 0 0, Rr), rfl, (by first | (simp [m_lets, c_1, ec1, c_2, c_3, c_4, c_5, c_7, c_7', c_10, c_10', c_12, c_14, up_s, up_n, nI_1, b2i]; done) | (simp_all [m_lets]; done) | grind [m_lets]), by show va_P _ _ _ t9.heap; rw [ht9]; exact M.1⟩, M.2.2.F ht9⟩) M.2.2.2.2 dX2_lets_134
                  · -- c_14: m_isOpen Rr p3 p4 = false
                    refine lv_aload_n hx hb dX2_lets_107 rfl (lv_at hl 0 rfl) ?_
                    refine lv_iload_n hx hb dX2_lets_108 rfl (lv_at hl 1 rfl) ?_
                    refine lv_iconst (v := 0) hx hb dX2_lets_109 (by decide) ?_
                    refine m_cQ (v := Rr 43 (7 * c1)) (As := [.int (nI c1), .int 0]) (rest := []) X M (metX2_on l D cl hcl h ad dA (va_up F 0 0) Rr c1 0 (by omega) (by omega)) (cwV 2 hts (lw_V q1832 q1834 qs45 q62 q1835) rfl rfl rfl (by decide +kernel) ⟨Nat.le_of_ble_eq_true rfl, Nat.le_of_ble_eq_true rfl⟩) rfl hl.1 rfl (Nat.le_of_ble_eq_true rfl) dX2_lets_110 ⟨Nat.zero_le _, Nat.zero_le _⟩ ?_
                    refine lv_iconst (v := 3) hx hb dX2_lets_113 (by decide) ?_
                    refine lv_icmp_ne (tgt := 121) hx hb dX2_lets_114 (by decide) (fun c_16 => ?_) (fun c_16 => ?_)
                    · -- c_16: Rr 43 (7 * c1) ≠ 3
                      refine lv_iconst (v := 0) hx hb dX2_lets_121 (by decide) ?_
                      refine lv_istore (lv' := [(5, .int 0), (0, .ref h), (1, .int (nI c1)), (2, .int p2), (3, .int p3), (4, .int p4)]) hx hb dX2_lets_122 hl (by decide) rfl (fun ls hl => ?_)
                      refine lv_iload hx hb dX2_lets_124 (lv_at hl 0 rfl) ?_
                      refine lv_if_eq (tgt := 133) hx hb dX2_lets_126 (by decide) (fun c_17 => ?_) (fun c_17 => absurd c_17 (by decide))
                      refine lv_iconst (v := 0) hx hb dX2_lets_133 (by decide) ?_
                      exact W.iret (v := 0) hx hb hr (fun t9 ht9 hW9 => ⟨⟨_, (va_up F 0 0, Rr), rfl, (by first | (simp [m_lets, c_1, ec1, c_2, c_3, c_4, c_5, c_7, c_7', c_10, c_10', c_12, c_14, c_16, up_s, up_n, nI_1, b2i]; done) | (simp_all [m_lets]; done) | grind [m_lets]), by show va_P _ _ _ t9.heap; rw [ht9]; exact M.1⟩, M.2.2.F ht9⟩) M.2.2.2.2 dX2_lets_134
                    · -- c_16: Rr 43 (7 * c1) = 3
                      refine lv_iconst (v := 1) hx hb dX2_lets_117 (by decide) ?_
                      refine lv_goto (tgt := 122) hx hb dX2_lets_118 (by decide) ?_
                      refine lv_istore (lv' := [(5, .int 1), (0, .ref h), (1, .int (nI c1)), (2, .int p2), (3, .int p3), (4, .int p4)]) hx hb dX2_lets_122 hl (by decide) rfl (fun ls hl => ?_)
                      refine lv_iload hx hb dX2_lets_124 (lv_at hl 0 rfl) ?_
                      refine lv_if_eq (tgt := 133) hx hb dX2_lets_126 (by decide) (fun c_18 => absurd c_18 (by decide)) (fun c_18 => ?_)
                      refine lv_iconst (v := 1) hx hb dX2_lets_129 (by decide) ?_
                      refine lv_goto (tgt := 134) hx hb dX2_lets_130 (by decide) ?_
                      exact W.iret (v := 1) hx hb hr (fun t9 ht9 hW9 => ⟨⟨_, (va_up F 0 0, Rr), rfl, (by first | (simp [m_lets, c_1, ec1, c_2, c_3, c_4, c_5, c_7, c_7', c_10, c_10', c_12, c_14, c_16, up_s, up_n, nI_1, b2i]; done) | (simp_all [m_lets]; done) | grind [m_lets]), by show va_P _ _ _ t9.heap; rw [ht9]; exact M.1⟩, M.2.2.F ht9⟩) M.2.2.2.2 dX2_lets_134
        · -- c_4: inB 0 1439 p4 = false
          refine lv_ldc (v := (-1000001)) hx hb hown (hts _ q1627) dX2_lets_35 ?_
          exact W.iret (v := (-1000001)) hx hb hr (fun t9 ht9 hW9 => ⟨⟨_, (va_up F 0 0, Rr), rfl, (by first | (simp [m_lets, c_1, ec1, c_2, c_3, c_4, up_s, up_n, nI_1, b2i]; done) | (simp_all [m_lets]; done) | grind [m_lets]), by show va_P _ _ _ t9.heap; rw [ht9]; exact M.1⟩, M.2.2.F ht9⟩) M.2.2.2.2 dX2_lets_37

def m_duskStep (Rr : Nat → Nat → Int32) (x y minute pace : Int32) (k : Nat) (b : Int32 × Int32) : Int32 × Int32 :=
  if (if minute + (m_far x (Rr 8 k) + m_far y (Rr 9 k)) * pace / 100 < Rr 5 k then Rr 5 k else minute + (m_far x (Rr 8 k) + m_far y (Rr 9 k)) * pace / 100) < Rr 6 k ∧ (b.1 = (-1000000) ∨ (if minute + (m_far x (Rr 8 k) + m_far y (Rr 9 k)) * pace / 100 < Rr 5 k then Rr 5 k else minute + (m_far x (Rr 8 k) + m_far y (Rr 9 k)) * pace / 100) < b.2) then (nI k, if minute + (m_far x (Rr 8 k) + m_far y (Rr 9 k)) * pace / 100 < Rr 5 k then Rr 5 k else minute + (m_far x (Rr 8 k) + m_far y (Rr 9 k)) * pace / 100) else b
def m_dusk (F : Nat → Int32) (Rr : Nat → Nat → Int32) (x y minute pace : Int32) : Int32 × mST := if (inB 0 999 x && inB 0 999 y) = false ∨ inB 0 1439 minute = false ∨ inB 1 60 pace = false then ((-1000001), F, Rr) else ((itr (m_duskStep Rr x y minute pace) 9 ((-1000000), 0)).1, F, Rr)
set_option maxHeartbeats 4000000 in
set_option maxRecDepth 100000 in
theorem metX2_dusk (l : Launch) (D : va_G) (cl : List vw_C) (hcl : cl[0]? = some (RX2, TX2, 61)) (h : Nat) (ad : Nat → Nat) (dA : ClassId) (F : Nat → Int32) (Rr : Nat → Nat → Int32) (p1 : Int32) (p2 : Int32) (p3 : Int32) (p4 : Int32) : Met l yX2_dusk (ws_ yX2_dusk cX2_dusk 9 (some .int)) ({ frames := 2, cells := 0, slots := 0, locals := 46 } : Room) (va_Pc [.ref h, .int p1, .int p2, .int p3, .int p4] (mPre D cl h ad dA F Rr)) (va_Qi (fun r u => (r, u) = m_dusk (va_up F 0 0) Rr p1 p2 p3 p4) (mB D cl h ad dA) (mN h ad)) 0 0 (mN h ad) := by
  refine Met.ofW (cc := cX2_dusk) (maxL := 9) (ret := (some .int)) (by decide) rfl ?_
  intro p e s m args below meth c s₁ B hml hv
  obtain ⟨rfl, hK, hP, hD⟩ := hv
  have hx := B.exec
  have hb := B.bytes
  have hr := B.returns
  have hts := atoms_spec (ws := (ws_ yX2_dusk cX2_dusk 9 (some .int))) B.pre
  have hts : ∀ w ∈ lw_all, w.before _ s = true := fun w h => hts w (List.mem_cons_of_mem _ h)
  have hown : s.vm.findClass RX2 = some m.cls := findClass_of_methodNamed B.named
  have hlocks := B.notSynchronized
  have S : CallFix p m c cX2_dusk 9 s ([.ref h, .int p1, .int p2, .int p3, .int p4] : List Value).toArray lw_all RX2 := ⟨hx, hb, hml, hown, hts⟩
  have X : mX p s m ([.ref h, .int p1, .int p2, .int p3, .int p4] : List Value).toArray c cX2_dusk 9 D cl dA := ⟨hx, hb, hml, hown, hts, hK, hcl⟩
  have M : mM D cl h ad dA (mN h ad) s F Rr s.heap [] := ⟨hP, mW_self hD, va_S.rf⟩
  have hl := lv_entry ([.ref h, .int p1, .int p2, .int p3, .int p4]) (n := 9) (Nat.le_of_ble_eq_true rfl)
  rw [lg_entry_eq]
  generalize (lg_sl ([.ref h, .int p1, .int p2, .int p3, .int p4]) ++ List.replicate (9 - (lg_sl ([.ref h, .int p1, .int p2, .int p3, .int p4])).length) Slot.unset).toArray = ls at hl ⊢
  have hl : lv_has ls 9 [(0, .ref h), (1, .int p1), (2, .int p2), (3, .int p3), (4, .int p4)] := hl
  refine lv_aload_n hx hb dX2_dusk_0 rfl (lv_at hl 0 rfl) ?_
  refine lv_iconst (v := 0) hx hb dX2_dusk_1 (by decide) ?_
  refine mp_0 X M dX2_dusk_2 (fun H locs M => ?_)
  refine lv_iload_n hx hb dX2_dusk_5 rfl (lv_at hl 1 rfl) ?_
  refine lv_iload_n hx hb dX2_dusk_6 rfl (lv_at hl 2 rfl) ?_
  refine s_cI (v := b2i (inB 0 999 p1 && inB 0 999 p2)) (As := [.int p1, .int p2]) (rest := []) S (metX2_isSpot l p1 p2) (va_cwS 2 hts (lw_S q1667 q1668 q62 q1669) rfl rfl rfl (by decide +kernel) ⟨Nat.le_of_ble_eq_true rfl, Nat.le_of_ble_eq_true rfl⟩) rfl hl.1 rfl (Nat.le_of_ble_eq_true rfl) dX2_dusk_7 ⟨Nat.zero_le _, Nat.zero_le _⟩ ?_
  refine lz_if_eq (tgt := 33) hx hb dX2_dusk_10 (by decide) (fun c_1 => ?_) (fun c_1 => ?_)
  · -- c_1: inB 0 999 p1 && inB 0 999 p2 = false
    refine lv_ldc (v := (-1000001)) hx hb hown (hts _ q1627) dX2_dusk_33 ?_
    exact W.iret (v := (-1000001)) hx hb hr (fun t9 ht9 hW9 => ⟨⟨_, (va_up F 0 0, Rr), rfl, (by first | (simp [m_dusk, c_1, up_s, up_n, nI_1, b2i]; done) | (simp_all [m_dusk]; done) | grind [m_dusk]), by show va_P _ _ _ t9.heap; rw [ht9]; exact M.1⟩, M.2.2.F ht9⟩) M.2.2.2.2 dX2_dusk_35
  · -- c_1: inB 0 999 p1 && inB 0 999 p2 = true
    refine lv_iload_n hx hb dX2_dusk_13 rfl (lv_at hl 3 rfl) ?_
    refine s_cI (v := b2i (inB 0 1439 p3)) (As := [.int p3]) (rest := []) S (metX2_isMinute l p3) (va_cwS 1 hts (lw_S q1653 q1654 q62 q1655) rfl rfl rfl (by decide +kernel) ⟨Nat.le_of_ble_eq_true rfl, Nat.le_of_ble_eq_true rfl⟩) rfl hl.1 rfl (Nat.le_of_ble_eq_true rfl) dX2_dusk_14 ⟨Nat.zero_le _, Nat.zero_le _⟩ ?_
    refine lz_if_eq (tgt := 33) hx hb dX2_dusk_17 (by decide) (fun c_2 => ?_) (fun c_2 => ?_)
    · -- c_2: inB 0 1439 p3 = false
      refine lv_ldc (v := (-1000001)) hx hb hown (hts _ q1627) dX2_dusk_33 ?_
      exact W.iret (v := (-1000001)) hx hb hr (fun t9 ht9 hW9 => ⟨⟨_, (va_up F 0 0, Rr), rfl, (by first | (simp [m_dusk, c_1, c_2, up_s, up_n, nI_1, b2i]; done) | (simp_all [m_dusk]; done) | grind [m_dusk]), by show va_P _ _ _ t9.heap; rw [ht9]; exact M.1⟩, M.2.2.F ht9⟩) M.2.2.2.2 dX2_dusk_35
    · -- c_2: inB 0 1439 p3 = true
      refine lv_iload hx hb dX2_dusk_20 (lv_at hl 4 rfl) ?_
      refine lv_i2l (v := p4.toInt64) hx hb dX2_dusk_22 rfl ?_
      refine lv_lconst (v := 1) hx hb dX2_dusk_23 (by decide) ?_
      refine lv_ldc2 (v := 60) hx hb hown (hts _ q1813) dX2_dusk_24 ?_
      refine s_cI (v := b2i (inB 1 60 p4)) (As := [.long p4.toInt64, .long 1, .long 60]) (rest := []) S (metX2_inI l p4 1 60 p4.toInt64 1 60 rfl rfl rfl) (va_cwS 3 hts (lw_S q1623 q1624 q62 q1625) rfl rfl rfl (by decide +kernel) ⟨Nat.le_of_ble_eq_true rfl, Nat.le_of_ble_eq_true rfl⟩) rfl hl.1 rfl (Nat.le_of_ble_eq_true rfl) dX2_dusk_27 ⟨Nat.zero_le _, Nat.zero_le _⟩ ?_
      refine lz_if_ne (tgt := 36) hx hb dX2_dusk_30 (by decide) (fun c_3 => ?_) (fun c_3 => ?_)
      · -- c_3: inB 1 60 p4 = true
        refine lv_ldc (v := (-1000000)) hx hb hown (hts _ q1430) dX2_dusk_36 ?_
        refine lv_istore (lv' := [(5, .int (-1000000)), (0, .ref h), (1, .int p1), (2, .int p2), (3, .int p3), (4, .int p4)]) hx hb dX2_dusk_38 hl (by decide) rfl (fun ls hl => ?_)
        refine lv_iconst (v := 0) hx hb dX2_dusk_40 (by decide) ?_
        refine lv_istore (lv' := [(6, .int 0), (5, .int (-1000000)), (0, .ref h), (1, .int p1), (2, .int p2), (3, .int p3), (4, .int p4)]) hx hb dX2_dusk_41 hl (by decide) rfl (fun ls hl => ?_)
        refine lv_iconst (v := 0) hx hb dX2_dusk_43 (by decide) ?_
        refine lv_istore (lv' := [(7, .int 0), (6, .int 0), (5, .int (-1000000)), (0, .ref h), (1, .int p1), (2, .int p2), (3, .int p3), (4, .int p4)]) hx hb dX2_dusk_44 hl (by decide) rfl (fun ls hl => ?_)
        have L_4 : ∀ (fuL_4 : Nat) (i : Nat) (x : Int32) (y : Int32), (i ≤ 9) → ((x, y) = itr (m_duskStep Rr p1 p2 p3 p4) i (-1000000, 0)) → 9 - i < fuL_4 → ∀ (H : Heap) (locs : List Loc), mM D cl h ad dA (mN h ad) s (va_up F 0 0) Rr H locs → ∀ ls, lv_has ls 9 [(0, .ref h), (1, .int p1), (2, .int p2), (3, .int p3), (4, .int p4), (5, .int x), (6, .int y), (7, .int (nI i))] → W p l e ({ frames := 2, cells := 0, slots := 0, locals := 46 } : Room) s m ([.ref h, .int p1, .int p2, .int p3, .int p4] : List Value).toArray below meth c H locs 0 0 (MQ below (va_Qi (fun r u => (r, u) = m_dusk (va_up F 0 0) Rr p1 p2 p3 p4) (mB D cl h ad dA) (mN h ad)) ([.ref h, .int p1, .int p2, .int p3, .int p4] : List Value).toArray s 0 0 (mN h ad)) (F0 m 46 ls []) := by
          intro fuL_4
          induction fuL_4 with
          | zero => intro i x y hi qxy hfuL_4; exact absurd hfuL_4 (Nat.not_lt_zero _)
          | succ fuL_4 L_4ih =>
            intro i x y hi qxy hfuL_4 H locs M ls hl
            refine lv_iload hx hb dX2_dusk_46 (lv_at hl 7 rfl) ?_
            refine lv_bipush (v := 9) hx hb dX2_dusk_48 (by decide) ?_
            refine ln_icmp_ge (tgt := 152) hx hb (a := i) (b := 9) (by omega) (by omega) dX2_dusk_50 (by decide) (fun c_5 => ?_) (fun c_5 => ?_)
            · -- c_5: nI i ≥ 9
              have ei : i = 9 := by omega
              rw [ei] at qxy
              refine lv_iload hx hb dX2_dusk_152 (lv_at hl 5 rfl) ?_
              exact W.iret (v := x) hx hb hr (fun t9 ht9 hW9 => ⟨⟨_, (va_up F 0 0, Rr), rfl, (by simp [m_dusk, up_s, up_n, c_1, c_2, c_3, c_5, ← qxy]), by show va_P _ _ _ t9.heap; rw [ht9]; exact M.1⟩, M.2.2.F ht9⟩) M.2.2.2.2 dX2_dusk_154
            · -- c_5: nI i < 9
              refine lv_iload_n hx hb dX2_dusk_53 rfl (lv_at hl 3 rfl) ?_
              refine lv_iload_n hx hb dX2_dusk_54 rfl (lv_at hl 1 rfl) ?_
              refine lv_aload_n hx hb dX2_dusk_55 rfl (lv_at hl 0 rfl) ?_
              refine mg_8 X M dX2_dusk_56 ?_
              refine lv_iload hx hb dX2_dusk_59 (lv_at hl 7 rfl) ?_
              refine mr_8 X M (f := Rr 8) rfl (j := i) (vp_in_nI (by omega) (by omega)) (nI_clamp (by omega)) dX2_dusk_61 ?_
              refine s_cI (v := m_far p1 (Rr 8 i)) (As := [.int p1, .int (Rr 8 i)]) (rest := [.int p3]) S (metX2_far l p1 (Rr 8 i)) (va_cwS 2 hts (lw_S q1852 q1853 q62 q1854) rfl rfl rfl (by decide +kernel) ⟨Nat.le_of_ble_eq_true rfl, Nat.le_of_ble_eq_true rfl⟩) rfl hl.1 rfl (Nat.le_of_ble_eq_true rfl) dX2_dusk_62 ⟨Nat.zero_le _, Nat.zero_le _⟩ ?_
              refine lv_iload_n hx hb dX2_dusk_65 rfl (lv_at hl 2 rfl) ?_
              refine lv_aload_n hx hb dX2_dusk_66 rfl (lv_at hl 0 rfl) ?_
              refine mg_9 X M dX2_dusk_67 ?_
              refine lv_iload hx hb dX2_dusk_70 (lv_at hl 7 rfl) ?_
              refine mr_9 X M (f := Rr 9) rfl (j := i) (vp_in_nI (by omega) (by omega)) (nI_clamp (by omega)) dX2_dusk_72 ?_
              refine s_cI (v := m_far p2 (Rr 9 i)) (As := [.int p2, .int (Rr 9 i)]) (rest := [.int (m_far p1 (Rr 8 i)), .int p3]) S (metX2_far l p2 (Rr 9 i)) (va_cwS 2 hts (lw_S q1852 q1853 q62 q1854) rfl rfl rfl (by decide +kernel) ⟨Nat.le_of_ble_eq_true rfl, Nat.le_of_ble_eq_true rfl⟩) rfl hl.1 rfl (Nat.le_of_ble_eq_true rfl) dX2_dusk_73 ⟨Nat.zero_le _, Nat.zero_le _⟩ ?_
              refine lv_iadd hx hb dX2_dusk_76 ?_
              refine lv_iload hx hb dX2_dusk_77 (lv_at hl 4 rfl) ?_
              refine lv_imul hx hb dX2_dusk_79 ?_
              refine lv_bipush (v := 100) hx hb dX2_dusk_80 (by decide) ?_
              refine lv_idiv hx hb dX2_dusk_82 (by decide) ?_
              refine lv_iadd hx hb dX2_dusk_83 ?_
              refine lv_istore (lv' := [(8, .int (p3 + ((((m_far p1 (Rr 8 i)) + (m_far p2 (Rr 9 i))) * p4) / 100))), (0, .ref h), (1, .int p1), (2, .int p2), (3, .int p3), (4, .int p4), (5, .int x), (6, .int y), (7, .int (nI i))]) hx hb dX2_dusk_84 hl (by decide) rfl (fun ls hl => ?_)
              refine lv_iload hx hb dX2_dusk_86 (lv_at hl 0 rfl) ?_
              refine lv_aload_n hx hb dX2_dusk_88 rfl (lv_at hl 1 rfl) ?_
              refine mg_5 X M dX2_dusk_89 ?_
              refine lv_iload hx hb dX2_dusk_92 (lv_at hl 8 rfl) ?_
              refine mr_5 X M (f := Rr 5) rfl (j := i) (vp_in_nI (by omega) (by omega)) (nI_clamp (by omega)) dX2_dusk_94 ?_
              refine lb_icmp_ge (tgt := 108) hx hb dX2_dusk_95 (by decide) (fun c_6 c_6' => ?_) (fun c_6 c_6' => ?_)
              · -- c_6: p3 + ((((m_far p1 (Rr 8 i)) + (m_far p2 (Rr 9 i))) * p4) / 100) ≥ Rr 5 i
                refine lv_iload hx hb dX2_dusk_108 (lv_at hl 0 rfl) ?_
                refine lv_istore (lv' := [(8, .int (p3 + ((((m_far p1 (Rr 8 i)) + (m_far p2 (Rr 9 i))) * p4) / 100))), (0, .ref h), (1, .int p1), (2, .int p2), (3, .int p3), (4, .int p4), (5, .int x), (6, .int y), (7, .int (nI i))]) hx hb dX2_dusk_110 hl (by decide) rfl (fun ls hl => ?_)
                refine lv_iload hx hb dX2_dusk_112 (lv_at hl 0 rfl) ?_
                refine lv_aload_n hx hb dX2_dusk_114 rfl (lv_at hl 1 rfl) ?_
                refine mg_6 X M dX2_dusk_115 ?_
                refine lv_iload hx hb dX2_dusk_118 (lv_at hl 8 rfl) ?_
                refine mr_6 X M (f := Rr 6) rfl (j := i) (vp_in_nI (by omega) (by omega)) (nI_clamp (by omega)) dX2_dusk_120 ?_
                refine lb_icmp_ge (tgt := 146) hx hb dX2_dusk_121 (by decide) (fun c_7 c_7' => ?_) (fun c_7 c_7' => ?_)
                · -- c_7: p3 + ((((m_far p1 (Rr 8 i)) + (m_far p2 (Rr 9 i))) * p4) / 100) ≥ Rr 6 i
                  refine lv_iinc (v := nI (i + 1)) (lv' := [(7, .int (nI (i + 1))), (8, .int (p3 + ((((m_far p1 (Rr 8 i)) + (m_far p2 (Rr 9 i))) * p4) / 100))), (0, .ref h), (1, .int p1), (2, .int p2), (3, .int p3), (4, .int p4), (5, .int x), (6, .int y)]) hx hb dX2_dusk_146 hl (k := 8) rfl (mk_inc _) (by decide) rfl (fun ls hl => ?_)
                  refine lv_goto (tgt := 46) hx hb dX2_dusk_149 (by decide) ?_
                  exact L_4ih  (i + 1) x y (by omega) (by first | (rw [itr_s, ← qxy]; done) | (rw [itr_s, ← qxy]; first | (simp [m_duskStep, c_1, c_2, c_3, c_5, c_6, c_6', c_7, c_7', up_s, up_n, nI_1, b2i]; done) | (simp_all [m_duskStep]; done) | grind [m_duskStep])) (by omega) _ _ M ls (lv_sub hl [2, 3, 4, 5, 6, 7, 8, 0] rfl)
                · -- c_7: p3 + ((((m_far p1 (Rr 8 i)) + (m_far p2 (Rr 9 i))) * p4) / 100) < Rr 6 i
                  refine lv_iload hx hb dX2_dusk_124 (lv_at hl 6 rfl) ?_
                  refine lv_ldc (v := (-1000000)) hx hb hown (hts _ q1430) dX2_dusk_126 ?_
                  refine lv_icmp_eq (tgt := 138) hx hb dX2_dusk_128 (by decide) (fun c_8 => ?_) (fun c_8 => ?_)
                  · -- c_8: x = (-1000000)
                    refine lv_iload hx hb dX2_dusk_138 (lv_at hl 8 rfl) ?_
                    refine lv_istore (lv' := [(5, .int (nI i)), (8, .int (p3 + ((((m_far p1 (Rr 8 i)) + (m_far p2 (Rr 9 i))) * p4) / 100))), (0, .ref h), (1, .int p1), (2, .int p2), (3, .int p3), (4, .int p4), (6, .int y), (7, .int (nI i))]) hx hb dX2_dusk_140 hl (by decide) rfl (fun ls hl => ?_)
                    refine lv_iload hx hb dX2_dusk_142 (lv_at hl 1 rfl) ?_
                    refine lv_istore (lv' := [(6, .int (p3 + ((((m_far p1 (Rr 8 i)) + (m_far p2 (Rr 9 i))) * p4) / 100))), (5, .int (nI i)), (8, .int (p3 + ((((m_far p1 (Rr 8 i)) + (m_far p2 (Rr 9 i))) * p4) / 100))), (0, .ref h), (1, .int p1), (2, .int p2), (3, .int p3), (4, .int p4), (7, .int (nI i))]) hx hb dX2_dusk_144 hl (by decide) rfl (fun ls hl => ?_)
                    refine lv_iinc (v := nI (i + 1)) (lv' := [(7, .int (nI (i + 1))), (6, .int (p3 + ((((m_far p1 (Rr 8 i)) + (m_far p2 (Rr 9 i))) * p4) / 100))), (5, .int (nI i)), (8, .int (p3 + ((((m_far p1 (Rr 8 i)) + (m_far p2 (Rr 9 i))) * p4) / 100))), (0, .ref h), (1, .int p1), (2, .int p2), (3, .int p3), (4, .int p4)]) hx hb dX2_dusk_146 hl (k := 8) rfl (mk_inc _) (by decide) rfl (fun ls hl => ?_)
                    refine lv_goto (tgt := 46) hx hb dX2_dusk_149 (by decide) ?_
                    exact L_4ih  (i + 1) (nI i) (p3 + ((((m_far p1 (Rr 8 i)) + (m_far p2 (Rr 9 i))) * p4) / 100)) (by omega) (by first | (rw [itr_s, ← qxy]; done) | (rw [itr_s, ← qxy]; first | (simp [m_duskStep, c_1, c_2, c_3, c_5, c_6, c_6', c_7, c_7', c_8, up_s, up_n, nI_1, b2i]; done) | (simp_all [m_duskStep]; done) | grind [m_duskStep])) (by omega) _ _ M ls (lv_sub hl [4, 5, 6, 7, 8, 2, 1, 0] rfl)
                  · -- c_8: x ≠ (-1000000)
                    refine lv_iload hx hb dX2_dusk_131 (lv_at hl 0 rfl) ?_
                    refine lv_iload hx hb dX2_dusk_133 (lv_at hl 7 rfl) ?_
                    refine lb_icmp_ge (tgt := 146) hx hb dX2_dusk_135 (by decide) (fun c_9 c_9' => ?_) (fun c_9 c_9' => ?_)
                    · -- c_9: p3 + ((((m_far p1 (Rr 8 i)) + (m_far p2 (Rr 9 i))) * p4) / 100) ≥ y
                      refine lv_iinc (v := nI (i + 1)) (lv' := [(7, .int (nI (i + 1))), (8, .int (p3 + ((((m_far p1 (Rr 8 i)) + (m_far p2 (Rr 9 i))) * p4) / 100))), (0, .ref h), (1, .int p1), (2, .int p2), (3, .int p3), (4, .int p4), (5, .int x), (6, .int y)]) hx hb dX2_dusk_146 hl (k := 8) rfl (mk_inc _) (by decide) rfl (fun ls hl => ?_)
                      refine lv_goto (tgt := 46) hx hb dX2_dusk_149 (by decide) ?_
                      exact L_4ih  (i + 1) x y (by omega) (by first | (rw [itr_s, ← qxy]; done) | (rw [itr_s, ← qxy]; first | (simp [m_duskStep, c_1, c_2, c_3, c_5, c_6, c_6', c_7, c_7', c_8, c_9, c_9', up_s, up_n, nI_1, b2i]; done) | (simp_all [m_duskStep]; done) | grind [m_duskStep])) (by omega) _ _ M ls (lv_sub hl [2, 3, 4, 5, 6, 7, 8, 0] rfl)
                    · -- c_9: p3 + ((((m_far p1 (Rr 8 i)) + (m_far p2 (Rr 9 i))) * p4) / 100) < y
                      refine lv_iload hx hb dX2_dusk_138 (lv_at hl 8 rfl) ?_
                      refine lv_istore (lv' := [(5, .int (nI i)), (8, .int (p3 + ((((m_far p1 (Rr 8 i)) + (m_far p2 (Rr 9 i))) * p4) / 100))), (0, .ref h), (1, .int p1), (2, .int p2), (3, .int p3), (4, .int p4), (6, .int y), (7, .int (nI i))]) hx hb dX2_dusk_140 hl (by decide) rfl (fun ls hl => ?_)
                      refine lv_iload hx hb dX2_dusk_142 (lv_at hl 1 rfl) ?_
                      refine lv_istore (lv' := [(6, .int (p3 + ((((m_far p1 (Rr 8 i)) + (m_far p2 (Rr 9 i))) * p4) / 100))), (5, .int (nI i)), (8, .int (p3 + ((((m_far p1 (Rr 8 i)) + (m_far p2 (Rr 9 i))) * p4) / 100))), (0, .ref h), (1, .int p1), (2, .int p2), (3, .int p3), (4, .int p4), (7, .int (nI i))]) hx hb dX2_dusk_144 hl (by decide) rfl (fun ls hl => ?_)
                      refine lv_iinc (v := nI (i + 1)) (lv' := [(7, .int (nI (i + 1))), (6, .int (p3 + ((((m_far p1 (Rr 8 i)) + (m_far p2 (Rr 9 i))) * p4) / 100))), (5, .int (nI i)), (8, .int (p3 + ((((m_far p1 (Rr 8 i)) + (m_far p2 (Rr 9 i))) * p4) / 100))), (0, .ref h), (1, .int p1), (2, .int p2), (3, .int p3), (4, .int p4)]) hx hb dX2_dusk_146 hl (k := 8) rfl (mk_inc _) (by decide) rfl (fun ls hl => ?_)
                      refine lv_goto (tgt := 46) hx hb dX2_dusk_149 (by decide) ?_
                      exact L_4ih  (i + 1) (nI i) (p3 + ((((m_far p1 (Rr 8 i)) + (m_far p2 (Rr 9 i))) * p4) / 100)) (by omega) (by first | (rw [itr_s, ← qxy]; done) | (rw [itr_s, ← qxy]; first | (simp [m_duskStep, c_1, c_2, c_3, c_5, c_6, c_6', c_7, c_7', c_8, c_9, c_9', up_s, up_n, nI_1, b2i]; done) | (simp_all [m_duskStep]; done) | grind [m_duskStep])) (by omega) _ _ M ls (lv_sub hl [4, 5, 6, 7, 8, 2, 1, 0] rfl)
              · -- c_6: p3 + ((((m_far p1 (Rr 8 i)) + (m_far p2 (Rr 9 i))) * p4) / 100) < Rr 5 i
                refine lv_aload_n hx hb dX2_dusk_98 rfl (lv_at hl 1 rfl) ?_
                refine mg_5 X M dX2_dusk_99 ?_
                refine lv_iload hx hb dX2_dusk_102 (lv_at hl 8 rfl) ?_
                refine mr_5 X M (f := Rr 5) rfl (j := i) (vp_in_nI (by omega) (by omega)) (nI_clamp (by omega)) dX2_dusk_104 ?_
                refine lv_goto (tgt := 110) hx hb dX2_dusk_105 (by decide) ?_
                refine lv_istore (lv' := [(8, .int (Rr 5 i)), (0, .ref h), (1, .int p1), (2, .int p2), (3, .int p3), (4, .int p4), (5, .int x), (6, .int y), (7, .int (nI i))]) hx hb dX2_dusk_110 hl (by decide) rfl (fun ls hl => ?_)
                refine lv_iload hx hb dX2_dusk_112 (lv_at hl 0 rfl) ?_
                refine lv_aload_n hx hb dX2_dusk_114 rfl (lv_at hl 1 rfl) ?_
                refine mg_6 X M dX2_dusk_115 ?_
                refine lv_iload hx hb dX2_dusk_118 (lv_at hl 8 rfl) ?_
                refine mr_6 X M (f := Rr 6) rfl (j := i) (vp_in_nI (by omega) (by omega)) (nI_clamp (by omega)) dX2_dusk_120 ?_
                refine lb_icmp_ge (tgt := 146) hx hb dX2_dusk_121 (by decide) (fun c_10 c_10' => ?_) (fun c_10 c_10' => ?_)
                · -- c_10: Rr 5 i ≥ Rr 6 i
                  refine lv_iinc (v := nI (i + 1)) (lv' := [(7, .int (nI (i + 1))), (8, .int (Rr 5 i)), (0, .ref h), (1, .int p1), (2, .int p2), (3, .int p3), (4, .int p4), (5, .int x), (6, .int y)]) hx hb dX2_dusk_146 hl (k := 8) rfl (mk_inc _) (by decide) rfl (fun ls hl => ?_)
                  refine lv_goto (tgt := 46) hx hb dX2_dusk_149 (by decide) ?_
                  exact L_4ih  (i + 1) x y (by omega) (by first | (rw [itr_s, ← qxy]; done) | (rw [itr_s, ← qxy]; first | (simp [m_duskStep, c_1, c_2, c_3, c_5, c_6, c_6', c_10, c_10', up_s, up_n, nI_1, b2i]; done) | (simp_all [m_duskStep]; done) | grind [m_duskStep])) (by omega) _ _ M ls (lv_sub hl [2, 3, 4, 5, 6, 7, 8, 0] rfl)
                · -- c_10: Rr 5 i < Rr 6 i
                  refine lv_iload hx hb dX2_dusk_124 (lv_at hl 6 rfl) ?_
                  refine lv_ldc (v := (-1000000)) hx hb hown (hts _ q1430) dX2_dusk_126 ?_
                  refine lv_icmp_eq (tgt := 138) hx hb dX2_dusk_128 (by decide) (fun c_11 => ?_) (fun c_11 => ?_)
                  · -- c_11: x = (-1000000)
                    refine lv_iload hx hb dX2_dusk_138 (lv_at hl 8 rfl) ?_
                    refine lv_istore (lv' := [(5, .int (nI i)), (8, .int (Rr 5 i)), (0, .ref h), (1, .int p1), (2, .int p2), (3, .int p3), (4, .int p4), (6, .int y), (7, .int (nI i))]) hx hb dX2_dusk_140 hl (by decide) rfl (fun ls hl => ?_)
                    refine lv_iload hx hb dX2_dusk_142 (lv_at hl 1 rfl) ?_
                    refine lv_istore (lv' := [(6, .int (Rr 5 i)), (5, .int (nI i)), (8, .int (Rr 5 i)), (0, .ref h), (1, .int p1), (2, .int p2), (3, .int p3), (4, .int p4), (7, .int (nI i))]) hx hb dX2_dusk_144 hl (by decide) rfl (fun ls hl => ?_)
                    refine lv_iinc (v := nI (i + 1)) (lv' := [(7, .int (nI (i + 1))), (6, .int (Rr 5 i)), (5, .int (nI i)), (8, .int (Rr 5 i)), (0, .ref h), (1, .int p1), (2, .int p2), (3, .int p3), (4, .int p4)]) hx hb dX2_dusk_146 hl (k := 8) rfl (mk_inc _) (by decide) rfl (fun ls hl => ?_)
                    refine lv_goto (tgt := 46) hx hb dX2_dusk_149 (by decide) ?_
                    exact L_4ih  (i + 1) (nI i) (Rr 5 i) (by omega) (by first | (rw [itr_s, ← qxy]; done) | (rw [itr_s, ← qxy]; first | (simp [m_duskStep, c_1, c_2, c_3, c_5, c_6, c_6', c_10, c_10', c_11, up_s, up_n, nI_1, b2i]; done) | (simp_all [m_duskStep]; done) | grind [m_duskStep])) (by omega) _ _ M ls (lv_sub hl [4, 5, 6, 7, 8, 2, 1, 0] rfl)
                  · -- c_11: x ≠ (-1000000)
                    refine lv_iload hx hb dX2_dusk_131 (lv_at hl 0 rfl) ?_
                    refine lv_iload hx hb dX2_dusk_133 (lv_at hl 7 rfl) ?_
                    refine lb_icmp_ge (tgt := 146) hx hb dX2_dusk_135 (by decide) (fun c_12 c_12' => ?_) (fun c_12 c_12' => ?_)
                    · -- c_12: Rr 5 i ≥ y
                      refine lv_iinc (v := nI (i + 1)) (lv' := [(7, .int (nI (i + 1))), (8, .int (Rr 5 i)), (0, .ref h), (1, .int p1), (2, .int p2), (3, .int p3), (4, .int p4), (5, .int x), (6, .int y)]) hx hb dX2_dusk_146 hl (k := 8) rfl (mk_inc _) (by decide) rfl (fun ls hl => ?_)
                      refine lv_goto (tgt := 46) hx hb dX2_dusk_149 (by decide) ?_
                      exact L_4ih  (i + 1) x y (by omega) (by first | (rw [itr_s, ← qxy]; done) | (rw [itr_s, ← qxy]; first | (simp [m_duskStep, c_1, c_2, c_3, c_5, c_6, c_6', c_10, c_10', c_11, c_12, c_12', up_s, up_n, nI_1, b2i]; done) | (simp_all [m_duskStep]; done) | grind [m_duskStep])) (by omega) _ _ M ls (lv_sub hl [2, 3, 4, 5, 6, 7, 8, 0] rfl)
                    · -- c_12: Rr 5 i < y
                      refine lv_iload hx hb dX2_dusk_138 (lv_at hl 8 rfl) ?_
                      refine lv_istore (lv' := [(5, .int (nI i)), (8, .int (Rr 5 i)), (0, .ref h), (1, .int p1), (2, .int p2), (3, .int p3), (4, .int p4), (6, .int y), (7, .int (nI i))]) hx hb dX2_dusk_140 hl (by decide) rfl (fun ls hl => ?_)
                      refine lv_iload hx hb dX2_dusk_142 (lv_at hl 1 rfl) ?_
                      refine lv_istore (lv' := [(6, .int (Rr 5 i)), (5, .int (nI i)), (8, .int (Rr 5 i)), (0, .ref h), (1, .int p1), (2, .int p2), (3, .int p3), (4, .int p4), (7, .int (nI i))]) hx hb dX2_dusk_144 hl (by decide) rfl (fun ls hl => ?_)
                      refine lv_iinc (v := nI (i + 1)) (lv' := [(7, .int (nI (i + 1))), (6, .int (Rr 5 i)), (5, .int (nI i)), (8, .int (Rr 5 i)), (0, .ref h), (1, .int p1), (2, .int p2), (3, .int p3), (4, .int p4)]) hx hb dX2_dusk_146 hl (k := 8) rfl (mk_inc _) (by decide) rfl (fun ls hl => ?_)
                      refine lv_goto (tgt := 46) hx hb dX2_dusk_149 (by decide) ?_
                      exact L_4ih  (i + 1) (nI i) (Rr 5 i) (by omega) (by first | (rw [itr_s, ← qxy]; done) | (rw [itr_s, ← qxy]; first | (simp [m_duskStep, c_1, c_2, c_3, c_5, c_6, c_6', c_10, c_10', c_11, c_12, c_12', up_s, up_n, nI_1, b2i]; done) | (simp_all [m_duskStep]; done) | grind [m_duskStep])) (by omega) _ _ M ls (lv_sub hl [4, 5, 6, 7, 8, 2, 1, 0] rfl)
        exact L_4 ((9 - 0) + 1) 0 (-1000000) 0 (Nat.zero_le _) (by first | rfl | (simp only [itr]; assumption) | (simp [itr, c_1, c_2, c_3, up_s, up_n, nI_1, b2i]; done)) (Nat.lt_succ_self _) _ _ M ls (lv_sub hl [3, 4, 5, 6, 7, 2, 1, 0] rfl)
      · -- c_3: inB 1 60 p4 = false
        refine lv_ldc (v := (-1000001)) hx hb hown (hts _ q1627) dX2_dusk_33 ?_
        exact W.iret (v := (-1000001)) hx hb hr (fun t9 ht9 hW9 => ⟨⟨_, (va_up F 0 0, Rr), rfl, (by first | (simp [m_dusk, c_1, c_2, c_3, up_s, up_n, nI_1, b2i]; done) | (simp_all [m_dusk]; done) | grind [m_dusk]), by show va_P _ _ _ t9.heap; rw [ht9]; exact M.1⟩, M.2.2.F ht9⟩) M.2.2.2.2 dX2_dusk_35

def m_whoS (Rr : Nat → Nat → Int32) (g : Nat) (k : Nat) (set : Int32) : Int32 := if Rr 50 k = nI g ∧ Rr 51 k ≤ Rr 53 g - 2 ∧ Rr 53 g - 10 ≤ Rr 52 k then set ||| ((1 : Int32) <<< (Rr 49 k &&& 31)) else set ||| 0
def m_who (n48 : Int32) (Rr : Nat → Nat → Int32) (g : Nat) : Int32 := itr (m_whoS Rr g) n48.toNatClampNeg 0
set_option maxHeartbeats 4000000 in
set_option maxRecDepth 100000 in
theorem metX2_whoMay (l : Launch) (D : va_G) (cl : List vw_C) (hcl : cl[0]? = some (RX2, TX2, 61)) (h : Nat) (ad : Nat → Nat) (dA : ClassId) (F : Nat → Int32) (Rr : Nat → Nat → Int32) (g1 : Nat) (hg1 : g1 < 8) (h48 : cnB (F 48) 40) : Met l yX2_whoMay (ws_ yX2_whoMay cX2_whoMay 5 (some .int)) ({ frames := 0, cells := 0, slots := 0, locals := 0 } : Room) (va_Pc [.ref h, .int (nI g1)] (mPre D cl h ad dA F Rr)) (vp_Si (fun r => r = m_who (F 48) Rr g1)) 0 0 (fun _ => False) := by
  refine Met.ofW (cc := cX2_whoMay) (maxL := 5) (ret := (some .int)) (by decide) rfl ?_
  intro p e s m args below meth c s₁ B hml hv
  obtain ⟨rfl, hK, hP, hD⟩ := hv
  have hx := B.exec
  have hb := B.bytes
  have hr := B.returns
  have hts := atoms_spec (ws := (ws_ yX2_whoMay cX2_whoMay 5 (some .int))) B.pre
  have hts : ∀ w ∈ lw_all, w.before _ s = true := fun w h => hts w (List.mem_cons_of_mem _ h)
  have hown : s.vm.findClass RX2 = some m.cls := findClass_of_methodNamed B.named
  have hlocks := B.notSynchronized
  have S : CallFix p m c cX2_whoMay 5 s ([.ref h, .int (nI g1)] : List Value).toArray lw_all RX2 := ⟨hx, hb, hml, hown, hts⟩
  have X : mX p s m ([.ref h, .int (nI g1)] : List Value).toArray c cX2_whoMay 5 D cl dA := ⟨hx, hb, hml, hown, hts, hK, hcl⟩
  have M : mM D cl h ad dA (mN h ad) s F Rr s.heap [] := ⟨hP, mW_self hD, va_S.rf⟩
  have hl := lv_entry ([.ref h, .int (nI g1)]) (n := 5) (Nat.le_of_ble_eq_true rfl)
  rw [lg_entry_eq]
  generalize (lg_sl ([.ref h, .int (nI g1)]) ++ List.replicate (5 - (lg_sl ([.ref h, .int (nI g1)])).length) Slot.unset).toArray = ls at hl ⊢
  have hl : lv_has ls 5 [(0, .ref h), (1, .int (nI g1))] := hl
  obtain ⟨n48, hn48, en48⟩ := cnB_ex h48 (n := 40) rfl
  have em48 : (F 48).toNatClampNeg = n48 := by rw [en48]; exact nI_clamp (by omega)
  have ec48 : (nI n48).toNatClampNeg = n48 := nI_clamp (by omega)
  refine lv_iconst (v := 0) hx hb dX2_whoMay_0 (by decide) ?_
  refine lv_istore_n (lv' := [(2, .int 0), (0, .ref h), (1, .int (nI g1))]) hx hb dX2_whoMay_1 rfl hl (by decide) rfl (fun ls hl => ?_)
  refine lv_iconst (v := 0) hx hb dX2_whoMay_2 (by decide) ?_
  refine lv_istore_n (lv' := [(3, .int 0), (2, .int 0), (0, .ref h), (1, .int (nI g1))]) hx hb dX2_whoMay_3 rfl hl (by decide) rfl (fun ls hl => ?_)
  have L_1 : ∀ (fuL_1 : Nat) (i : Nat) (x : Int32), (i ≤ n48) → (x = itr (m_whoS Rr g1) i 0) → n48 - i < fuL_1 → ∀ ls, lv_has ls 5 [(0, .ref h), (1, .int (nI g1)), (2, .int x), (3, .int (nI i))] → W p l e ({ frames := 0, cells := 0, slots := 0, locals := 0 } : Room) s m ([.ref h, .int (nI g1)] : List Value).toArray below meth c s.heap [] 0 0 (MQ below (vp_Si (fun r => r = m_who (F 48) Rr g1)) ([.ref h, .int (nI g1)] : List Value).toArray s 0 0 (fun _ => False)) (F0 m 4 ls []) := by
    intro fuL_1
    induction fuL_1 with
    | zero => intro i x hi qx hfuL_1; exact absurd hfuL_1 (Nat.not_lt_zero _)
    | succ fuL_1 L_1ih =>
      intro i x hi qx hfuL_1 ls hl
      refine lv_iload_n hx hb dX2_whoMay_4 rfl (lv_at hl 3 rfl) ?_
      refine lv_aload_n hx hb dX2_whoMay_5 rfl (lv_at hl 0 rfl) ?_
      refine mg_48 X M (v := F 48) rfl dX2_whoMay_6 ?_
      refine lv_asi (y := nI n48) en48 ?_
      refine ln_icmp_ge (tgt := 90) hx hb (a := i) (b := n48) (by omega) (by omega) dX2_whoMay_9 (by decide) (fun c_2 => ?_) (fun c_2 => ?_)
      · -- c_2: nI i ≥ nI n48
        have ei : i = n48 := by omega
        rw [ei] at qx
        refine lv_iload_n hx hb dX2_whoMay_90 rfl (lv_at hl 2 rfl) ?_
        exact W.iret (v := x) hx hb hr (fun t9 ht9 hW9 => ⟨_, rfl, (by unfold m_who; rw [em48]; exact qx), ht9⟩) (fun _ h9 => by cases h9) dX2_whoMay_91
      · -- c_2: nI i < nI n48
        refine lv_aload_n hx hb dX2_whoMay_12 rfl (lv_at hl 0 rfl) ?_
        refine mg_50 X M dX2_whoMay_13 ?_
        refine lv_iload_n hx hb dX2_whoMay_16 rfl (lv_at hl 3 rfl) ?_
        refine mr_50 X M (f := Rr 50) rfl (j := i) (vp_in_nI (by omega) (by omega)) (nI_clamp (by omega)) dX2_whoMay_17 ?_
        refine lv_iload_n hx hb dX2_whoMay_18 rfl (lv_at hl 1 rfl) ?_
        refine lv_icmp_ne (tgt := 61) hx hb dX2_whoMay_19 (by decide) (fun c_3 => ?_) (fun c_3 => ?_)
        · -- c_3: Rr 50 i ≠ nI g1
          refine lv_iconst (v := 0) hx hb dX2_whoMay_61 (by decide) ?_
          refine lv_istore (lv' := [(4, .int 0), (0, .ref h), (1, .int (nI g1)), (2, .int x), (3, .int (nI i))]) hx hb dX2_whoMay_62 hl (by decide) rfl (fun ls hl => ?_)
          refine lv_iload_n hx hb dX2_whoMay_64 rfl (lv_at hl 3 rfl) ?_
          refine lv_iload hx hb dX2_whoMay_65 (lv_at hl 0 rfl) ?_
          refine lv_if_eq (tgt := 81) hx hb dX2_whoMay_67 (by decide) (fun c_4 => ?_) (fun c_4 => absurd c_4 (by decide))
          refine lv_iconst (v := 0) hx hb dX2_whoMay_81 (by decide) ?_
          refine lv_ior hx hb dX2_whoMay_82 ?_
          refine lv_istore_n (lv' := [(2, .int (x ||| 0)), (4, .int 0), (0, .ref h), (1, .int (nI g1)), (3, .int (nI i))]) hx hb dX2_whoMay_83 rfl hl (by decide) rfl (fun ls hl => ?_)
          refine lv_iinc (v := nI (i + 1)) (lv' := [(3, .int (nI (i + 1))), (2, .int (x ||| 0)), (4, .int 0), (0, .ref h), (1, .int (nI g1))]) hx hb dX2_whoMay_84 hl (k := 4) rfl (mk_inc _) (by decide) rfl (fun ls hl => ?_)
          refine lv_goto (tgt := 4) hx hb dX2_whoMay_87 (by decide) ?_
          exact L_1ih  (i + 1) (x ||| 0) (by omega) (by first | (rw [itr_s, ← qx]; done) | (rw [itr_s, ← qx]; first | (simp [m_whoS, em48, c_2, c_3, up_s, up_n, nI_1, b2i]; done) | (simp_all [m_whoS]; done) | grind [m_whoS])) (by omega) ls (lv_sub hl [3, 4, 1, 0] rfl)
        · -- c_3: Rr 50 i = nI g1
          refine lv_aload_n hx hb dX2_whoMay_22 rfl (lv_at hl 0 rfl) ?_
          refine mg_51 X M dX2_whoMay_23 ?_
          refine lv_iload_n hx hb dX2_whoMay_26 rfl (lv_at hl 3 rfl) ?_
          refine mr_51 X M (f := Rr 51) rfl (j := i) (vp_in_nI (by omega) (by omega)) (nI_clamp (by omega)) dX2_whoMay_27 ?_
          refine lv_aload_n hx hb dX2_whoMay_28 rfl (lv_at hl 0 rfl) ?_
          refine mg_53 X M dX2_whoMay_29 ?_
          refine lv_iload_n hx hb dX2_whoMay_32 rfl (lv_at hl 1 rfl) ?_
          refine mr_53 X M (f := Rr 53) rfl (j := g1) (vp_in_nI (by omega) (by omega)) (nI_clamp (by omega)) dX2_whoMay_33 ?_
          refine lv_iconst (v := 2) hx hb dX2_whoMay_34 (by decide) ?_
          refine lv_isub hx hb dX2_whoMay_35 ?_
          refine lb_icmp_gt (tgt := 61) hx hb dX2_whoMay_36 (by decide) (fun c_5 c_5' => ?_) (fun c_5 c_5' => ?_)
          · -- c_5: Rr 51 i > (Rr 53 g1) - 2
            refine lv_iconst (v := 0) hx hb dX2_whoMay_61 (by decide) ?_
            refine lv_istore (lv' := [(4, .int 0), (0, .ref h), (1, .int (nI g1)), (2, .int x), (3, .int (nI i))]) hx hb dX2_whoMay_62 hl (by decide) rfl (fun ls hl => ?_)
            refine lv_iload_n hx hb dX2_whoMay_64 rfl (lv_at hl 3 rfl) ?_
            refine lv_iload hx hb dX2_whoMay_65 (lv_at hl 0 rfl) ?_
            refine lv_if_eq (tgt := 81) hx hb dX2_whoMay_67 (by decide) (fun c_6 => ?_) (fun c_6 => absurd c_6 (by decide))
            refine lv_iconst (v := 0) hx hb dX2_whoMay_81 (by decide) ?_
            refine lv_ior hx hb dX2_whoMay_82 ?_
            refine lv_istore_n (lv' := [(2, .int (x ||| 0)), (4, .int 0), (0, .ref h), (1, .int (nI g1)), (3, .int (nI i))]) hx hb dX2_whoMay_83 rfl hl (by decide) rfl (fun ls hl => ?_)
            refine lv_iinc (v := nI (i + 1)) (lv' := [(3, .int (nI (i + 1))), (2, .int (x ||| 0)), (4, .int 0), (0, .ref h), (1, .int (nI g1))]) hx hb dX2_whoMay_84 hl (k := 4) rfl (mk_inc _) (by decide) rfl (fun ls hl => ?_)
            refine lv_goto (tgt := 4) hx hb dX2_whoMay_87 (by decide) ?_
            exact L_1ih  (i + 1) (x ||| 0) (by omega) (by first | (rw [itr_s, ← qx]; done) | (rw [itr_s, ← qx]; first | (simp [m_whoS, em48, c_2, c_3, c_5, c_5', up_s, up_n, nI_1, b2i]; done) | (simp_all [m_whoS]; done) | grind [m_whoS])) (by omega) ls (lv_sub hl [3, 4, 1, 0] rfl)
          · -- c_5: Rr 51 i ≤ (Rr 53 g1) - 2
            refine lv_aload_n hx hb dX2_whoMay_39 rfl (lv_at hl 0 rfl) ?_
            refine mg_52 X M dX2_whoMay_40 ?_
            refine lv_iload_n hx hb dX2_whoMay_43 rfl (lv_at hl 3 rfl) ?_
            refine mr_52 X M (f := Rr 52) rfl (j := i) (vp_in_nI (by omega) (by omega)) (nI_clamp (by omega)) dX2_whoMay_44 ?_
            refine lv_aload_n hx hb dX2_whoMay_45 rfl (lv_at hl 0 rfl) ?_
            refine mg_53 X M dX2_whoMay_46 ?_
            refine lv_iload_n hx hb dX2_whoMay_49 rfl (lv_at hl 1 rfl) ?_
            refine mr_53 X M (f := Rr 53) rfl (j := g1) (vp_in_nI (by omega) (by omega)) (nI_clamp (by omega)) dX2_whoMay_50 ?_
            refine lv_bipush (v := 10) hx hb dX2_whoMay_51 (by decide) ?_
            refine lv_isub hx hb dX2_whoMay_53 ?_
            refine lb_icmp_lt (tgt := 61) hx hb dX2_whoMay_54 (by decide) (fun c_7 c_7' => ?_) (fun c_7 c_7' => ?_)
            · -- c_7: Rr 52 i < (Rr 53 g1) - 10
              refine lv_iconst (v := 0) hx hb dX2_whoMay_61 (by decide) ?_
              refine lv_istore (lv' := [(4, .int 0), (0, .ref h), (1, .int (nI g1)), (2, .int x), (3, .int (nI i))]) hx hb dX2_whoMay_62 hl (by decide) rfl (fun ls hl => ?_)
              refine lv_iload_n hx hb dX2_whoMay_64 rfl (lv_at hl 3 rfl) ?_
              refine lv_iload hx hb dX2_whoMay_65 (lv_at hl 0 rfl) ?_
              refine lv_if_eq (tgt := 81) hx hb dX2_whoMay_67 (by decide) (fun c_8 => ?_) (fun c_8 => absurd c_8 (by decide))
              refine lv_iconst (v := 0) hx hb dX2_whoMay_81 (by decide) ?_
              refine lv_ior hx hb dX2_whoMay_82 ?_
              refine lv_istore_n (lv' := [(2, .int (x ||| 0)), (4, .int 0), (0, .ref h), (1, .int (nI g1)), (3, .int (nI i))]) hx hb dX2_whoMay_83 rfl hl (by decide) rfl (fun ls hl => ?_)
              refine lv_iinc (v := nI (i + 1)) (lv' := [(3, .int (nI (i + 1))), (2, .int (x ||| 0)), (4, .int 0), (0, .ref h), (1, .int (nI g1))]) hx hb dX2_whoMay_84 hl (k := 4) rfl (mk_inc _) (by decide) rfl (fun ls hl => ?_)
              refine lv_goto (tgt := 4) hx hb dX2_whoMay_87 (by decide) ?_
              exact L_1ih  (i + 1) (x ||| 0) (by omega) (by first | (rw [itr_s, ← qx]; done) | (rw [itr_s, ← qx]; first | (simp [m_whoS, em48, c_2, c_3, c_5, c_5', c_7, c_7', up_s, up_n, nI_1, b2i]; done) | (simp_all [m_whoS]; done) | grind [m_whoS])) (by omega) ls (lv_sub hl [3, 4, 1, 0] rfl)
            · -- c_7: Rr 52 i ≥ (Rr 53 g1) - 10
              refine lv_iconst (v := 1) hx hb dX2_whoMay_57 (by decide) ?_
              refine lv_goto (tgt := 62) hx hb dX2_whoMay_58 (by decide) ?_
              refine lv_istore (lv' := [(4, .int 1), (0, .ref h), (1, .int (nI g1)), (2, .int x), (3, .int (nI i))]) hx hb dX2_whoMay_62 hl (by decide) rfl (fun ls hl => ?_)
              refine lv_iload_n hx hb dX2_whoMay_64 rfl (lv_at hl 3 rfl) ?_
              refine lv_iload hx hb dX2_whoMay_65 (lv_at hl 0 rfl) ?_
              refine lv_if_eq (tgt := 81) hx hb dX2_whoMay_67 (by decide) (fun c_9 => absurd c_9 (by decide)) (fun c_9 => ?_)
              refine lv_iconst (v := 1) hx hb dX2_whoMay_70 (by decide) ?_
              refine lv_aload_n hx hb dX2_whoMay_71 rfl (lv_at hl 1 rfl) ?_
              refine mg_49 X M dX2_whoMay_72 ?_
              refine lv_iload_n hx hb dX2_whoMay_75 rfl (lv_at hl 4 rfl) ?_
              refine mr_49 X M (f := Rr 49) rfl (j := i) (vp_in_nI (by omega) (by omega)) (nI_clamp (by omega)) dX2_whoMay_76 ?_
              refine lv_ishl hx hb dX2_whoMay_77 ?_
              refine lv_goto (tgt := 82) hx hb dX2_whoMay_78 (by decide) ?_
              refine lv_ior hx hb dX2_whoMay_82 ?_
              refine lv_istore_n (lv' := [(2, .int (x ||| (1 <<< ((Rr 49 i) &&& 31)))), (4, .int 1), (0, .ref h), (1, .int (nI g1)), (3, .int (nI i))]) hx hb dX2_whoMay_83 rfl hl (by decide) rfl (fun ls hl => ?_)
              refine lv_iinc (v := nI (i + 1)) (lv' := [(3, .int (nI (i + 1))), (2, .int (x ||| (1 <<< ((Rr 49 i) &&& 31)))), (4, .int 1), (0, .ref h), (1, .int (nI g1))]) hx hb dX2_whoMay_84 hl (k := 4) rfl (mk_inc _) (by decide) rfl (fun ls hl => ?_)
              refine lv_goto (tgt := 4) hx hb dX2_whoMay_87 (by decide) ?_
              exact L_1ih  (i + 1) (x ||| (1 <<< ((Rr 49 i) &&& 31))) (by omega) (by first | (rw [itr_s, ← qx]; done) | (rw [itr_s, ← qx]; first | (simp [m_whoS, em48, c_2, c_3, c_5, c_5', c_7, c_7', up_s, up_n, nI_1, b2i]; done) | (simp_all [m_whoS]; done) | grind [m_whoS])) (by omega) ls (lv_sub hl [3, 4, 1, 0] rfl)
  exact L_1 ((n48 - 0) + 1) 0 0 (Nat.zero_le _) (by first | rfl | (simp only [itr]; assumption) | (simp [itr, em48, up_s, up_n, nI_1, b2i]; done)) (Nat.lt_succ_self _) ls (lv_sub hl [2, 3, 1, 0] rfl)

def m_any (n48 : Int32) (Rr : Nat → Nat → Int32) : Int32 := itr (fun k a => a ||| (if Rr 53 k = (-1000000) then 0 else m_who n48 Rr k)) 8 0
def m_allS (n48 : Int32) (Rr : Nat → Nat → Int32) (set : Int32) (k : Nat) (z : Bool) : Bool := z && (decide (Rr 53 k = (-1000000)) || !decide (m_who n48 Rr k &&& set = 0))
def m_isAll (n48 : Int32) (Rr : Nat → Nat → Int32) (set : Int32) : Bool := itr (m_allS n48 Rr set) 8 true
def m_brS (n48 : Int32) (Rr : Nat → Nat → Int32) (k : Nat) (b : Int32 × Int32) : Int32 × Int32 := if b.1 = (-1000000) ∨ m_bits (nI k) ≤ m_bits b.1 then (if m_isAll n48 Rr (nI k) = true then (if b.1 = (-1000000) ∨ m_bits (nI k) < m_bits b.1 then (nI k, nI k) else (b.1, b.2 &&& nI k)) else b) else b
def m_brought (F : Nat → Int32) (Rr : Nat → Nat → Int32) (what : Int32) : Int32 × mST := if inB 0 2 what = false then ((-1000001), F, Rr) else if what = 2 then (m_any (F 48) Rr, F, Rr) else if what = 0 then ((itr (m_brS (F 48) Rr) 4096 ((-1000000), 0)).1, F, Rr) else ((itr (m_brS (F 48) Rr) 4096 ((-1000000), 0)).2, F, Rr)
set_option maxHeartbeats 4000000 in
set_option maxRecDepth 100000 in
theorem metX2_brought (l : Launch) (D : va_G) (cl : List vw_C) (hcl : cl[0]? = some (RX2, TX2, 61)) (h : Nat) (ad : Nat → Nat) (dA : ClassId) (F : Nat → Int32) (Rr : Nat → Nat → Int32) (p1 : Int32) (h48 : cnB (F 48) 40) : Met l yX2_brought (ws_ yX2_brought cX2_brought 8 (some .int)) ({ frames := 1, cells := 0, slots := 0, locals := 25 } : Room) (va_Pc [.ref h, .int p1] (mPre D cl h ad dA F Rr)) (va_Qi (fun r u => (r, u) = m_brought (va_up F 0 0) Rr p1) (mB D cl h ad dA) (mN h ad)) 0 0 (mN h ad) := by
  refine Met.ofW (cc := cX2_brought) (maxL := 8) (ret := (some .int)) (by decide) rfl ?_
  intro p e s m args below meth c s₁ B hml hv
  obtain ⟨rfl, hK, hP, hD⟩ := hv
  have hx := B.exec
  have hb := B.bytes
  have hr := B.returns
  have hts := atoms_spec (ws := (ws_ yX2_brought cX2_brought 8 (some .int))) B.pre
  have hts : ∀ w ∈ lw_all, w.before _ s = true := fun w h => hts w (List.mem_cons_of_mem _ h)
  have hown : s.vm.findClass RX2 = some m.cls := findClass_of_methodNamed B.named
  have hlocks := B.notSynchronized
  have S : CallFix p m c cX2_brought 8 s ([.ref h, .int p1] : List Value).toArray lw_all RX2 := ⟨hx, hb, hml, hown, hts⟩
  have X : mX p s m ([.ref h, .int p1] : List Value).toArray c cX2_brought 8 D cl dA := ⟨hx, hb, hml, hown, hts, hK, hcl⟩
  have M : mM D cl h ad dA (mN h ad) s F Rr s.heap [] := ⟨hP, mW_self hD, va_S.rf⟩
  have hl := lv_entry ([.ref h, .int p1]) (n := 8) (Nat.le_of_ble_eq_true rfl)
  rw [lg_entry_eq]
  generalize (lg_sl ([.ref h, .int p1]) ++ List.replicate (8 - (lg_sl ([.ref h, .int p1])).length) Slot.unset).toArray = ls at hl ⊢
  have hl : lv_has ls 8 [(0, .ref h), (1, .int p1)] := hl
  refine lv_aload_n hx hb dX2_brought_0 rfl (lv_at hl 0 rfl) ?_
  refine lv_iconst (v := 0) hx hb dX2_brought_1 (by decide) ?_
  refine mp_0 X M dX2_brought_2 (fun H locs M => ?_)
  refine lv_iload_n hx hb dX2_brought_5 rfl (lv_at hl 1 rfl) ?_
  refine lv_i2l (v := p1.toInt64) hx hb dX2_brought_6 rfl ?_
  refine lv_lconst (v := 0) hx hb dX2_brought_7 (by decide) ?_
  refine lv_ldc2 (v := 2) hx hb hown (hts _ q1626) dX2_brought_8 ?_
  refine s_cI (v := b2i (inB 0 2 p1)) (As := [.long p1.toInt64, .long 0, .long 2]) (rest := []) S (metX2_inI l p1 0 2 p1.toInt64 0 2 rfl rfl rfl) (va_cwS 3 hts (lw_S q1623 q1624 q62 q1625) rfl rfl rfl (by decide +kernel) ⟨Nat.le_of_ble_eq_true rfl, Nat.le_of_ble_eq_true rfl⟩) rfl hl.1 rfl (Nat.le_of_ble_eq_true rfl) dX2_brought_11 ⟨Nat.zero_le _, Nat.zero_le _⟩ ?_
  refine lz_if_ne (tgt := 20) hx hb dX2_brought_14 (by decide) (fun c_1 => ?_) (fun c_1 => ?_)
  · -- c_1: inB 0 2 p1 = true
    refine lv_iconst (v := 0) hx hb dX2_brought_20 (by decide) ?_
    refine lv_istore_n (lv' := [(2, .int 0), (0, .ref h), (1, .int p1)]) hx hb dX2_brought_21 rfl hl (by decide) rfl (fun ls hl => ?_)
    refine lv_iconst (v := 0) hx hb dX2_brought_22 (by decide) ?_
    refine lv_istore_n (lv' := [(3, .int 0), (2, .int 0), (0, .ref h), (1, .int p1)]) hx hb dX2_brought_23 rfl hl (by decide) rfl (fun ls hl => ?_)
    have L_2 : ∀ (fuL_2 : Nat) (i : Nat) (a : Int32), (i ≤ 8) → (a = itr (fun k a => a ||| (if Rr 53 k = (-1000000) then 0 else m_who (F 48) Rr k)) i 0) → 8 - i < fuL_2 → ∀ (H : Heap) (locs : List Loc), mM D cl h ad dA (mN h ad) s (va_up F 0 0) Rr H locs → ∀ ls, lv_has ls 8 [(0, .ref h), (1, .int p1), (2, .int a), (3, .int (nI i))] → W p l e ({ frames := 1, cells := 0, slots := 0, locals := 25 } : Room) s m ([.ref h, .int p1] : List Value).toArray below meth c H locs 0 0 (MQ below (va_Qi (fun r u => (r, u) = m_brought (va_up F 0 0) Rr p1) (mB D cl h ad dA) (mN h ad)) ([.ref h, .int p1] : List Value).toArray s 0 0 (mN h ad)) (F0 m 24 ls []) := by
      intro fuL_2
      induction fuL_2 with
      | zero => intro i a hi qa hfuL_2; exact absurd hfuL_2 (Nat.not_lt_zero _)
      | succ fuL_2 L_2ih =>
        intro i a hi qa hfuL_2 H locs M ls hl
        refine lv_iload_n hx hb dX2_brought_24 rfl (lv_at hl 3 rfl) ?_
        refine lv_bipush (v := 8) hx hb dX2_brought_25 (by decide) ?_
        refine ln_icmp_ge (tgt := 59) hx hb (a := i) (b := 8) (by omega) (by omega) dX2_brought_27 (by decide) (fun c_3 => ?_) (fun c_3 => ?_)
        · -- c_3: nI i ≥ 8
          have ei : i = 8 := by omega
          rw [ei] at qa
          refine lv_iload_n hx hb dX2_brought_59 rfl (lv_at hl 1 rfl) ?_
          refine lv_iconst (v := 2) hx hb dX2_brought_60 (by decide) ?_
          refine lv_icmp_ne (tgt := 66) hx hb dX2_brought_61 (by decide) (fun c_4 => ?_) (fun c_4 => ?_)
          · -- c_4: p1 ≠ 2
            refine lv_ldc (v := (-1000000)) hx hb hown (hts _ q1430) dX2_brought_66 ?_
            refine lv_istore_n (lv' := [(3, .int (-1000000)), (0, .ref h), (1, .int p1), (2, .int a)]) hx hb dX2_brought_68 rfl hl (by decide) rfl (fun ls hl => ?_)
            refine lv_iconst (v := 0) hx hb dX2_brought_69 (by decide) ?_
            refine lv_istore (lv' := [(4, .int 0), (3, .int (-1000000)), (0, .ref h), (1, .int p1), (2, .int a)]) hx hb dX2_brought_70 hl (by decide) rfl (fun ls hl => ?_)
            refine lv_iconst (v := 0) hx hb dX2_brought_72 (by decide) ?_
            refine lv_istore (lv' := [(5, .int 0), (4, .int 0), (3, .int (-1000000)), (0, .ref h), (1, .int p1), (2, .int a)]) hx hb dX2_brought_73 hl (by decide) rfl (fun ls hl => ?_)
            have L_5 : ∀ (fuL_5 : Nat) (j : Nat) (x : Int32) (y : Int32), (j ≤ 4096) → ((x, y) = itr (m_brS (F 48) Rr) j (-1000000, 0)) → 4096 - j < fuL_5 → ∀ (H : Heap) (locs : List Loc), mM D cl h ad dA (mN h ad) s (va_up F 0 0) Rr H locs → ∀ ls, lv_has ls 8 [(0, .ref h), (1, .int p1), (2, .int a), (3, .int x), (4, .int y), (5, .int (nI j))] → W p l e ({ frames := 1, cells := 0, slots := 0, locals := 25 } : Room) s m ([.ref h, .int p1] : List Value).toArray below meth c H locs 0 0 (MQ below (va_Qi (fun r u => (r, u) = m_brought (va_up F 0 0) Rr p1) (mB D cl h ad dA) (mN h ad)) ([.ref h, .int p1] : List Value).toArray s 0 0 (mN h ad)) (F0 m 75 ls []) := by
              intro fuL_5
              induction fuL_5 with
              | zero => intro j x y hj qxy hfuL_5; exact absurd hfuL_5 (Nat.not_lt_zero _)
              | succ fuL_5 L_5ih =>
                intro j x y hj qxy hfuL_5 H locs M ls hl
                refine lv_iload hx hb dX2_brought_75 (lv_at hl 5 rfl) ?_
                refine lv_sipush (v := 4096) hx hb dX2_brought_77 (by decide) ?_
                refine ln_icmp_ge (tgt := 207) hx hb (a := j) (b := 4096) (by omega) (by omega) dX2_brought_80 (by decide) (fun c_6 => ?_) (fun c_6 => ?_)
                · -- c_6: nI j ≥ 4096
                  have ej : j = 4096 := by omega
                  rw [ej] at qxy
                  refine lv_iload_n hx hb dX2_brought_207 rfl (lv_at hl 1 rfl) ?_
                  refine lv_if_ne (tgt := 215) hx hb dX2_brought_208 (by decide) (fun c_7 => ?_) (fun c_7 => ?_)
                  · -- c_7: p1 ≠ 0
                    refine lv_iload hx hb dX2_brought_215 (lv_at hl 4 rfl) ?_
                    exact W.iret (v := y) hx hb hr (fun t9 ht9 hW9 => ⟨⟨_, (va_up F 0 0, Rr), rfl, (by simp [m_brought, up_s, up_n, c_1, c_3, ← qa, c_4, c_6, ← qxy, c_7, show inB 0 2 0 = true from rfl]), by show va_P _ _ _ t9.heap; rw [ht9]; exact M.1⟩, M.2.2.F ht9⟩) M.2.2.2.2 dX2_brought_217
                  · -- c_7: p1 = 0
                    refine lv_iload_n hx hb dX2_brought_211 rfl (lv_at hl 3 rfl) ?_
                    refine lv_goto (tgt := 217) hx hb dX2_brought_212 (by decide) ?_
                    exact W.iret (v := x) hx hb hr (fun t9 ht9 hW9 => ⟨⟨_, (va_up F 0 0, Rr), rfl, (by simp [m_brought, up_s, up_n, c_1, c_3, ← qa, c_4, c_6, ← qxy, c_7, show inB 0 2 0 = true from rfl]), by show va_P _ _ _ t9.heap; rw [ht9]; exact M.1⟩, M.2.2.F ht9⟩) M.2.2.2.2 dX2_brought_217
                · -- c_6: nI j < 4096
                  refine lv_iload_n hx hb dX2_brought_83 rfl (lv_at hl 3 rfl) ?_
                  refine lv_ldc (v := (-1000000)) hx hb hown (hts _ q1430) dX2_brought_84 ?_
                  refine lv_icmp_eq (tgt := 101) hx hb dX2_brought_86 (by decide) (fun c_8 => ?_) (fun c_8 => ?_)
                  · -- c_8: x = (-1000000)
                    refine lv_iconst (v := 1) hx hb dX2_brought_101 (by decide) ?_
                    refine lv_istore (lv' := [(6, .int 1), (0, .ref h), (1, .int p1), (2, .int a), (3, .int x), (4, .int y), (5, .int (nI j))]) hx hb dX2_brought_102 hl (by decide) rfl (fun ls hl => ?_)
                    refine lv_iconst (v := 0) hx hb dX2_brought_104 (by decide) ?_
                    refine lv_istore (lv' := [(7, .int 0), (6, .int 1), (0, .ref h), (1, .int p1), (2, .int a), (3, .int x), (4, .int y), (5, .int (nI j))]) hx hb dX2_brought_105 hl (by decide) rfl (fun ls hl => ?_)
                    have L_9 : ∀ (fuL_9 : Nat) (k : Nat) (z : Bool), (k ≤ 8) → (z = itr (m_allS (F 48) Rr (nI j)) k true) → 8 - k < fuL_9 → ∀ (H : Heap) (locs : List Loc), mM D cl h ad dA (mN h ad) s (va_up F 0 0) Rr H locs → ∀ ls, lv_has ls 8 [(0, .ref h), (1, .int p1), (2, .int a), (3, .int x), (4, .int y), (5, .int (nI j)), (6, .int (b2i z)), (7, .int (nI k))] → W p l e ({ frames := 1, cells := 0, slots := 0, locals := 25 } : Room) s m ([.ref h, .int p1] : List Value).toArray below meth c H locs 0 0 (MQ below (va_Qi (fun r u => (r, u) = m_brought (va_up F 0 0) Rr p1) (mB D cl h ad dA) (mN h ad)) ([.ref h, .int p1] : List Value).toArray s 0 0 (mN h ad)) (F0 m 107 ls []) := by
                      intro fuL_9
                      induction fuL_9 with
                      | zero => intro k z hk qz hfuL_9; exact absurd hfuL_9 (Nat.not_lt_zero _)
                      | succ fuL_9 L_9ih =>
                        intro k z hk qz hfuL_9 H locs M ls hl
                        refine lv_iload hx hb dX2_brought_107 (lv_at hl 7 rfl) ?_
                        refine lv_bipush (v := 8) hx hb dX2_brought_109 (by decide) ?_
                        refine ln_icmp_ge (tgt := 156) hx hb (a := k) (b := 8) (by omega) (by omega) dX2_brought_111 (by decide) (fun c_10 => ?_) (fun c_10 => ?_)
                        · -- c_10: nI k ≥ 8
                          have ek : k = 8 := by omega
                          rw [ek] at qz
                          refine lv_iload hx hb dX2_brought_156 (lv_at hl 6 rfl) ?_
                          refine lz_if_eq (tgt := 189) hx hb dX2_brought_158 (by decide) (fun c_11 => ?_) (fun c_11 => ?_)
                          · -- c_11: z = false
                            refine lv_iload hx hb dX2_brought_189 (lv_at hl 6 rfl) ?_
                            refine lz_if_eq (tgt := 201) hx hb dX2_brought_191 (by decide) (fun c_12 => ?_) (fun c_12 => absurd (c_11.symm.trans c_12) (by decide))
                            refine lv_iinc (v := nI (j + 1)) (lv' := [(5, .int (nI (j + 1))), (0, .ref h), (1, .int p1), (2, .int a), (3, .int x), (4, .int y), (6, .int (b2i z)), (7, .int (nI k))]) hx hb dX2_brought_201 hl (k := 5) rfl (mk_inc _) (by decide) rfl (fun ls hl => ?_)
                            refine lv_goto (tgt := 75) hx hb dX2_brought_204 (by decide) ?_
                            exact L_5ih  (j + 1) x y (by omega) (by first | (rw [itr_s, ← qxy]; done) | (rw [itr_s, ← qxy]; first | (simp [m_brS, m_isAll, c_1, c_3, ← qa, c_4, c_6, c_8, c_10, ← qz, c_11, up_s, up_n, nI_1, b2i]; done) | (simp_all [m_brS, m_isAll]; done) | grind [m_brS, m_isAll])) (by omega) _ _ M ls (lv_sub hl [1, 2, 3, 4, 5, 0] rfl)
                          · -- c_11: z = true
                            refine lv_iload_n hx hb dX2_brought_161 rfl (lv_at hl 3 rfl) ?_
                            refine lv_ldc (v := (-1000000)) hx hb hown (hts _ q1430) dX2_brought_162 ?_
                            refine lv_icmp_eq (tgt := 179) hx hb dX2_brought_164 (by decide) (fun c_13 => ?_) (fun c_13 => absurd c_8 c_13)
                            refine lv_iload hx hb dX2_brought_179 (lv_at hl 5 rfl) ?_
                            refine lv_istore_n (lv' := [(3, .int (nI j)), (0, .ref h), (1, .int p1), (2, .int a), (4, .int y), (5, .int (nI j)), (6, .int (b2i z)), (7, .int (nI k))]) hx hb dX2_brought_181 rfl hl (by decide) rfl (fun ls hl => ?_)
                            refine lv_iload hx hb dX2_brought_182 (lv_at hl 5 rfl) ?_
                            refine lv_istore (lv' := [(4, .int (nI j)), (3, .int (nI j)), (0, .ref h), (1, .int p1), (2, .int a), (5, .int (nI j)), (6, .int (b2i z)), (7, .int (nI k))]) hx hb dX2_brought_184 hl (by decide) rfl (fun ls hl => ?_)
                            refine lv_goto (tgt := 201) hx hb dX2_brought_186 (by decide) ?_
                            refine lv_iinc (v := nI (j + 1)) (lv' := [(5, .int (nI (j + 1))), (4, .int (nI j)), (3, .int (nI j)), (0, .ref h), (1, .int p1), (2, .int a), (6, .int (b2i z)), (7, .int (nI k))]) hx hb dX2_brought_201 hl (k := 5) rfl (mk_inc _) (by decide) rfl (fun ls hl => ?_)
                            refine lv_goto (tgt := 75) hx hb dX2_brought_204 (by decide) ?_
                            exact L_5ih  (j + 1) (nI j) (nI j) (by omega) (by first | (rw [itr_s, ← qxy]; done) | (rw [itr_s, ← qxy]; first | (simp [m_brS, m_isAll, c_1, c_3, ← qa, c_4, c_6, c_8, c_10, ← qz, c_11, up_s, up_n, nI_1, b2i]; done) | (simp_all [m_brS, m_isAll]; done) | grind [m_brS, m_isAll])) (by omega) _ _ M ls (lv_sub hl [3, 4, 5, 2, 1, 0] rfl)
                        · -- c_10: nI k < 8
                          refine lv_iload hx hb dX2_brought_114 (lv_at hl 6 rfl) ?_
                          refine lz_if_eq (tgt := 147) hx hb dX2_brought_116 (by decide) (fun c_14 => ?_) (fun c_14 => ?_)
                          · -- c_14: z = false
                            refine lv_iconst (v := 0) hx hb dX2_brought_147 (by decide) ?_
                            refine lv_istore (lv' := [(6, .int 0), (0, .ref h), (1, .int p1), (2, .int a), (3, .int x), (4, .int y), (5, .int (nI j)), (7, .int (nI k))]) hx hb dX2_brought_148 hl (by decide) rfl (fun ls hl => ?_)
                            refine lv_iinc (v := nI (k + 1)) (lv' := [(7, .int (nI (k + 1))), (6, .int 0), (0, .ref h), (1, .int p1), (2, .int a), (3, .int x), (4, .int y), (5, .int (nI j))]) hx hb dX2_brought_150 hl (k := 7) rfl (mk_inc _) (by decide) rfl (fun ls hl => ?_)
                            refine lv_goto (tgt := 107) hx hb dX2_brought_153 (by decide) ?_
                            exact L_9ih  (k + 1) false (by omega) (by first | (rw [itr_s, ← qz]; done) | (rw [itr_s, ← qz]; first | (simp [m_allS, c_1, c_3, ← qa, c_4, c_6, c_8, c_10, c_14, up_s, up_n, nI_1, b2i]; done) | (simp_all [m_allS]; done) | grind [m_allS])) (by omega) _ _ M ls (lv_sub hl [2, 3, 4, 5, 6, 7, 1, 0] rfl)
                          · -- c_14: z = true
                            refine lv_aload_n hx hb dX2_brought_119 rfl (lv_at hl 0 rfl) ?_
                            refine mg_53 X M dX2_brought_120 ?_
                            refine lv_iload hx hb dX2_brought_123 (lv_at hl 7 rfl) ?_
                            refine mr_53 X M (f := Rr 53) rfl (j := k) (vp_in_nI (by omega) (by omega)) (nI_clamp (by omega)) dX2_brought_125 ?_
                            refine lv_ldc (v := (-1000000)) hx hb hown (hts _ q1430) dX2_brought_126 ?_
                            refine lv_icmp_eq (tgt := 143) hx hb dX2_brought_128 (by decide) (fun c_15 => ?_) (fun c_15 => ?_)
                            · -- c_15: Rr 53 k = (-1000000)
                              refine lv_iconst (v := 1) hx hb dX2_brought_143 (by decide) ?_
                              refine lv_goto (tgt := 148) hx hb dX2_brought_144 (by decide) ?_
                              refine lv_istore (lv' := [(6, .int 1), (0, .ref h), (1, .int p1), (2, .int a), (3, .int x), (4, .int y), (5, .int (nI j)), (7, .int (nI k))]) hx hb dX2_brought_148 hl (by decide) rfl (fun ls hl => ?_)
                              refine lv_iinc (v := nI (k + 1)) (lv' := [(7, .int (nI (k + 1))), (6, .int 1), (0, .ref h), (1, .int p1), (2, .int a), (3, .int x), (4, .int y), (5, .int (nI j))]) hx hb dX2_brought_150 hl (k := 7) rfl (mk_inc _) (by decide) rfl (fun ls hl => ?_)
                              refine lv_goto (tgt := 107) hx hb dX2_brought_153 (by decide) ?_
                              exact L_9ih  (k + 1) true (by omega) (by first | (rw [itr_s, ← qz]; done) | (rw [itr_s, ← qz]; first | (simp [m_allS, c_1, c_3, ← qa, c_4, c_6, c_8, c_10, c_14, c_15, up_s, up_n, nI_1, b2i]; done) | (simp_all [m_allS]; done) | grind [m_allS])) (by omega) _ _ M ls (lv_sub hl [2, 3, 4, 5, 6, 7, 1, 0] rfl)
                            · -- c_15: Rr 53 k ≠ (-1000000)
                              refine lv_aload_n hx hb dX2_brought_131 rfl (lv_at hl 0 rfl) ?_
                              refine lv_iload hx hb dX2_brought_132 (lv_at hl 7 rfl) ?_
                              refine m_cQ (v := m_who (F 48) Rr k) (As := [.int (nI k)]) (rest := []) X M (metX2_whoMay l D cl hcl h ad dA (va_up F 0 0) Rr k (by omega) h48) (cwV 1 hts (lw_V q1875 q1877 qs49 q62 q1878) rfl rfl rfl (by decide +kernel) ⟨Nat.le_of_ble_eq_true rfl, Nat.le_of_ble_eq_true rfl⟩) rfl hl.1 rfl (Nat.le_of_ble_eq_true rfl) dX2_brought_134 ⟨Nat.zero_le _, Nat.zero_le _⟩ ?_
                              refine lv_iload hx hb dX2_brought_137 (lv_at hl 5 rfl) ?_
                              refine lv_iand hx hb dX2_brought_139 ?_
                              refine lv_if_eq (tgt := 147) hx hb dX2_brought_140 (by decide) (fun c_16 => ?_) (fun c_16 => ?_)
                              · -- c_16: (m_who (F 48) Rr k) &&& (nI j) = 0
                                refine lv_iconst (v := 0) hx hb dX2_brought_147 (by decide) ?_
                                refine lv_istore (lv' := [(6, .int 0), (0, .ref h), (1, .int p1), (2, .int a), (3, .int x), (4, .int y), (5, .int (nI j)), (7, .int (nI k))]) hx hb dX2_brought_148 hl (by decide) rfl (fun ls hl => ?_)
                                refine lv_iinc (v := nI (k + 1)) (lv' := [(7, .int (nI (k + 1))), (6, .int 0), (0, .ref h), (1, .int p1), (2, .int a), (3, .int x), (4, .int y), (5, .int (nI j))]) hx hb dX2_brought_150 hl (k := 7) rfl (mk_inc _) (by decide) rfl (fun ls hl => ?_)
                                refine lv_goto (tgt := 107) hx hb dX2_brought_153 (by decide) ?_
                                exact L_9ih  (k + 1) false (by omega) (by first | (rw [itr_s, ← qz]; done) | (rw [itr_s, ← qz]; first | (simp [m_allS, c_1, c_3, ← qa, c_4, c_6, c_8, c_10, c_14, c_15, c_16, up_s, up_n, nI_1, b2i]; done) | (simp_all [m_allS]; done) | grind [m_allS])) (by omega) _ _ M ls (lv_sub hl [2, 3, 4, 5, 6, 7, 1, 0] rfl)
                              · -- c_16: (m_who (F 48) Rr k) &&& (nI j) ≠ 0
                                refine lv_iconst (v := 1) hx hb dX2_brought_143 (by decide) ?_
                                refine lv_goto (tgt := 148) hx hb dX2_brought_144 (by decide) ?_
                                refine lv_istore (lv' := [(6, .int 1), (0, .ref h), (1, .int p1), (2, .int a), (3, .int x), (4, .int y), (5, .int (nI j)), (7, .int (nI k))]) hx hb dX2_brought_148 hl (by decide) rfl (fun ls hl => ?_)
                                refine lv_iinc (v := nI (k + 1)) (lv' := [(7, .int (nI (k + 1))), (6, .int 1), (0, .ref h), (1, .int p1), (2, .int a), (3, .int x), (4, .int y), (5, .int (nI j))]) hx hb dX2_brought_150 hl (k := 7) rfl (mk_inc _) (by decide) rfl (fun ls hl => ?_)
                                refine lv_goto (tgt := 107) hx hb dX2_brought_153 (by decide) ?_
                                exact L_9ih  (k + 1) true (by omega) (by first | (rw [itr_s, ← qz]; done) | (rw [itr_s, ← qz]; first | (simp [m_allS, c_1, c_3, ← qa, c_4, c_6, c_8, c_10, c_14, c_15, c_16, up_s, up_n, nI_1, b2i]; done) | (simp_all [m_allS]; done) | grind [m_allS])) (by omega) _ _ M ls (lv_sub hl [2, 3, 4, 5, 6, 7, 1, 0] rfl)
                    exact L_9 ((8 - 0) + 1) 0 true (Nat.zero_le _) (by first | rfl | (simp only [itr]; assumption) | (simp [itr, c_1, c_3, ← qa, c_4, c_6, c_8, up_s, up_n, nI_1, b2i]; done)) (Nat.lt_succ_self _) _ _ M ls (lv_sub hl [2, 3, 4, 5, 6, 7, 1, 0] rfl)
                  · -- c_8: x ≠ (-1000000)
                    refine lv_iload hx hb dX2_brought_89 (lv_at hl 5 rfl) ?_
                    refine s_cI (v := m_bits (nI j)) (As := [.int (nI j)]) (rest := []) S (metX2_bits l (nI j)) (va_cwS 1 hts (lw_S q1879 q1880 q62 q1881) rfl rfl rfl (by decide +kernel) ⟨Nat.le_of_ble_eq_true rfl, Nat.le_of_ble_eq_true rfl⟩) rfl hl.1 rfl (Nat.le_of_ble_eq_true rfl) dX2_brought_91 ⟨Nat.zero_le _, Nat.zero_le _⟩ ?_
                    refine lv_iload_n hx hb dX2_brought_94 rfl (lv_at hl 3 rfl) ?_
                    refine s_cI (v := m_bits x) (As := [.int x]) (rest := [.int (m_bits (nI j))]) S (metX2_bits l x) (va_cwS 1 hts (lw_S q1879 q1880 q62 q1881) rfl rfl rfl (by decide +kernel) ⟨Nat.le_of_ble_eq_true rfl, Nat.le_of_ble_eq_true rfl⟩) rfl hl.1 rfl (Nat.le_of_ble_eq_true rfl) dX2_brought_95 ⟨Nat.zero_le _, Nat.zero_le _⟩ ?_
                    refine lb_icmp_gt (tgt := 201) hx hb dX2_brought_98 (by decide) (fun c_17 c_17' => ?_) (fun c_17 c_17' => ?_)
                    · -- c_17: m_bits (nI j) > m_bits x
                      refine lv_iinc (v := nI (j + 1)) (lv' := [(5, .int (nI (j + 1))), (0, .ref h), (1, .int p1), (2, .int a), (3, .int x), (4, .int y)]) hx hb dX2_brought_201 hl (k := 5) rfl (mk_inc _) (by decide) rfl (fun ls hl => ?_)
                      refine lv_goto (tgt := 75) hx hb dX2_brought_204 (by decide) ?_
                      exact L_5ih  (j + 1) x y (by omega) (by first | (rw [itr_s, ← qxy]; done) | (rw [itr_s, ← qxy]; first | (simp [m_brS, m_isAll, c_1, c_3, ← qa, c_4, c_6, c_8, c_17, c_17', up_s, up_n, nI_1, b2i]; done) | (simp_all [m_brS, m_isAll]; done) | grind [m_brS, m_isAll])) (by omega) _ _ M ls (lv_sub hl [1, 2, 3, 4, 5, 0] rfl)
                    · -- c_17: m_bits (nI j) ≤ m_bits x
                      refine lv_iconst (v := 1) hx hb dX2_brought_101 (by decide) ?_
                      refine lv_istore (lv' := [(6, .int 1), (0, .ref h), (1, .int p1), (2, .int a), (3, .int x), (4, .int y), (5, .int (nI j))]) hx hb dX2_brought_102 hl (by decide) rfl (fun ls hl => ?_)
                      refine lv_iconst (v := 0) hx hb dX2_brought_104 (by decide) ?_
                      refine lv_istore (lv' := [(7, .int 0), (6, .int 1), (0, .ref h), (1, .int p1), (2, .int a), (3, .int x), (4, .int y), (5, .int (nI j))]) hx hb dX2_brought_105 hl (by decide) rfl (fun ls hl => ?_)
                      have L_18 : ∀ (fuL_18 : Nat) (k : Nat) (z : Bool), (k ≤ 8) → (z = itr (m_allS (F 48) Rr (nI j)) k true) → 8 - k < fuL_18 → ∀ (H : Heap) (locs : List Loc), mM D cl h ad dA (mN h ad) s (va_up F 0 0) Rr H locs → ∀ ls, lv_has ls 8 [(0, .ref h), (1, .int p1), (2, .int a), (3, .int x), (4, .int y), (5, .int (nI j)), (6, .int (b2i z)), (7, .int (nI k))] → W p l e ({ frames := 1, cells := 0, slots := 0, locals := 25 } : Room) s m ([.ref h, .int p1] : List Value).toArray below meth c H locs 0 0 (MQ below (va_Qi (fun r u => (r, u) = m_brought (va_up F 0 0) Rr p1) (mB D cl h ad dA) (mN h ad)) ([.ref h, .int p1] : List Value).toArray s 0 0 (mN h ad)) (F0 m 107 ls []) := by
                        intro fuL_18
                        induction fuL_18 with
                        | zero => intro k z hk qz hfuL_18; exact absurd hfuL_18 (Nat.not_lt_zero _)
                        | succ fuL_18 L_18ih =>
                          intro k z hk qz hfuL_18 H locs M ls hl
                          refine lv_iload hx hb dX2_brought_107 (lv_at hl 7 rfl) ?_
                          refine lv_bipush (v := 8) hx hb dX2_brought_109 (by decide) ?_
                          refine ln_icmp_ge (tgt := 156) hx hb (a := k) (b := 8) (by omega) (by omega) dX2_brought_111 (by decide) (fun c_19 => ?_) (fun c_19 => ?_)
                          · -- c_19: nI k ≥ 8
                            have ek : k = 8 := by omega
                            rw [ek] at qz
                            refine lv_iload hx hb dX2_brought_156 (lv_at hl 6 rfl) ?_
                            refine lz_if_eq (tgt := 189) hx hb dX2_brought_158 (by decide) (fun c_20 => ?_) (fun c_20 => ?_)
                            · -- c_20: z = false
                              refine lv_iload hx hb dX2_brought_189 (lv_at hl 6 rfl) ?_
                              refine lz_if_eq (tgt := 201) hx hb dX2_brought_191 (by decide) (fun c_21 => ?_) (fun c_21 => absurd (c_20.symm.trans c_21) (by decide))
                              refine lv_iinc (v := nI (j + 1)) (lv' := [(5, .int (nI (j + 1))), (0, .ref h), (1, .int p1), (2, .int a), (3, .int x), (4, .int y), (6, .int (b2i z)), (7, .int (nI k))]) hx hb dX2_brought_201 hl (k := 5) rfl (mk_inc _) (by decide) rfl (fun ls hl => ?_)
                              refine lv_goto (tgt := 75) hx hb dX2_brought_204 (by decide) ?_
                              exact L_5ih  (j + 1) x y (by omega) (by first | (rw [itr_s, ← qxy]; done) | (rw [itr_s, ← qxy]; first | (simp [m_brS, m_isAll, c_1, c_3, ← qa, c_4, c_6, c_8, c_17, c_17', c_19, ← qz, c_20, up_s, up_n, nI_1, b2i]; done) | (simp_all [m_brS, m_isAll]; done) | grind [m_brS, m_isAll])) (by omega) _ _ M ls (lv_sub hl [1, 2, 3, 4, 5, 0] rfl)
                            · -- c_20: z = true
                              refine lv_iload_n hx hb dX2_brought_161 rfl (lv_at hl 3 rfl) ?_
                              refine lv_ldc (v := (-1000000)) hx hb hown (hts _ q1430) dX2_brought_162 ?_
                              refine lv_icmp_eq (tgt := 179) hx hb dX2_brought_164 (by decide) (fun c_22 => absurd c_22 c_8) (fun c_22 => ?_)
                              refine lv_iload hx hb dX2_brought_167 (lv_at hl 5 rfl) ?_
                              refine s_cI (v := m_bits (nI j)) (As := [.int (nI j)]) (rest := []) S (metX2_bits l (nI j)) (va_cwS 1 hts (lw_S q1879 q1880 q62 q1881) rfl rfl rfl (by decide +kernel) ⟨Nat.le_of_ble_eq_true rfl, Nat.le_of_ble_eq_true rfl⟩) rfl hl.1 rfl (Nat.le_of_ble_eq_true rfl) dX2_brought_169 ⟨Nat.zero_le _, Nat.zero_le _⟩ ?_
                              refine lv_iload_n hx hb dX2_brought_172 rfl (lv_at hl 3 rfl) ?_
                              refine s_cI (v := m_bits x) (As := [.int x]) (rest := [.int (m_bits (nI j))]) S (metX2_bits l x) (va_cwS 1 hts (lw_S q1879 q1880 q62 q1881) rfl rfl rfl (by decide +kernel) ⟨Nat.le_of_ble_eq_true rfl, Nat.le_of_ble_eq_true rfl⟩) rfl hl.1 rfl (Nat.le_of_ble_eq_true rfl) dX2_brought_173 ⟨Nat.zero_le _, Nat.zero_le _⟩ ?_
                              refine lb_icmp_ge (tgt := 189) hx hb dX2_brought_176 (by decide) (fun c_23 c_23' => ?_) (fun c_23 c_23' => ?_)
                              · -- c_23: m_bits (nI j) ≥ m_bits x
                                refine lv_iload hx hb dX2_brought_189 (lv_at hl 6 rfl) ?_
                                refine lz_if_eq (tgt := 201) hx hb dX2_brought_191 (by decide) (fun c_24 => absurd (c_20.symm.trans c_24) (by decide)) (fun c_24 => ?_)
                                refine lv_iload hx hb dX2_brought_194 (lv_at hl 4 rfl) ?_
                                refine lv_iload hx hb dX2_brought_196 (lv_at hl 5 rfl) ?_
                                refine lv_iand hx hb dX2_brought_198 ?_
                                refine lv_istore (lv' := [(4, .int (y &&& (nI j))), (0, .ref h), (1, .int p1), (2, .int a), (3, .int x), (5, .int (nI j)), (6, .int (b2i z)), (7, .int (nI k))]) hx hb dX2_brought_199 hl (by decide) rfl (fun ls hl => ?_)
                                refine lv_iinc (v := nI (j + 1)) (lv' := [(5, .int (nI (j + 1))), (4, .int (y &&& (nI j))), (0, .ref h), (1, .int p1), (2, .int a), (3, .int x), (6, .int (b2i z)), (7, .int (nI k))]) hx hb dX2_brought_201 hl (k := 5) rfl (mk_inc _) (by decide) rfl (fun ls hl => ?_)
                                refine lv_goto (tgt := 75) hx hb dX2_brought_204 (by decide) ?_
                                exact L_5ih  (j + 1) x (y &&& (nI j)) (by omega) (by first | (rw [itr_s, ← qxy]; done) | (rw [itr_s, ← qxy]; first | (simp [m_brS, m_isAll, c_1, c_3, ← qa, c_4, c_6, c_8, c_17, c_17', c_19, ← qz, c_20, c_23, c_23', up_s, up_n, nI_1, b2i]; done) | (simp_all [m_brS, m_isAll]; done) | grind [m_brS, m_isAll])) (by omega) _ _ M ls (lv_sub hl [2, 3, 4, 5, 1, 0] rfl)
                              · -- c_23: m_bits (nI j) < m_bits x
                                refine lv_iload hx hb dX2_brought_179 (lv_at hl 5 rfl) ?_
                                refine lv_istore_n (lv' := [(3, .int (nI j)), (0, .ref h), (1, .int p1), (2, .int a), (4, .int y), (5, .int (nI j)), (6, .int (b2i z)), (7, .int (nI k))]) hx hb dX2_brought_181 rfl hl (by decide) rfl (fun ls hl => ?_)
                                refine lv_iload hx hb dX2_brought_182 (lv_at hl 5 rfl) ?_
                                refine lv_istore (lv' := [(4, .int (nI j)), (3, .int (nI j)), (0, .ref h), (1, .int p1), (2, .int a), (5, .int (nI j)), (6, .int (b2i z)), (7, .int (nI k))]) hx hb dX2_brought_184 hl (by decide) rfl (fun ls hl => ?_)
                                refine lv_goto (tgt := 201) hx hb dX2_brought_186 (by decide) ?_
                                refine lv_iinc (v := nI (j + 1)) (lv' := [(5, .int (nI (j + 1))), (4, .int (nI j)), (3, .int (nI j)), (0, .ref h), (1, .int p1), (2, .int a), (6, .int (b2i z)), (7, .int (nI k))]) hx hb dX2_brought_201 hl (k := 5) rfl (mk_inc _) (by decide) rfl (fun ls hl => ?_)
                                refine lv_goto (tgt := 75) hx hb dX2_brought_204 (by decide) ?_
                                exact L_5ih  (j + 1) (nI j) (nI j) (by omega) (by first | (rw [itr_s, ← qxy]; done) | (rw [itr_s, ← qxy]; first | (simp [m_brS, m_isAll, c_1, c_3, ← qa, c_4, c_6, c_8, c_17, c_17', c_19, ← qz, c_20, c_23, c_23', up_s, up_n, nI_1, b2i]; done) | (simp_all [m_brS, m_isAll]; done) | grind [m_brS, m_isAll])) (by omega) _ _ M ls (lv_sub hl [3, 4, 5, 2, 1, 0] rfl)
                          · -- c_19: nI k < 8
                            refine lv_iload hx hb dX2_brought_114 (lv_at hl 6 rfl) ?_
                            refine lz_if_eq (tgt := 147) hx hb dX2_brought_116 (by decide) (fun c_25 => ?_) (fun c_25 => ?_)
                            · -- c_25: z = false
                              refine lv_iconst (v := 0) hx hb dX2_brought_147 (by decide) ?_
                              refine lv_istore (lv' := [(6, .int 0), (0, .ref h), (1, .int p1), (2, .int a), (3, .int x), (4, .int y), (5, .int (nI j)), (7, .int (nI k))]) hx hb dX2_brought_148 hl (by decide) rfl (fun ls hl => ?_)
                              refine lv_iinc (v := nI (k + 1)) (lv' := [(7, .int (nI (k + 1))), (6, .int 0), (0, .ref h), (1, .int p1), (2, .int a), (3, .int x), (4, .int y), (5, .int (nI j))]) hx hb dX2_brought_150 hl (k := 7) rfl (mk_inc _) (by decide) rfl (fun ls hl => ?_)
                              refine lv_goto (tgt := 107) hx hb dX2_brought_153 (by decide) ?_
                              exact L_18ih  (k + 1) false (by omega) (by first | (rw [itr_s, ← qz]; done) | (rw [itr_s, ← qz]; first | (simp [m_allS, c_1, c_3, ← qa, c_4, c_6, c_8, c_17, c_17', c_19, c_25, up_s, up_n, nI_1, b2i]; done) | (simp_all [m_allS]; done) | grind [m_allS])) (by omega) _ _ M ls (lv_sub hl [2, 3, 4, 5, 6, 7, 1, 0] rfl)
                            · -- c_25: z = true
                              refine lv_aload_n hx hb dX2_brought_119 rfl (lv_at hl 0 rfl) ?_
                              refine mg_53 X M dX2_brought_120 ?_
                              refine lv_iload hx hb dX2_brought_123 (lv_at hl 7 rfl) ?_
                              refine mr_53 X M (f := Rr 53) rfl (j := k) (vp_in_nI (by omega) (by omega)) (nI_clamp (by omega)) dX2_brought_125 ?_
                              refine lv_ldc (v := (-1000000)) hx hb hown (hts _ q1430) dX2_brought_126 ?_
                              refine lv_icmp_eq (tgt := 143) hx hb dX2_brought_128 (by decide) (fun c_26 => ?_) (fun c_26 => ?_)
                              · -- c_26: Rr 53 k = (-1000000)
                                refine lv_iconst (v := 1) hx hb dX2_brought_143 (by decide) ?_
                                refine lv_goto (tgt := 148) hx hb dX2_brought_144 (by decide) ?_
                                refine lv_istore (lv' := [(6, .int 1), (0, .ref h), (1, .int p1), (2, .int a), (3, .int x), (4, .int y), (5, .int (nI j)), (7, .int (nI k))]) hx hb dX2_brought_148 hl (by decide) rfl (fun ls hl => ?_)
                                refine lv_iinc (v := nI (k + 1)) (lv' := [(7, .int (nI (k + 1))), (6, .int 1), (0, .ref h), (1, .int p1), (2, .int a), (3, .int x), (4, .int y), (5, .int (nI j))]) hx hb dX2_brought_150 hl (k := 7) rfl (mk_inc _) (by decide) rfl (fun ls hl => ?_)
                                refine lv_goto (tgt := 107) hx hb dX2_brought_153 (by decide) ?_
                                exact L_18ih  (k + 1) true (by omega) (by first | (rw [itr_s, ← qz]; done) | (rw [itr_s, ← qz]; first | (simp [m_allS, c_1, c_3, ← qa, c_4, c_6, c_8, c_17, c_17', c_19, c_25, c_26, up_s, up_n, nI_1, b2i]; done) | (simp_all [m_allS]; done) | grind [m_allS])) (by omega) _ _ M ls (lv_sub hl [2, 3, 4, 5, 6, 7, 1, 0] rfl)
                              · -- c_26: Rr 53 k ≠ (-1000000)
                                refine lv_aload_n hx hb dX2_brought_131 rfl (lv_at hl 0 rfl) ?_
                                refine lv_iload hx hb dX2_brought_132 (lv_at hl 7 rfl) ?_
                                refine m_cQ (v := m_who (F 48) Rr k) (As := [.int (nI k)]) (rest := []) X M (metX2_whoMay l D cl hcl h ad dA (va_up F 0 0) Rr k (by omega) h48) (cwV 1 hts (lw_V q1875 q1877 qs49 q62 q1878) rfl rfl rfl (by decide +kernel) ⟨Nat.le_of_ble_eq_true rfl, Nat.le_of_ble_eq_true rfl⟩) rfl hl.1 rfl (Nat.le_of_ble_eq_true rfl) dX2_brought_134 ⟨Nat.zero_le _, Nat.zero_le _⟩ ?_
                                refine lv_iload hx hb dX2_brought_137 (lv_at hl 5 rfl) ?_
                                refine lv_iand hx hb dX2_brought_139 ?_
                                refine lv_if_eq (tgt := 147) hx hb dX2_brought_140 (by decide) (fun c_27 => ?_) (fun c_27 => ?_)
                                · -- c_27: (m_who (F 48) Rr k) &&& (nI j) = 0
                                  refine lv_iconst (v := 0) hx hb dX2_brought_147 (by decide) ?_
                                  refine lv_istore (lv' := [(6, .int 0), (0, .ref h), (1, .int p1), (2, .int a), (3, .int x), (4, .int y), (5, .int (nI j)), (7, .int (nI k))]) hx hb dX2_brought_148 hl (by decide) rfl (fun ls hl => ?_)
                                  refine lv_iinc (v := nI (k + 1)) (lv' := [(7, .int (nI (k + 1))), (6, .int 0), (0, .ref h), (1, .int p1), (2, .int a), (3, .int x), (4, .int y), (5, .int (nI j))]) hx hb dX2_brought_150 hl (k := 7) rfl (mk_inc _) (by decide) rfl (fun ls hl => ?_)
                                  refine lv_goto (tgt := 107) hx hb dX2_brought_153 (by decide) ?_
                                  exact L_18ih  (k + 1) false (by omega) (by first | (rw [itr_s, ← qz]; done) | (rw [itr_s, ← qz]; first | (simp [m_allS, c_1, c_3, ← qa, c_4, c_6, c_8, c_17, c_17', c_19, c_25, c_26, c_27, up_s, up_n, nI_1, b2i]; done) | (simp_all [m_allS]; done) | grind [m_allS])) (by omega) _ _ M ls (lv_sub hl [2, 3, 4, 5, 6, 7, 1, 0] rfl)
                                · -- c_27: (m_who (F 48) Rr k) &&& (nI j) ≠ 0
                                  refine lv_iconst (v := 1) hx hb dX2_brought_143 (by decide) ?_
                                  refine lv_goto (tgt := 148) hx hb dX2_brought_144 (by decide) ?_
                                  refine lv_istore (lv' := [(6, .int 1), (0, .ref h), (1, .int p1), (2, .int a), (3, .int x), (4, .int y), (5, .int (nI j)), (7, .int (nI k))]) hx hb dX2_brought_148 hl (by decide) rfl (fun ls hl => ?_)
                                  refine lv_iinc (v := nI (k + 1)) (lv' := [(7, .int (nI (k + 1))), (6, .int 1), (0, .ref h), (1, .int p1), (2, .int a), (3, .int x), (4, .int y), (5, .int (nI j))]) hx hb dX2_brought_150 hl (k := 7) rfl (mk_inc _) (by decide) rfl (fun ls hl => ?_)
                                  refine lv_goto (tgt := 107) hx hb dX2_brought_153 (by decide) ?_
                                  exact L_18ih  (k + 1) true (by omega) (by first | (rw [itr_s, ← qz]; done) | (rw [itr_s, ← qz]; first | (simp [m_allS, c_1, c_3, ← qa, c_4, c_6, c_8, c_17, c_17', c_19, c_25, c_26, c_27, up_s, up_n, nI_1, b2i]; done) | (simp_all [m_allS]; done) | grind [m_allS])) (by omega) _ _ M ls (lv_sub hl [2, 3, 4, 5, 6, 7, 1, 0] rfl)
                      exact L_18 ((8 - 0) + 1) 0 true (Nat.zero_le _) (by first | rfl | (simp only [itr]; assumption) | (simp [itr, c_1, c_3, ← qa, c_4, c_6, c_8, c_17, c_17', up_s, up_n, nI_1, b2i]; done)) (Nat.lt_succ_self _) _ _ M ls (lv_sub hl [2, 3, 4, 5, 6, 7, 1, 0] rfl)
            exact L_5 ((4096 - 0) + 1) 0 (-1000000) 0 (Nat.zero_le _) (by first | rfl | (simp only [itr]; assumption) | (simp [itr, c_1, c_3, ← qa, c_4, up_s, up_n, nI_1, b2i]; done)) (Nat.lt_succ_self _) _ _ M ls (lv_sub hl [3, 4, 5, 2, 1, 0] rfl)
          · -- c_4: p1 = 2
            refine lv_iload_n hx hb dX2_brought_64 rfl (lv_at hl 2 rfl) ?_
            exact W.iret (v := a) hx hb hr (fun t9 ht9 hW9 => ⟨⟨_, (va_up F 0 0, Rr), rfl, (by simp [m_brought, m_any, up_s, up_n, c_1, c_3, c_4, qa, show inB 0 2 2 = true from rfl]), by show va_P _ _ _ t9.heap; rw [ht9]; exact M.1⟩, M.2.2.F ht9⟩) M.2.2.2.2 dX2_brought_65
        · -- c_3: nI i < 8
          refine lv_iload_n hx hb dX2_brought_30 rfl (lv_at hl 2 rfl) ?_
          refine lv_aload_n hx hb dX2_brought_31 rfl (lv_at hl 0 rfl) ?_
          refine mg_53 X M dX2_brought_32 ?_
          refine lv_iload_n hx hb dX2_brought_35 rfl (lv_at hl 3 rfl) ?_
          refine mr_53 X M (f := Rr 53) rfl (j := i) (vp_in_nI (by omega) (by omega)) (nI_clamp (by omega)) dX2_brought_36 ?_
          refine lv_ldc (v := (-1000000)) hx hb hown (hts _ q1430) dX2_brought_37 ?_
          refine lv_icmp_ne (tgt := 46) hx hb dX2_brought_39 (by decide) (fun c_28 => ?_) (fun c_28 => ?_)
          · -- c_28: Rr 53 i ≠ (-1000000)
            refine lv_aload_n hx hb dX2_brought_46 rfl (lv_at hl 0 rfl) ?_
            refine lv_iload_n hx hb dX2_brought_47 rfl (lv_at hl 3 rfl) ?_
            refine m_cQ (v := m_who (F 48) Rr i) (As := [.int (nI i)]) (rest := [.int a]) X M (metX2_whoMay l D cl hcl h ad dA (va_up F 0 0) Rr i (by omega) h48) (cwV 1 hts (lw_V q1875 q1877 qs49 q62 q1878) rfl rfl rfl (by decide +kernel) ⟨Nat.le_of_ble_eq_true rfl, Nat.le_of_ble_eq_true rfl⟩) rfl hl.1 rfl (Nat.le_of_ble_eq_true rfl) dX2_brought_48 ⟨Nat.zero_le _, Nat.zero_le _⟩ ?_
            refine lv_ior hx hb dX2_brought_51 ?_
            refine lv_istore_n (lv' := [(2, .int (a ||| (m_who (F 48) Rr i))), (0, .ref h), (1, .int p1), (3, .int (nI i))]) hx hb dX2_brought_52 rfl hl (by decide) rfl (fun ls hl => ?_)
            refine lv_iinc (v := nI (i + 1)) (lv' := [(3, .int (nI (i + 1))), (2, .int (a ||| (m_who (F 48) Rr i))), (0, .ref h), (1, .int p1)]) hx hb dX2_brought_53 hl (k := 3) rfl (mk_inc _) (by decide) rfl (fun ls hl => ?_)
            refine lv_goto (tgt := 24) hx hb dX2_brought_56 (by decide) ?_
            exact L_2ih  (i + 1) (a ||| (m_who (F 48) Rr i)) (by omega) (by first | (rw [itr_s, ← qa]; done) | (rw [itr_s, ← qa]; first | (simp [c_1, c_3, c_28, up_s, up_n, nI_1, b2i]; done) | (simp_all []; done) | grind [])) (by omega) _ _ M ls (lv_sub hl [2, 3, 1, 0] rfl)
          · -- c_28: Rr 53 i = (-1000000)
            refine lv_iconst (v := 0) hx hb dX2_brought_42 (by decide) ?_
            refine lv_goto (tgt := 51) hx hb dX2_brought_43 (by decide) ?_
            refine lv_ior hx hb dX2_brought_51 ?_
            refine lv_istore_n (lv' := [(2, .int (a ||| 0)), (0, .ref h), (1, .int p1), (3, .int (nI i))]) hx hb dX2_brought_52 rfl hl (by decide) rfl (fun ls hl => ?_)
            refine lv_iinc (v := nI (i + 1)) (lv' := [(3, .int (nI (i + 1))), (2, .int (a ||| 0)), (0, .ref h), (1, .int p1)]) hx hb dX2_brought_53 hl (k := 3) rfl (mk_inc _) (by decide) rfl (fun ls hl => ?_)
            refine lv_goto (tgt := 24) hx hb dX2_brought_56 (by decide) ?_
            exact L_2ih  (i + 1) (a ||| 0) (by omega) (by first | (rw [itr_s, ← qa]; done) | (rw [itr_s, ← qa]; first | (simp [c_1, c_3, c_28, up_s, up_n, nI_1, b2i]; done) | (simp_all []; done) | grind [])) (by omega) _ _ M ls (lv_sub hl [2, 3, 1, 0] rfl)
    exact L_2 ((8 - 0) + 1) 0 0 (Nat.zero_le _) (by first | rfl | (simp only [itr]; assumption) | (simp [itr, c_1, up_s, up_n, nI_1, b2i]; done)) (Nat.lt_succ_self _) _ _ M ls (lv_sub hl [2, 3, 1, 0] rfl)
  · -- c_1: inB 0 2 p1 = false
    refine lv_ldc (v := (-1000001)) hx hb hown (hts _ q1627) dX2_brought_17 ?_
    exact W.iret (v := (-1000001)) hx hb hr (fun t9 ht9 hW9 => ⟨⟨_, (va_up F 0 0, Rr), rfl, (by first | (simp [m_brought, c_1, up_s, up_n, nI_1, b2i]; done) | (simp_all [m_brought]; done) | grind [m_brought]), by show va_P _ _ _ t9.heap; rw [ht9]; exact M.1⟩, M.2.2.F ht9⟩) M.2.2.2.2 dX2_brought_19

def m_lnS (Rr : Nat → Nat → Int32) (g : Nat) (k : Nat) (b : Int32 × Int32) : Int32 × Int32 := (if Rr 56 k = nI g ∧ b.1 < Rr 57 k then Rr 57 k else b.1, if Rr 56 k = nI g ∧ b.2 < Rr 58 k then Rr 58 k else b.2)
def m_brcS (n55 : Int32) (Rr : Nat → Nat → Int32) (g : Nat) (set : Int32) : Int32 := set ||| (if Rr 54 g - 2 ≤ (itr (m_lnS Rr g) n55.toNatClampNeg (0, 0)).1 ∧ Rr 54 g - 4 ≤ (itr (m_lnS Rr g) n55.toNatClampNeg (0, 0)).2 then (1 : Int32) <<< (nI g &&& 31) else 0)
def m_breaches (n55 : Int32) (Rr : Nat → Nat → Int32) : Int32 := itr (m_brcS n55 Rr) 12 0
set_option maxHeartbeats 4000000 in
set_option maxRecDepth 100000 in
theorem metX2_breachesNow (l : Launch) (D : va_G) (cl : List vw_C) (hcl : cl[0]? = some (RX2, TX2, 61)) (h : Nat) (ad : Nat → Nat) (dA : ClassId) (F : Nat → Int32) (Rr : Nat → Nat → Int32) (h55 : cnB (F 55) 20) : Met l yX2_breachesNow (ws_ yX2_breachesNow cX2_breachesNow 6 (some .int)) ({ frames := 0, cells := 0, slots := 0, locals := 0 } : Room) (va_Pc [.ref h] (mPre D cl h ad dA F Rr)) (vp_Si (fun r => r = m_breaches (F 55) Rr)) 0 0 (fun _ => False) := by
  refine Met.ofW (cc := cX2_breachesNow) (maxL := 6) (ret := (some .int)) (by decide) rfl ?_
  intro p e s m args below meth c s₁ B hml hv
  obtain ⟨rfl, hK, hP, hD⟩ := hv
  have hx := B.exec
  have hb := B.bytes
  have hr := B.returns
  have hts := atoms_spec (ws := (ws_ yX2_breachesNow cX2_breachesNow 6 (some .int))) B.pre
  have hts : ∀ w ∈ lw_all, w.before _ s = true := fun w h => hts w (List.mem_cons_of_mem _ h)
  have hown : s.vm.findClass RX2 = some m.cls := findClass_of_methodNamed B.named
  have hlocks := B.notSynchronized
  have S : CallFix p m c cX2_breachesNow 6 s ([.ref h] : List Value).toArray lw_all RX2 := ⟨hx, hb, hml, hown, hts⟩
  have X : mX p s m ([.ref h] : List Value).toArray c cX2_breachesNow 6 D cl dA := ⟨hx, hb, hml, hown, hts, hK, hcl⟩
  have M : mM D cl h ad dA (mN h ad) s F Rr s.heap [] := ⟨hP, mW_self hD, va_S.rf⟩
  have hl := lv_entry ([.ref h]) (n := 6) (Nat.le_of_ble_eq_true rfl)
  rw [lg_entry_eq]
  generalize (lg_sl ([.ref h]) ++ List.replicate (6 - (lg_sl ([.ref h])).length) Slot.unset).toArray = ls at hl ⊢
  have hl : lv_has ls 6 [(0, .ref h)] := hl
  obtain ⟨n55, hn55, en55⟩ := cnB_ex h55 (n := 20) rfl
  have em55 : (F 55).toNatClampNeg = n55 := by rw [en55]; exact nI_clamp (by omega)
  have ec55 : (nI n55).toNatClampNeg = n55 := nI_clamp (by omega)
  refine lv_iconst (v := 0) hx hb dX2_breachesNow_0 (by decide) ?_
  refine lv_istore_n (lv' := [(1, .int 0), (0, .ref h)]) hx hb dX2_breachesNow_1 rfl hl (by decide) rfl (fun ls hl => ?_)
  refine lv_iconst (v := 0) hx hb dX2_breachesNow_2 (by decide) ?_
  refine lv_istore_n (lv' := [(2, .int 0), (1, .int 0), (0, .ref h)]) hx hb dX2_breachesNow_3 rfl hl (by decide) rfl (fun ls hl => ?_)
  have L_1 : ∀ (fuL_1 : Nat) (i : Nat) (a : Int32), (i ≤ 12) → (a = itr (m_brcS (F 55) Rr) i 0) → 12 - i < fuL_1 → ∀ ls, lv_has ls 6 [(0, .ref h), (1, .int a), (2, .int (nI i))] → W p l e ({ frames := 0, cells := 0, slots := 0, locals := 0 } : Room) s m ([.ref h] : List Value).toArray below meth c s.heap [] 0 0 (MQ below (vp_Si (fun r => r = m_breaches (F 55) Rr)) ([.ref h] : List Value).toArray s 0 0 (fun _ => False)) (F0 m 4 ls []) := by
    intro fuL_1
    induction fuL_1 with
    | zero => intro i a hi qa hfuL_1; exact absurd hfuL_1 (Nat.not_lt_zero _)
    | succ fuL_1 L_1ih =>
      intro i a hi qa hfuL_1 ls hl
      refine lv_iload_n hx hb dX2_breachesNow_4 rfl (lv_at hl 2 rfl) ?_
      refine lv_bipush (v := 12) hx hb dX2_breachesNow_5 (by decide) ?_
      refine ln_icmp_ge (tgt := 145) hx hb (a := i) (b := 12) (by omega) (by omega) dX2_breachesNow_7 (by decide) (fun c_2 => ?_) (fun c_2 => ?_)
      · -- c_2: nI i ≥ 12
        have ei : i = 12 := by omega
        rw [ei] at qa
        refine lv_iload_n hx hb dX2_breachesNow_145 rfl (lv_at hl 1 rfl) ?_
        exact W.iret (v := a) hx hb hr (fun t9 ht9 hW9 => ⟨_, rfl, (by unfold m_breaches; exact qa), ht9⟩) (fun _ h9 => by cases h9) dX2_breachesNow_146
      · -- c_2: nI i < 12
        refine lv_iconst (v := 0) hx hb dX2_breachesNow_10 (by decide) ?_
        refine lv_istore_n (lv' := [(3, .int 0), (0, .ref h), (1, .int a), (2, .int (nI i))]) hx hb dX2_breachesNow_11 rfl hl (by decide) rfl (fun ls hl => ?_)
        refine lv_iconst (v := 0) hx hb dX2_breachesNow_12 (by decide) ?_
        refine lv_istore (lv' := [(4, .int 0), (3, .int 0), (0, .ref h), (1, .int a), (2, .int (nI i))]) hx hb dX2_breachesNow_13 hl (by decide) rfl (fun ls hl => ?_)
        refine lv_iconst (v := 0) hx hb dX2_breachesNow_15 (by decide) ?_
        refine lv_istore (lv' := [(5, .int 0), (4, .int 0), (3, .int 0), (0, .ref h), (1, .int a), (2, .int (nI i))]) hx hb dX2_breachesNow_16 hl (by decide) rfl (fun ls hl => ?_)
        have L_3 : ∀ (fuL_3 : Nat) (j : Nat) (x : Int32) (y : Int32), (j ≤ n55) → ((x, y) = itr (m_lnS Rr i) j (0, 0)) → n55 - j < fuL_3 → ∀ ls, lv_has ls 6 [(0, .ref h), (1, .int a), (2, .int (nI i)), (3, .int x), (4, .int y), (5, .int (nI j))] → W p l e ({ frames := 0, cells := 0, slots := 0, locals := 0 } : Room) s m ([.ref h] : List Value).toArray below meth c s.heap [] 0 0 (MQ below (vp_Si (fun r => r = m_breaches (F 55) Rr)) ([.ref h] : List Value).toArray s 0 0 (fun _ => False)) (F0 m 18 ls []) := by
          intro fuL_3
          induction fuL_3 with
          | zero => intro j x y hj qxy hfuL_3; exact absurd hfuL_3 (Nat.not_lt_zero _)
          | succ fuL_3 L_3ih =>
            intro j x y hj qxy hfuL_3 ls hl
            refine lv_iload hx hb dX2_breachesNow_18 (lv_at hl 5 rfl) ?_
            refine lv_aload_n hx hb dX2_breachesNow_20 rfl (lv_at hl 0 rfl) ?_
            refine mg_55 X M (v := F 55) rfl dX2_breachesNow_21 ?_
            refine lv_asi (y := nI n55) en55 ?_
            refine ln_icmp_ge (tgt := 104) hx hb (a := j) (b := n55) (by omega) (by omega) dX2_breachesNow_24 (by decide) (fun c_4 => ?_) (fun c_4 => ?_)
            · -- c_4: nI j ≥ nI n55
              have ej : j = n55 := by omega
              rw [ej] at qxy
              refine lv_iload_n hx hb dX2_breachesNow_104 rfl (lv_at hl 1 rfl) ?_
              refine lv_iload_n hx hb dX2_breachesNow_105 rfl (lv_at hl 3 rfl) ?_
              refine lv_aload_n hx hb dX2_breachesNow_106 rfl (lv_at hl 0 rfl) ?_
              refine mg_54 X M dX2_breachesNow_107 ?_
              refine lv_iload_n hx hb dX2_breachesNow_110 rfl (lv_at hl 2 rfl) ?_
              refine mr_54 X M (f := Rr 54) rfl (j := i) (vp_in_nI (by omega) (by omega)) (nI_clamp (by omega)) dX2_breachesNow_111 ?_
              refine lv_iconst (v := 2) hx hb dX2_breachesNow_112 (by decide) ?_
              refine lv_isub hx hb dX2_breachesNow_113 ?_
              refine lb_icmp_lt (tgt := 136) hx hb dX2_breachesNow_114 (by decide) (fun c_5 c_5' => ?_) (fun c_5 c_5' => ?_)
              · -- c_5: x < (Rr 54 i) - 2
                refine lv_iconst (v := 0) hx hb dX2_breachesNow_136 (by decide) ?_
                refine lv_ior hx hb dX2_breachesNow_137 ?_
                refine lv_istore_n (lv' := [(1, .int (a ||| 0)), (0, .ref h), (2, .int (nI i)), (3, .int x), (4, .int y), (5, .int (nI j))]) hx hb dX2_breachesNow_138 rfl hl (by decide) rfl (fun ls hl => ?_)
                refine lv_iinc (v := nI (i + 1)) (lv' := [(2, .int (nI (i + 1))), (1, .int (a ||| 0)), (0, .ref h), (3, .int x), (4, .int y), (5, .int (nI j))]) hx hb dX2_breachesNow_139 hl (k := 2) rfl (mk_inc _) (by decide) rfl (fun ls hl => ?_)
                refine lv_goto (tgt := 4) hx hb dX2_breachesNow_142 (by decide) ?_
                exact L_1ih  (i + 1) (a ||| 0) (by omega) (by first | (rw [itr_s, ← qa]; done) | (rw [itr_s, ← qa]; first | (simp [m_brcS, em55, c_2, c_4, ← qxy, c_5, c_5', up_s, up_n, nI_1, b2i]; done) | (simp_all [m_brcS]; done) | grind [m_brcS])) (by omega) ls (lv_sub hl [2, 1, 0] rfl)
              · -- c_5: x ≥ (Rr 54 i) - 2
                refine lv_iload hx hb dX2_breachesNow_117 (lv_at hl 4 rfl) ?_
                refine lv_aload_n hx hb dX2_breachesNow_119 rfl (lv_at hl 0 rfl) ?_
                refine mg_54 X M dX2_breachesNow_120 ?_
                refine lv_iload_n hx hb dX2_breachesNow_123 rfl (lv_at hl 2 rfl) ?_
                refine mr_54 X M (f := Rr 54) rfl (j := i) (vp_in_nI (by omega) (by omega)) (nI_clamp (by omega)) dX2_breachesNow_124 ?_
                refine lv_iconst (v := 4) hx hb dX2_breachesNow_125 (by decide) ?_
                refine lv_isub hx hb dX2_breachesNow_126 ?_
                refine lb_icmp_lt (tgt := 136) hx hb dX2_breachesNow_127 (by decide) (fun c_6 c_6' => ?_) (fun c_6 c_6' => ?_)
                · -- c_6: y < (Rr 54 i) - 4
                  refine lv_iconst (v := 0) hx hb dX2_breachesNow_136 (by decide) ?_
                  refine lv_ior hx hb dX2_breachesNow_137 ?_
                  refine lv_istore_n (lv' := [(1, .int (a ||| 0)), (0, .ref h), (2, .int (nI i)), (3, .int x), (4, .int y), (5, .int (nI j))]) hx hb dX2_breachesNow_138 rfl hl (by decide) rfl (fun ls hl => ?_)
                  refine lv_iinc (v := nI (i + 1)) (lv' := [(2, .int (nI (i + 1))), (1, .int (a ||| 0)), (0, .ref h), (3, .int x), (4, .int y), (5, .int (nI j))]) hx hb dX2_breachesNow_139 hl (k := 2) rfl (mk_inc _) (by decide) rfl (fun ls hl => ?_)
                  refine lv_goto (tgt := 4) hx hb dX2_breachesNow_142 (by decide) ?_
                  exact L_1ih  (i + 1) (a ||| 0) (by omega) (by first | (rw [itr_s, ← qa]; done) | (rw [itr_s, ← qa]; first | (simp [m_brcS, em55, c_2, c_4, ← qxy, c_5, c_5', c_6, c_6', up_s, up_n, nI_1, b2i]; done) | (simp_all [m_brcS]; done) | grind [m_brcS])) (by omega) ls (lv_sub hl [2, 1, 0] rfl)
                · -- c_6: y ≥ (Rr 54 i) - 4
                  refine lv_iconst (v := 1) hx hb dX2_breachesNow_130 (by decide) ?_
                  refine lv_iload_n hx hb dX2_breachesNow_131 rfl (lv_at hl 2 rfl) ?_
                  refine lv_ishl hx hb dX2_breachesNow_132 ?_
                  refine lv_goto (tgt := 137) hx hb dX2_breachesNow_133 (by decide) ?_
                  refine lv_ior hx hb dX2_breachesNow_137 ?_
                  refine lv_istore_n (lv' := [(1, .int (a ||| (1 <<< ((nI i) &&& 31)))), (0, .ref h), (2, .int (nI i)), (3, .int x), (4, .int y), (5, .int (nI j))]) hx hb dX2_breachesNow_138 rfl hl (by decide) rfl (fun ls hl => ?_)
                  refine lv_iinc (v := nI (i + 1)) (lv' := [(2, .int (nI (i + 1))), (1, .int (a ||| (1 <<< ((nI i) &&& 31)))), (0, .ref h), (3, .int x), (4, .int y), (5, .int (nI j))]) hx hb dX2_breachesNow_139 hl (k := 2) rfl (mk_inc _) (by decide) rfl (fun ls hl => ?_)
                  refine lv_goto (tgt := 4) hx hb dX2_breachesNow_142 (by decide) ?_
                  exact L_1ih  (i + 1) (a ||| (1 <<< ((nI i) &&& 31))) (by omega) (by first | (rw [itr_s, ← qa]; done) | (rw [itr_s, ← qa]; first | (simp [m_brcS, em55, c_2, c_4, ← qxy, c_5, c_5', c_6, c_6', up_s, up_n, nI_1, b2i]; done) | (simp_all [m_brcS]; done) | grind [m_brcS])) (by omega) ls (lv_sub hl [2, 1, 0] rfl)
            · -- c_4: nI j < nI n55
              refine lv_aload_n hx hb dX2_breachesNow_27 rfl (lv_at hl 0 rfl) ?_
              refine mg_56 X M dX2_breachesNow_28 ?_
              refine lv_iload hx hb dX2_breachesNow_31 (lv_at hl 5 rfl) ?_
              refine mr_56 X M (f := Rr 56) rfl (j := j) (vp_in_nI (by omega) (by omega)) (nI_clamp (by omega)) dX2_breachesNow_33 ?_
              refine lv_iload_n hx hb dX2_breachesNow_34 rfl (lv_at hl 2 rfl) ?_
              refine lv_icmp_ne (tgt := 59) hx hb dX2_breachesNow_35 (by decide) (fun c_7 => ?_) (fun c_7 => ?_)
              · -- c_7: Rr 56 j ≠ nI i
                refine lv_iload_n hx hb dX2_breachesNow_59 rfl (lv_at hl 3 rfl) ?_
                refine lv_istore_n (lv' := [(3, .int x), (0, .ref h), (1, .int a), (2, .int (nI i)), (4, .int y), (5, .int (nI j))]) hx hb dX2_breachesNow_60 rfl hl (by decide) rfl (fun ls hl => ?_)
                refine lv_aload_n hx hb dX2_breachesNow_61 rfl (lv_at hl 1 rfl) ?_
                refine mg_56 X M dX2_breachesNow_62 ?_
                refine lv_iload hx hb dX2_breachesNow_65 (lv_at hl 5 rfl) ?_
                refine mr_56 X M (f := Rr 56) rfl (j := j) (vp_in_nI (by omega) (by omega)) (nI_clamp (by omega)) dX2_breachesNow_67 ?_
                refine lv_iload_n hx hb dX2_breachesNow_68 rfl (lv_at hl 3 rfl) ?_
                refine lv_icmp_ne (tgt := 94) hx hb dX2_breachesNow_69 (by decide) (fun c_8 => ?_) (fun c_8 => absurd c_8 c_7)
                refine lv_iload hx hb dX2_breachesNow_94 (lv_at hl 4 rfl) ?_
                refine lv_istore (lv' := [(4, .int y), (3, .int x), (0, .ref h), (1, .int a), (2, .int (nI i)), (5, .int (nI j))]) hx hb dX2_breachesNow_96 hl (by decide) rfl (fun ls hl => ?_)
                refine lv_iinc (v := nI (j + 1)) (lv' := [(5, .int (nI (j + 1))), (4, .int y), (3, .int x), (0, .ref h), (1, .int a), (2, .int (nI i))]) hx hb dX2_breachesNow_98 hl (k := 5) rfl (mk_inc _) (by decide) rfl (fun ls hl => ?_)
                refine lv_goto (tgt := 18) hx hb dX2_breachesNow_101 (by decide) ?_
                exact L_3ih  (j + 1) x y (by omega) (by first | (rw [itr_s, ← qxy]; done) | (rw [itr_s, ← qxy]; first | (simp [m_lnS, em55, c_2, c_4, c_7, up_s, up_n, nI_1, b2i]; done) | (simp_all [m_lnS]; done) | grind [m_lnS])) (by omega) ls (lv_sub hl [3, 4, 5, 2, 1, 0] rfl)
              · -- c_7: Rr 56 j = nI i
                refine lv_aload_n hx hb dX2_breachesNow_38 rfl (lv_at hl 0 rfl) ?_
                refine mg_57 X M dX2_breachesNow_39 ?_
                refine lv_iload hx hb dX2_breachesNow_42 (lv_at hl 5 rfl) ?_
                refine mr_57 X M (f := Rr 57) rfl (j := j) (vp_in_nI (by omega) (by omega)) (nI_clamp (by omega)) dX2_breachesNow_44 ?_
                refine lv_iload_n hx hb dX2_breachesNow_45 rfl (lv_at hl 3 rfl) ?_
                refine lb_icmp_le (tgt := 59) hx hb dX2_breachesNow_46 (by decide) (fun c_9 c_9' => ?_) (fun c_9 c_9' => ?_)
                · -- c_9: Rr 57 j ≤ x
                  refine lv_iload_n hx hb dX2_breachesNow_59 rfl (lv_at hl 3 rfl) ?_
                  refine lv_istore_n (lv' := [(3, .int x), (0, .ref h), (1, .int a), (2, .int (nI i)), (4, .int y), (5, .int (nI j))]) hx hb dX2_breachesNow_60 rfl hl (by decide) rfl (fun ls hl => ?_)
                  refine lv_aload_n hx hb dX2_breachesNow_61 rfl (lv_at hl 1 rfl) ?_
                  refine mg_56 X M dX2_breachesNow_62 ?_
                  refine lv_iload hx hb dX2_breachesNow_65 (lv_at hl 5 rfl) ?_
                  refine mr_56 X M (f := Rr 56) rfl (j := j) (vp_in_nI (by omega) (by omega)) (nI_clamp (by omega)) dX2_breachesNow_67 ?_
                  refine lv_iload_n hx hb dX2_breachesNow_68 rfl (lv_at hl 3 rfl) ?_
                  refine lv_icmp_ne (tgt := 94) hx hb dX2_breachesNow_69 (by decide) (fun c_10 => absurd c_7 c_10) (fun c_10 => ?_)
                  refine lv_aload_n hx hb dX2_breachesNow_72 rfl (lv_at hl 1 rfl) ?_
                  refine mg_58 X M dX2_breachesNow_73 ?_
                  refine lv_iload hx hb dX2_breachesNow_76 (lv_at hl 5 rfl) ?_
                  refine mr_58 X M (f := Rr 58) rfl (j := j) (vp_in_nI (by omega) (by omega)) (nI_clamp (by omega)) dX2_breachesNow_78 ?_
                  refine lv_iload hx hb dX2_breachesNow_79 (lv_at hl 4 rfl) ?_
                  refine lb_icmp_le (tgt := 94) hx hb dX2_breachesNow_81 (by decide) (fun c_11 c_11' => ?_) (fun c_11 c_11' => ?_)
                  · -- c_11: Rr 58 j ≤ y
                    refine lv_iload hx hb dX2_breachesNow_94 (lv_at hl 4 rfl) ?_
                    refine lv_istore (lv' := [(4, .int y), (3, .int x), (0, .ref h), (1, .int a), (2, .int (nI i)), (5, .int (nI j))]) hx hb dX2_breachesNow_96 hl (by decide) rfl (fun ls hl => ?_)
                    refine lv_iinc (v := nI (j + 1)) (lv' := [(5, .int (nI (j + 1))), (4, .int y), (3, .int x), (0, .ref h), (1, .int a), (2, .int (nI i))]) hx hb dX2_breachesNow_98 hl (k := 5) rfl (mk_inc _) (by decide) rfl (fun ls hl => ?_)
                    refine lv_goto (tgt := 18) hx hb dX2_breachesNow_101 (by decide) ?_
                    exact L_3ih  (j + 1) x y (by omega) (by first | (rw [itr_s, ← qxy]; done) | (rw [itr_s, ← qxy]; first | (simp [m_lnS, em55, c_2, c_4, c_7, c_9, c_9', c_11, c_11', up_s, up_n, nI_1, b2i]; done) | (simp_all [m_lnS]; done) | grind [m_lnS])) (by omega) ls (lv_sub hl [3, 4, 5, 2, 1, 0] rfl)
                  · -- c_11: Rr 58 j > y
                    refine lv_aload_n hx hb dX2_breachesNow_84 rfl (lv_at hl 1 rfl) ?_
                    refine mg_58 X M dX2_breachesNow_85 ?_
                    refine lv_iload hx hb dX2_breachesNow_88 (lv_at hl 5 rfl) ?_
                    refine mr_58 X M (f := Rr 58) rfl (j := j) (vp_in_nI (by omega) (by omega)) (nI_clamp (by omega)) dX2_breachesNow_90 ?_
                    refine lv_goto (tgt := 96) hx hb dX2_breachesNow_91 (by decide) ?_
                    refine lv_istore (lv' := [(4, .int (Rr 58 j)), (3, .int x), (0, .ref h), (1, .int a), (2, .int (nI i)), (5, .int (nI j))]) hx hb dX2_breachesNow_96 hl (by decide) rfl (fun ls hl => ?_)
                    refine lv_iinc (v := nI (j + 1)) (lv' := [(5, .int (nI (j + 1))), (4, .int (Rr 58 j)), (3, .int x), (0, .ref h), (1, .int a), (2, .int (nI i))]) hx hb dX2_breachesNow_98 hl (k := 5) rfl (mk_inc _) (by decide) rfl (fun ls hl => ?_)
                    refine lv_goto (tgt := 18) hx hb dX2_breachesNow_101 (by decide) ?_
                    exact L_3ih  (j + 1) x (Rr 58 j) (by omega) (by first | (rw [itr_s, ← qxy]; done) | (rw [itr_s, ← qxy]; first | (simp [m_lnS, em55, c_2, c_4, c_7, c_9, c_9', c_11, c_11', up_s, up_n, nI_1, b2i]; done) | (simp_all [m_lnS]; done) | grind [m_lnS])) (by omega) ls (lv_sub hl [3, 4, 5, 2, 1, 0] rfl)
                · -- c_9: Rr 57 j > x
                  refine lv_aload_n hx hb dX2_breachesNow_49 rfl (lv_at hl 0 rfl) ?_
                  refine mg_57 X M dX2_breachesNow_50 ?_
                  refine lv_iload hx hb dX2_breachesNow_53 (lv_at hl 5 rfl) ?_
                  refine mr_57 X M (f := Rr 57) rfl (j := j) (vp_in_nI (by omega) (by omega)) (nI_clamp (by omega)) dX2_breachesNow_55 ?_
                  refine lv_goto (tgt := 60) hx hb dX2_breachesNow_56 (by decide) ?_
                  refine lv_istore_n (lv' := [(3, .int (Rr 57 j)), (0, .ref h), (1, .int a), (2, .int (nI i)), (4, .int y), (5, .int (nI j))]) hx hb dX2_breachesNow_60 rfl hl (by decide) rfl (fun ls hl => ?_)
                  refine lv_aload_n hx hb dX2_breachesNow_61 rfl (lv_at hl 1 rfl) ?_
                  refine mg_56 X M dX2_breachesNow_62 ?_
                  refine lv_iload hx hb dX2_breachesNow_65 (lv_at hl 5 rfl) ?_
                  refine mr_56 X M (f := Rr 56) rfl (j := j) (vp_in_nI (by omega) (by omega)) (nI_clamp (by omega)) dX2_breachesNow_67 ?_
                  refine lv_iload_n hx hb dX2_breachesNow_68 rfl (lv_at hl 3 rfl) ?_
                  refine lv_icmp_ne (tgt := 94) hx hb dX2_breachesNow_69 (by decide) (fun c_12 => absurd c_7 c_12) (fun c_12 => ?_)
                  refine lv_aload_n hx hb dX2_breachesNow_72 rfl (lv_at hl 1 rfl) ?_
                  refine mg_58 X M dX2_breachesNow_73 ?_
                  refine lv_iload hx hb dX2_breachesNow_76 (lv_at hl 5 rfl) ?_
                  refine mr_58 X M (f := Rr 58) rfl (j := j) (vp_in_nI (by omega) (by omega)) (nI_clamp (by omega)) dX2_breachesNow_78 ?_
                  refine lv_iload hx hb dX2_breachesNow_79 (lv_at hl 4 rfl) ?_
                  refine lb_icmp_le (tgt := 94) hx hb dX2_breachesNow_81 (by decide) (fun c_13 c_13' => ?_) (fun c_13 c_13' => ?_)
                  · -- c_13: Rr 58 j ≤ y
                    refine lv_iload hx hb dX2_breachesNow_94 (lv_at hl 4 rfl) ?_
                    refine lv_istore (lv' := [(4, .int y), (3, .int (Rr 57 j)), (0, .ref h), (1, .int a), (2, .int (nI i)), (5, .int (nI j))]) hx hb dX2_breachesNow_96 hl (by decide) rfl (fun ls hl => ?_)
                    refine lv_iinc (v := nI (j + 1)) (lv' := [(5, .int (nI (j + 1))), (4, .int y), (3, .int (Rr 57 j)), (0, .ref h), (1, .int a), (2, .int (nI i))]) hx hb dX2_breachesNow_98 hl (k := 5) rfl (mk_inc _) (by decide) rfl (fun ls hl => ?_)
                    refine lv_goto (tgt := 18) hx hb dX2_breachesNow_101 (by decide) ?_
                    exact L_3ih  (j + 1) (Rr 57 j) y (by omega) (by first | (rw [itr_s, ← qxy]; done) | (rw [itr_s, ← qxy]; first | (simp [m_lnS, em55, c_2, c_4, c_7, c_9, c_9', c_13, c_13', up_s, up_n, nI_1, b2i]; done) | (simp_all [m_lnS]; done) | grind [m_lnS])) (by omega) ls (lv_sub hl [3, 4, 5, 2, 1, 0] rfl)
                  · -- c_13: Rr 58 j > y
                    refine lv_aload_n hx hb dX2_breachesNow_84 rfl (lv_at hl 1 rfl) ?_
                    refine mg_58 X M dX2_breachesNow_85 ?_
                    refine lv_iload hx hb dX2_breachesNow_88 (lv_at hl 5 rfl) ?_
                    refine mr_58 X M (f := Rr 58) rfl (j := j) (vp_in_nI (by omega) (by omega)) (nI_clamp (by omega)) dX2_breachesNow_90 ?_
                    refine lv_goto (tgt := 96) hx hb dX2_breachesNow_91 (by decide) ?_
                    refine lv_istore (lv' := [(4, .int (Rr 58 j)), (3, .int (Rr 57 j)), (0, .ref h), (1, .int a), (2, .int (nI i)), (5, .int (nI j))]) hx hb dX2_breachesNow_96 hl (by decide) rfl (fun ls hl => ?_)
                    refine lv_iinc (v := nI (j + 1)) (lv' := [(5, .int (nI (j + 1))), (4, .int (Rr 58 j)), (3, .int (Rr 57 j)), (0, .ref h), (1, .int a), (2, .int (nI i))]) hx hb dX2_breachesNow_98 hl (k := 5) rfl (mk_inc _) (by decide) rfl (fun ls hl => ?_)
                    refine lv_goto (tgt := 18) hx hb dX2_breachesNow_101 (by decide) ?_
                    exact L_3ih  (j + 1) (Rr 57 j) (Rr 58 j) (by omega) (by first | (rw [itr_s, ← qxy]; done) | (rw [itr_s, ← qxy]; first | (simp [m_lnS, em55, c_2, c_4, c_7, c_9, c_9', c_13, c_13', up_s, up_n, nI_1, b2i]; done) | (simp_all [m_lnS]; done) | grind [m_lnS])) (by omega) ls (lv_sub hl [3, 4, 5, 2, 1, 0] rfl)
        exact L_3 ((n55 - 0) + 1) 0 0 0 (Nat.zero_le _) (by first | rfl | (simp only [itr]; assumption) | (simp [itr, em55, c_2, up_s, up_n, nI_1, b2i]; done)) (Nat.lt_succ_self _) ls (lv_sub hl [3, 4, 5, 2, 1, 0] rfl)
  exact L_1 ((12 - 0) + 1) 0 0 (Nat.zero_le _) (by first | rfl | (simp only [itr]; assumption) | (simp [itr, em55, up_s, up_n, nI_1, b2i]; done)) (Nat.lt_succ_self _) ls (lv_sub hl [2, 1, 0] rfl)

set_option maxHeartbeats 4000000 in
set_option maxRecDepth 100000 in
theorem metX2_breaches (l : Launch) (D : va_G) (cl : List vw_C) (hcl : cl[0]? = some (RX2, TX2, 61)) (h : Nat) (ad : Nat → Nat) (dA : ClassId) (F : Nat → Int32) (Rr : Nat → Nat → Int32) (h55 : cnB (F 55) 20) : Met l yX2_breaches (ws_ yX2_breaches cX2_breaches 1 (some .int)) ({ frames := 1, cells := 0, slots := 0, locals := 25 } : Room) (va_Pc [.ref h] (mPre D cl h ad dA F Rr)) (va_Qi (fun r u => (r, u) = (m_breaches (F 55) Rr, va_up F 0 0, Rr)) (mB D cl h ad dA) (mN h ad)) 0 0 (mN h ad) := by
  refine Met.ofW (cc := cX2_breaches) (maxL := 1) (ret := (some .int)) (by decide) rfl ?_
  intro p e s m args below meth c s₁ B hml hv
  obtain ⟨rfl, hK, hP, hD⟩ := hv
  have hx := B.exec
  have hb := B.bytes
  have hr := B.returns
  have hts := atoms_spec (ws := (ws_ yX2_breaches cX2_breaches 1 (some .int))) B.pre
  have hts : ∀ w ∈ lw_all, w.before _ s = true := fun w h => hts w (List.mem_cons_of_mem _ h)
  have hown : s.vm.findClass RX2 = some m.cls := findClass_of_methodNamed B.named
  have hlocks := B.notSynchronized
  have S : CallFix p m c cX2_breaches 1 s ([.ref h] : List Value).toArray lw_all RX2 := ⟨hx, hb, hml, hown, hts⟩
  have X : mX p s m ([.ref h] : List Value).toArray c cX2_breaches 1 D cl dA := ⟨hx, hb, hml, hown, hts, hK, hcl⟩
  have M : mM D cl h ad dA (mN h ad) s F Rr s.heap [] := ⟨hP, mW_self hD, va_S.rf⟩
  have hl := lv_entry ([.ref h]) (n := 1) (Nat.le_of_ble_eq_true rfl)
  rw [lg_entry_eq]
  generalize (lg_sl ([.ref h]) ++ List.replicate (1 - (lg_sl ([.ref h])).length) Slot.unset).toArray = ls at hl ⊢
  have hl : lv_has ls 1 [(0, .ref h)] := hl
  refine lv_aload_n hx hb dX2_breaches_0 rfl (lv_at hl 0 rfl) ?_
  refine lv_iconst (v := 0) hx hb dX2_breaches_1 (by decide) ?_
  refine mp_0 X M dX2_breaches_2 (fun H locs M => ?_)
  refine lv_aload_n hx hb dX2_breaches_5 rfl (lv_at hl 0 rfl) ?_
  refine m_cQ (v := m_breaches (F 55) Rr) (As := []) (rest := []) X M (metX2_breachesNow l D cl hcl h ad dA (va_up F 0 0) Rr  h55) (cwV 0 hts (lw_V q1897 q1899 qs50 q62 q1900) rfl rfl rfl (by decide +kernel) ⟨Nat.le_of_ble_eq_true rfl, Nat.le_of_ble_eq_true rfl⟩) rfl hl.1 rfl (Nat.le_of_ble_eq_true rfl) dX2_breaches_6 ⟨Nat.zero_le _, Nat.zero_le _⟩ ?_
  exact W.iret (v := m_breaches (F 55) Rr) hx hb hr (fun t9 ht9 hW9 => ⟨⟨_, (va_up F 0 0, Rr), rfl, rfl, by show va_P _ _ _ t9.heap; rw [ht9]; exact M.1⟩, M.2.2.F ht9⟩) M.2.2.2.2 dX2_breaches_9

