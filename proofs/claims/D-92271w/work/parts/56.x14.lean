/-! THE SYSTEM, 12: agree -/
abbrev aX : Type := (Nat → Int32) × (Nat → Int32) × Int32
def x_agrS (Rr : Nat → Nat → Int32) (k : Nat) (z : aX) : aX := (upd z.1 (Rr 110 k).toNatClampNeg (x_bit (Rr 111 k)), upd z.2.1 (Rr 110 k).toNatClampNeg (z.2.1 (Rr 110 k).toNatClampNeg + (if Rr 111 k = 0 then -1 else 1)), z.2.2 + (if inB (Rr 1 (Rr 112 k).toNatClampNeg) (Rr 2 (Rr 112 k).toNatClampNeg - 1) (Rr 114 k) = false ∨ z.1 (Rr 110 k).toNatClampNeg = Rr 111 k then 1 else 0))
theorem x_agr_step {Rr : Nat → Nat → Int32} {i : Nat} {f1 f2 : Nat → Int32} {wr d e : Int32} (hd : d = (if Rr 111 i = 0 then -1 else 1)) (he : e = (if inB (Rr 1 (Rr 112 i).toNatClampNeg) (Rr 2 (Rr 112 i).toNatClampNeg - 1) (Rr 114 i) = false ∨ f1 (Rr 110 i).toNatClampNeg = Rr 111 i then 1 else 0)) : (upd f1 (Rr 110 i).toNatClampNeg (x_bit (Rr 111 i)), upd f2 (Rr 110 i).toNatClampNeg (f2 (Rr 110 i).toNatClampNeg + d), wr + e) = x_agrS Rr i (f1, f2, wr) := by subst hd he; rfl
def x_agr (Rr : Nat → Nat → Int32) (n : Nat) : aX := itr (x_agrS Rr) n (fun _ => 0, fun _ => 0, 0)
def x_agrC (what : Int32) (f g : Nat → Int32) (c : Nat) (n : Int32) : Int32 := n + (if what = 1 then (if f c = 0 then 0 else 1) else if g c < 0 then 1 else 0)
def x_agree (F : Nat → Int32) (Rr : Nat → Nat → Int32) (what : Int32) : Int32 × mST := if inB 0 2 what = false then ((-1000001), F, Rr) else if what = 0 then ((x_agr Rr (F 11).toNatClampNeg).2.2, F, Rr) else (itr (x_agrC what (x_agr Rr (F 11).toNatClampNeg).1 (x_agr Rr (F 11).toNatClampNeg).2.1) 16 0, F, Rr)
set_option maxHeartbeats 4000000 in
set_option maxRecDepth 100000 in
theorem metX0_agree (l : Launch) (D : va_G) (dA : Nat → ClassId) (A : Nat → Prop) (e0 h : Nat) (G : xG) (T : va_W) (F : Nat → Int32) (Rr : Nat → Nat → Int32) (p1 : Int32) (h11p : ∀ k, k < (F 11).toNatClampNeg → cnB (Rr 110 k) 15 ∧ cnB (Rr 112 k) 8 ∧ (Rr 110 k).toNatClampNeg < (F 10).toNatClampNeg ∧ (Rr 111 k = 0 ∨ Rr 111 k = 1)) : Met l yX0_agree (ws_ yX0_agree cX0_agree 7 (some .int)) ({ frames := 3, cells := 2, slots := 32, locals := 64 } : Room) (va_Pc [.ref h, .int p1] (xPre D dA A e0 h G T F Rr)) (va_Qi (fun r u => (r, u) = x_agree F Rr p1) (xB D dA A e0 h G T) A) 2 32 A := by
  refine Met.ofW (cc := cX0_agree) (maxL := 7) (ret := (some .int)) (by decide) rfl ?_
  intro p e s m args below meth c s₁ B hml hv
  obtain ⟨rfl, hC, hP, hD, hI⟩ := hv
  have hx := B.exec
  have hb := B.bytes
  have hr := B.returns
  have hts := atoms_spec (ws := (ws_ yX0_agree cX0_agree 7 (some .int))) B.pre
  have hts : ∀ w ∈ lw_all, w.before _ s = true := fun w h => hts w (List.mem_cons_of_mem _ h)
  have hown : s.vm.findClass RX0 = some m.cls := findClass_of_methodNamed B.named
  have hlocks := B.notSynchronized
  have S : CallFix p m c cX0_agree 7 s ([.ref h, .int p1] : List Value).toArray lw_all RX0 := ⟨hx, hb, hml, hown, hts⟩
  have X : xX RX0 p s m ([.ref h, .int p1] : List Value).toArray c cX0_agree 7 D dA A e0 := ⟨S, hC⟩
  have M : xM D dA A e0 h G T s F Rr s.heap [] := ⟨hP, hD, va_S.rf, hI⟩
  have hl := lv_entry ([.ref h, .int p1]) (n := 7) (Nat.le_of_ble_eq_true rfl)
  rw [lg_entry_eq]
  generalize (lg_sl ([.ref h, .int p1]) ++ List.replicate (7 - (lg_sl ([.ref h, .int p1])).length) Slot.unset).toArray = ls at hl ⊢
  have hl : lv_has ls 7 [(0, .ref h), (1, .int p1)] := hl
  have h11 : cnB (F 11) 60 := hI.2.2.1.1
  obtain ⟨n11, hn11, en11⟩ := cnB_ex h11 (n := 60) rfl
  have em11 : (F 11).toNatClampNeg = n11 := by rw [en11]; exact nI_clamp (by omega)
  have ec11 : (nI n11).toNatClampNeg = n11 := nI_clamp (by omega)
  refine lv_iload_n hx hb dX0_agree_0 rfl (lv_at hl 1 rfl) ?_
  refine lv_i2l (v := p1.toInt64) hx hb dX0_agree_1 rfl ?_
  refine lv_lconst (v := 0) hx hb dX0_agree_2 (by decide) ?_
  refine lv_ldc2 (v := 2) hx hb hown (hts _ q233) dX0_agree_3 ?_
  refine s_cI (v := b2i (inB 0 2 p1)) (As := [.long p1.toInt64, .long 0, .long 2]) (rest := []) S (metX0_isInI l p1 0 2 p1.toInt64 0 2 rfl rfl rfl) (va_cwS 3 hts (lw_S q230 q231 q57 q232) rfl rfl rfl (by decide +kernel) ⟨Nat.le_of_ble_eq_true rfl, Nat.le_of_ble_eq_true rfl⟩) rfl hl.1 rfl (Nat.le_of_ble_eq_true rfl) dX0_agree_6 ⟨Nat.le_of_ble_eq_true rfl, Nat.le_of_ble_eq_true rfl⟩ ?_
  refine lz_if_ne (tgt := 15) hx hb dX0_agree_9 (by decide) (fun c_1 => ?_) (fun c_1 => ?_)
  · -- c_1: inB 0 2 p1 = true
    refine lv_bipush (v := 16) hx hb dX0_agree_15 (by decide) ?_
    refine g_newz (N' := 16) X (X.hts _ q1022) M.1 M.2.1 M.2.2.1 (by decide) (by decide) (Nat.le_of_ble_eq_true rfl) (Nat.le_of_ble_eq_true rfl) (Nat.le_of_ble_eq_true rfl) dX0_agree_17 (fun q_2 H hP hD hS => ?_)
    have M := xM_push M hP hD hS
    have M : xM D dA A e0 h G (T ++ [(q_2, .inl (dA 2, 16, .inl (fun _ => 0)))]) s F Rr H _ := M
    refine W.widen (k := 1) (n := 16) (Nat.le_of_ble_eq_true rfl) (Nat.le_of_ble_eq_true rfl) ?_
    refine lv_astore_n (lv' := [(2, .ref q_2), (0, .ref h), (1, .int p1)]) hx hb dX0_agree_19 rfl hl (by decide) rfl (fun ls hl => ?_)
    refine lv_bipush (v := 16) hx hb dX0_agree_20 (by decide) ?_
    refine g_newi (N' := 16) X (X.hts _ q130) M.1 M.2.1 M.2.2.1 (by decide) (by decide) (Nat.le_of_ble_eq_true rfl) (Nat.le_of_ble_eq_true rfl) (Nat.le_of_ble_eq_true rfl) dX0_agree_22 (fun q_3 H hP hD hS => ?_)
    have M := xM_push M hP hD hS
    rw [List.append_assoc] at M
    have M : xM D dA A e0 h G (T ++ [(q_2, .inl (dA 2, 16, .inl (fun _ => 0))), (q_3, .inl (dA 0, 16, .inl (fun _ => 0)))]) s F Rr H _ := M
    refine W.widen (k := 2) (n := 32) (Nat.le_of_ble_eq_true rfl) (Nat.le_of_ble_eq_true rfl) ?_
    refine lv_astore_n (lv' := [(3, .ref q_3), (2, .ref q_2), (0, .ref h), (1, .int p1)]) hx hb dX0_agree_24 rfl hl (by decide) rfl (fun ls hl => ?_)
    refine lv_iconst (v := 0) hx hb dX0_agree_25 (by decide) ?_
    refine lv_istore (lv' := [(4, .int 0), (3, .ref q_3), (2, .ref q_2), (0, .ref h), (1, .int p1)]) hx hb dX0_agree_26 hl (by decide) rfl (fun ls hl => ?_)
    refine lv_iconst (v := 0) hx hb dX0_agree_28 (by decide) ?_
    refine lv_istore (lv' := [(5, .int 0), (4, .int 0), (3, .ref q_3), (2, .ref q_2), (0, .ref h), (1, .int p1)]) hx hb dX0_agree_29 hl (by decide) rfl (fun ls hl => ?_)
    have L_4 : ∀ (fuL_4 : Nat) (i : Nat) (f1 : Nat → Int32) (f2 : Nat → Int32) (wr : Int32), (i ≤ n11) → ((f1, f2, wr) = x_agr Rr i) → n11 - i < fuL_4 → ∀ (H : Heap) (locs : List Loc), xM D dA A e0 h G (T ++ [(q_2, .inl (dA 2, 16, .inl f1)), (q_3, .inl (dA 0, 16, .inl f2))]) s F Rr H locs → ∀ ls, lv_has ls 7 [(0, .ref h), (1, .int p1), (2, .ref q_2), (3, .ref q_3), (4, .int wr), (5, .int (nI i))] → W p l e ({ frames := 3, cells := 2, slots := 32, locals := 64 } : Room) s m ([.ref h, .int p1] : List Value).toArray below meth c H locs 2 32 (MQ below (va_Qi (fun r u => (r, u) = x_agree F Rr p1) (xB D dA A e0 h G T) A) ([.ref h, .int p1] : List Value).toArray s 2 32 A) (F0 m 31 ls []) := by
      intro fuL_4
      induction fuL_4 with
      | zero => intro i f1 f2 wr hi hq hfuL_4; exact absurd hfuL_4 (Nat.not_lt_zero _)
      | succ fuL_4 L_4ih =>
        intro i f1 f2 wr hi hq hfuL_4 H locs M ls hl
        refine lv_iload hx hb dX0_agree_31 (lv_at hl 5 rfl) ?_
        refine lv_aload_n hx hb dX0_agree_33 rfl (lv_at hl 0 rfl) ?_
        refine xg_11 X M dX0_agree_34 ?_
        refine xl_size_11 X M (v := F 11) rfl hl.1 ⟨Nat.le_of_ble_eq_true rfl, Nat.le_of_ble_eq_true rfl⟩ ⟨Nat.le_of_ble_eq_true rfl, Nat.le_of_ble_eq_true rfl⟩ (Nat.le_of_ble_eq_true rfl) dX0_agree_37 ?_
        refine lv_asi (y := nI n11) en11 ?_
        refine ln_icmp_ge (tgt := 144) hx hb (a := i) (b := n11) (by omega) (by omega) dX0_agree_42 (by decide) (fun c_5 => ?_) (fun c_5 => ?_)
        · -- c_5: nI i ≥ nI n11
          have ei : i = n11 := by omega
          rw [ei] at hq
          have hz1 : (x_agr Rr n11).1 = f1 := by rw [← hq]
          have hz2 : (x_agr Rr n11).2.1 = f2 := by rw [← hq]
          have hz3 : (x_agr Rr n11).2.2 = wr := by rw [← hq]
          refine lv_iload_n hx hb dX0_agree_144 rfl (lv_at hl 1 rfl) ?_
          refine lv_if_ne (tgt := 151) hx hb dX0_agree_145 (by decide) (fun c_6 => ?_) (fun c_6 => ?_)
          · -- c_6: p1 ≠ 0
            refine lv_iconst (v := 0) hx hb dX0_agree_151 (by decide) ?_
            refine lv_istore (lv' := [(5, .int 0), (0, .ref h), (1, .int p1), (2, .ref q_2), (3, .ref q_3), (4, .int wr)]) hx hb dX0_agree_152 hl (by decide) rfl (fun ls hl => ?_)
            refine lv_iconst (v := 0) hx hb dX0_agree_154 (by decide) ?_
            refine lv_istore (lv' := [(6, .int 0), (5, .int 0), (0, .ref h), (1, .int p1), (2, .ref q_2), (3, .ref q_3), (4, .int wr)]) hx hb dX0_agree_155 hl (by decide) rfl (fun ls hl => ?_)
            have L_7 : ∀ (fuL_7 : Nat) (c2 : Nat) (n : Int32), (c2 ≤ 16) → (n = itr (x_agrC p1 f1 f2) c2 0) → 16 - c2 < fuL_7 → ∀ (H : Heap) (locs : List Loc), xM D dA A e0 h G (T ++ [(q_2, .inl (dA 2, 16, .inl f1)), (q_3, .inl (dA 0, 16, .inl f2))]) s F Rr H locs → ∀ ls, lv_has ls 7 [(0, .ref h), (1, .int p1), (2, .ref q_2), (3, .ref q_3), (4, .int wr), (5, .int n), (6, .int (nI c2))] → W p l e ({ frames := 3, cells := 2, slots := 32, locals := 64 } : Room) s m ([.ref h, .int p1] : List Value).toArray below meth c H locs 2 32 (MQ below (va_Qi (fun r u => (r, u) = x_agree F Rr p1) (xB D dA A e0 h G T) A) ([.ref h, .int p1] : List Value).toArray s 2 32 A) (F0 m 157 ls []) := by
              intro fuL_7
              induction fuL_7 with
              | zero => intro c2 n hc2 qn hfuL_7; exact absurd hfuL_7 (Nat.not_lt_zero _)
              | succ fuL_7 L_7ih =>
                intro c2 n hc2 qn hfuL_7 H locs M ls hl
                refine lv_iload hx hb dX0_agree_157 (lv_at hl 6 rfl) ?_
                refine lv_bipush (v := 16) hx hb dX0_agree_159 (by decide) ?_
                refine ln_icmp_ge (tgt := 207) hx hb (a := c2) (b := 16) (by omega) (by omega) dX0_agree_161 (by decide) (fun c_8 => ?_) (fun c_8 => ?_)
                · -- c_8: nI c2 ≥ 16
                  have ec2 : c2 = 16 := by omega
                  rw [ec2] at qn
                  refine lv_iload hx hb dX0_agree_207 (lv_at hl 5 rfl) ?_
                  have M := xM_drop M
                  exact W.iret (v := n) hx hb hr (fun t9 ht9 hW9 => ⟨⟨_, (F, Rr), rfl, (by simp [x_agree, em11, ec11, c_1, c_5, hz1, hz2, hz3, c_6, c_8, ← qn]), ⟨G, (xext.rf _), by rw [ht9]; exact M.1, M.2.1, M.2.2.2⟩⟩, M.2.2.1.F ht9⟩) M.2.2.1.2.2 dX0_agree_209
                · -- c_8: nI c2 < 16
                  refine lv_iload hx hb dX0_agree_164 (lv_at hl 5 rfl) ?_
                  refine lv_iload_n hx hb dX0_agree_166 rfl (lv_at hl 1 rfl) ?_
                  refine lv_iconst (v := 1) hx hb dX0_agree_167 (by decide) ?_
                  refine lv_icmp_ne (tgt := 186) hx hb dX0_agree_168 (by decide) (fun c_9 => ?_) (fun c_9 => ?_)
                  · -- c_9: p1 ≠ 1
                    refine lv_aload_n hx hb dX0_agree_186 rfl (lv_at hl 3 rfl) ?_
                    refine lv_iload hx hb dX0_agree_187 (lv_at hl 6 rfl) ?_
                    refine g_iald (n := 16) (f := f2) (j := c2) X M.1 (21 + (T.length + 1)) 0 (xT_k (T := T) (j := 1) rfl) rfl (vp_in_nI (by omega) (by omega)) (nI_clamp (by omega)) dX0_agree_189 ?_
                    refine lb_if_ge (tgt := 197) hx hb dX0_agree_190 (by decide) (fun c_10 c_10' => ?_) (fun c_10 c_10' => ?_)
                    · -- c_10: f2 c2 ≥ 0
                      refine lv_iconst (v := 0) hx hb dX0_agree_197 (by decide) ?_
                      refine lv_iadd hx hb dX0_agree_198 ?_
                      refine lv_istore (lv' := [(5, .int (n + 0)), (0, .ref h), (1, .int p1), (2, .ref q_2), (3, .ref q_3), (4, .int wr), (6, .int (nI c2))]) hx hb dX0_agree_199 hl (by decide) rfl (fun ls hl => ?_)
                      refine lv_iinc (v := nI (c2 + 1)) (lv' := [(6, .int (nI (c2 + 1))), (5, .int (n + 0)), (0, .ref h), (1, .int p1), (2, .ref q_2), (3, .ref q_3), (4, .int wr)]) hx hb dX0_agree_201 hl (k := 6) rfl (mk_inc _) (by decide) rfl (fun ls hl => ?_)
                      refine lv_goto (tgt := 157) hx hb dX0_agree_204 (by decide) ?_
                      exact L_7ih  (c2 + 1) (n + 0) (by omega) (by first | (rw [itr_s, ← qn]; done) | (rw [itr_s, ← qn]; first | (simp [x_agrC, em11, ec11, c_1, c_5, hz1, hz2, hz3, c_6, c_8, c_9, c_10, c_10', up_s, up_n, nI_1, b2i]; done) | (simp_all [x_agrC]; done) | grind [x_agrC])) (by omega) _ _ M ls (lv_sub hl [2, 3, 4, 5, 6, 1, 0] rfl)
                    · -- c_10: f2 c2 < 0
                      refine lv_iconst (v := 1) hx hb dX0_agree_193 (by decide) ?_
                      refine lv_goto (tgt := 198) hx hb dX0_agree_194 (by decide) ?_
                      refine lv_iadd hx hb dX0_agree_198 ?_
                      refine lv_istore (lv' := [(5, .int (n + 1)), (0, .ref h), (1, .int p1), (2, .ref q_2), (3, .ref q_3), (4, .int wr), (6, .int (nI c2))]) hx hb dX0_agree_199 hl (by decide) rfl (fun ls hl => ?_)
                      refine lv_iinc (v := nI (c2 + 1)) (lv' := [(6, .int (nI (c2 + 1))), (5, .int (n + 1)), (0, .ref h), (1, .int p1), (2, .ref q_2), (3, .ref q_3), (4, .int wr)]) hx hb dX0_agree_201 hl (k := 6) rfl (mk_inc _) (by decide) rfl (fun ls hl => ?_)
                      refine lv_goto (tgt := 157) hx hb dX0_agree_204 (by decide) ?_
                      exact L_7ih  (c2 + 1) (n + 1) (by omega) (by first | (rw [itr_s, ← qn]; done) | (rw [itr_s, ← qn]; first | (simp [x_agrC, em11, ec11, c_1, c_5, hz1, hz2, hz3, c_6, c_8, c_9, c_10, c_10', up_s, up_n, nI_1, b2i]; done) | (simp_all [x_agrC]; done) | grind [x_agrC])) (by omega) _ _ M ls (lv_sub hl [2, 3, 4, 5, 6, 1, 0] rfl)
                  · -- c_9: p1 = 1
                    refine lv_aload_n hx hb dX0_agree_171 rfl (lv_at hl 2 rfl) ?_
                    refine lv_iload hx hb dX0_agree_172 (lv_at hl 6 rfl) ?_
                    refine g_zald (n := 16) (f := f1) (j := c2) X M.1 (21 + (T.length + 0)) 2 (xT_k (T := T) (j := 0) rfl) rfl (vp_in_nI (by omega) (by omega)) (nI_clamp (by omega)) dX0_agree_174 ?_
                    refine lv_if_eq (tgt := 182) hx hb dX0_agree_175 (by decide) (fun c_11 => ?_) (fun c_11 => ?_)
                    · -- c_11: f1 c2 = 0
                      refine lv_iconst (v := 0) hx hb dX0_agree_182 (by decide) ?_
                      refine lv_goto (tgt := 198) hx hb dX0_agree_183 (by decide) ?_
                      refine lv_iadd hx hb dX0_agree_198 ?_
                      refine lv_istore (lv' := [(5, .int (n + 0)), (0, .ref h), (1, .int p1), (2, .ref q_2), (3, .ref q_3), (4, .int wr), (6, .int (nI c2))]) hx hb dX0_agree_199 hl (by decide) rfl (fun ls hl => ?_)
                      refine lv_iinc (v := nI (c2 + 1)) (lv' := [(6, .int (nI (c2 + 1))), (5, .int (n + 0)), (0, .ref h), (1, .int p1), (2, .ref q_2), (3, .ref q_3), (4, .int wr)]) hx hb dX0_agree_201 hl (k := 6) rfl (mk_inc _) (by decide) rfl (fun ls hl => ?_)
                      refine lv_goto (tgt := 157) hx hb dX0_agree_204 (by decide) ?_
                      exact L_7ih  (c2 + 1) (n + 0) (by omega) (by first | (rw [itr_s, ← qn]; done) | (rw [itr_s, ← qn]; first | (simp [x_agrC, em11, ec11, c_1, c_5, hz1, hz2, hz3, c_6, c_8, c_9, c_11, up_s, up_n, nI_1, b2i]; done) | (simp_all [x_agrC]; done) | grind [x_agrC])) (by omega) _ _ M ls (lv_sub hl [2, 3, 4, 5, 6, 1, 0] rfl)
                    · -- c_11: f1 c2 ≠ 0
                      refine lv_iconst (v := 1) hx hb dX0_agree_178 (by decide) ?_
                      refine lv_goto (tgt := 198) hx hb dX0_agree_179 (by decide) ?_
                      refine lv_iadd hx hb dX0_agree_198 ?_
                      refine lv_istore (lv' := [(5, .int (n + 1)), (0, .ref h), (1, .int p1), (2, .ref q_2), (3, .ref q_3), (4, .int wr), (6, .int (nI c2))]) hx hb dX0_agree_199 hl (by decide) rfl (fun ls hl => ?_)
                      refine lv_iinc (v := nI (c2 + 1)) (lv' := [(6, .int (nI (c2 + 1))), (5, .int (n + 1)), (0, .ref h), (1, .int p1), (2, .ref q_2), (3, .ref q_3), (4, .int wr)]) hx hb dX0_agree_201 hl (k := 6) rfl (mk_inc _) (by decide) rfl (fun ls hl => ?_)
                      refine lv_goto (tgt := 157) hx hb dX0_agree_204 (by decide) ?_
                      exact L_7ih  (c2 + 1) (n + 1) (by omega) (by first | (rw [itr_s, ← qn]; done) | (rw [itr_s, ← qn]; first | (simp [x_agrC, em11, ec11, c_1, c_5, hz1, hz2, hz3, c_6, c_8, c_9, c_11, up_s, up_n, nI_1, b2i]; done) | (simp_all [x_agrC]; done) | grind [x_agrC])) (by omega) _ _ M ls (lv_sub hl [2, 3, 4, 5, 6, 1, 0] rfl)
            exact L_7 ((16 - 0) + 1) 0 0 (Nat.zero_le _) (by first | rfl | (simp only [itr]; assumption) | (simp [itr, em11, ec11, c_1, c_5, hz1, hz2, hz3, c_6, up_s, up_n, nI_1, b2i]; done)) (Nat.lt_succ_self _) _ _ M ls (lv_sub hl [2, 3, 4, 5, 6, 1, 0] rfl)
          · -- c_6: p1 = 0
            refine lv_iload hx hb dX0_agree_148 (lv_at hl 4 rfl) ?_
            have M := xM_drop M
            exact W.iret (v := wr) hx hb hr (fun t9 ht9 hW9 => ⟨⟨_, (F, Rr), rfl, (by simp [x_agree, show inB 0 2 0 = true from rfl, em11, ec11, c_1, c_5, hz1, hz2, hz3, c_6]), ⟨G, (xext.rf _), by rw [ht9]; exact M.1, M.2.1, M.2.2.2⟩⟩, M.2.2.1.F ht9⟩) M.2.2.1.2.2 dX0_agree_150
        · -- c_5: nI i < nI n11
          refine lv_aload_n hx hb dX0_agree_45 rfl (lv_at hl 0 rfl) ?_
          refine xg_11 X M dX0_agree_46 ?_
          refine lv_iload hx hb dX0_agree_49 (lv_at hl 5 rfl) ?_
          have k_12 : i < (F 11).toNatClampNeg := (by omega)
          refine xl_get_11 X M (k := i) rfl k_12 hl.1 ⟨Nat.le_of_ble_eq_true rfl, Nat.le_of_ble_eq_true rfl⟩ ⟨Nat.le_of_ble_eq_true rfl, Nat.le_of_ble_eq_true rfl⟩ (Nat.le_of_ble_eq_true rfl) dX0_agree_51 ?_
          refine xk_11 X M (k := i) k_12 dX0_agree_56 ?_
          refine lv_astore (lv' := [(6, .ref (xea G 11 i)), (0, .ref h), (1, .int p1), (2, .ref q_2), (3, .ref q_3), (4, .int wr), (5, .int (nI i))]) hx hb dX0_agree_59 hl (by decide) rfl (fun ls hl => ?_)
          refine lv_iload hx hb dX0_agree_61 (lv_at hl 5 rfl) ?_
          refine lv_aload_n hx hb dX0_agree_63 rfl (lv_at hl 1 rfl) ?_
          refine lv_aload hx hb dX0_agree_64 (lv_at hl 0 rfl) ?_
          refine xo_11_2 X M (k := i) k_12 dX0_agree_66 ?_
          have b_13 : (Rr 112 i).toNatClampNeg ≤ 8 := cnB_le (h11p i (by omega)).2.1 rfl
          refine lv_asi (y := nI (Rr 112 i).toNatClampNeg) (nJ_of ((h11p i (by omega)).2.1).1) ?_
          refine lv_aload hx hb dX0_agree_69 (lv_at hl 0 rfl) ?_
          refine xo_11_4 X M (k := i) k_12 dX0_agree_71 ?_
          refine x_cQ (v := b2i (inB (Rr 1 (nI ((Rr 112 i).toNatClampNeg)).toNatClampNeg) (Rr 2 (nI ((Rr 112 i).toNatClampNeg)).toNatClampNeg - 1) (Rr 114 i))) (As := [.int (nI ((Rr 112 i).toNatClampNeg)), .int (Rr 114 i)]) (rest := [.int wr]) X M (metX0_isOpen l D dA A e0 h G _ F Rr (nI ((Rr 112 i).toNatClampNeg)) (Rr 114 i) (vp_in_nI (by omega) (by omega))) (cwV 2 hts (lw_V q1018 q1020 qs18 q57 q1021) rfl rfl rfl (by decide +kernel) ⟨Nat.le_of_ble_eq_true rfl, Nat.le_of_ble_eq_true rfl⟩) rfl hl.1 rfl (Nat.le_of_ble_eq_true rfl) dX0_agree_74 ⟨Nat.le_of_ble_eq_true rfl, Nat.le_of_ble_eq_true rfl⟩ ?_
          refine lz_if_eq (tgt := 95) hx hb dX0_agree_77 (by decide) (fun c_14 => ?_) (fun c_14 => ?_)
          · -- c_14: inB (Rr 1 (nI ((Rr 112 i).toNatClampNeg)).toNatClampNeg) (Rr 2 (nI ((Rr 112 i).toNatClampNeg)).toNatClampNeg - 1) (Rr 114 i) = false
            refine lv_iconst (v := 1) hx hb dX0_agree_95 (by decide) ?_
            refine lv_goto (tgt := 100) hx hb dX0_agree_96 (by decide) ?_
            refine lv_iadd hx hb dX0_agree_100 ?_
            refine lv_istore (lv' := [(4, .int (wr + 1)), (6, .ref (xea G 11 i)), (0, .ref h), (1, .int p1), (2, .ref q_2), (3, .ref q_3), (5, .int (nI i))]) hx hb dX0_agree_101 hl (by decide) rfl (fun ls hl => ?_)
            refine lv_aload_n hx hb dX0_agree_103 rfl (lv_at hl 4 rfl) ?_
            refine lv_aload hx hb dX0_agree_104 (lv_at hl 1 rfl) ?_
            refine xo_11_0 X M (k := i) k_12 dX0_agree_106 ?_
            have b_15 : (Rr 110 i).toNatClampNeg ≤ 15 := cnB_le (h11p i (by omega)).1 rfl
            refine lv_asi (y := nI (Rr 110 i).toNatClampNeg) (nJ_of ((h11p i (by omega)).1).1) ?_
            refine lv_aload hx hb dX0_agree_109 (lv_at hl 1 rfl) ?_
            refine xo_11_1 X M (k := i) k_12 dX0_agree_111 ?_
            refine g_zast (n := 16) (f := f1) (j := ((Rr 110 i).toNatClampNeg)) X M.1 M.2.1 M.2.2.1 (21 + (T.length + 0)) 2 (xT_k (T := T) (j := 0) rfl) rfl (vp_in_nI (by omega) (by omega)) (nI_clamp (by omega)) dX0_agree_114 (fun H locs hP hD hS => ?_)
            have M : xM D dA A e0 h G (T ++ [(q_2, .inl (dA 2, 16, .inl (upd f1 ((Rr 110 i).toNatClampNeg) (x_bit (Rr 111 i))))), (q_3, .inl (dA 0, 16, .inl f2))]) s F Rr H locs := xM_setk M (j := 0) rfl hP hD hS
            refine lv_aload_n hx hb dX0_agree_115 rfl (lv_at hl 5 rfl) ?_
            refine lv_aload hx hb dX0_agree_116 (lv_at hl 1 rfl) ?_
            refine xo_11_0 X M (k := i) k_12 dX0_agree_118 ?_
            have b_16 : (Rr 110 i).toNatClampNeg ≤ 15 := cnB_le (h11p i (by omega)).1 rfl
            refine lv_asi (y := nI (Rr 110 i).toNatClampNeg) (nJ_of ((h11p i (by omega)).1).1) ?_
            refine lv_dup2_11 hx hb dX0_agree_121 rfl rfl ?_
            refine g_iald (n := 16) (f := f2) (j := ((Rr 110 i).toNatClampNeg)) X M.1 (21 + (T.length + 1)) 0 (xT_k (T := T) (j := 1) rfl) rfl (vp_in_nI (by omega) (by omega)) (nI_clamp (by omega)) dX0_agree_122 ?_
            refine lv_aload hx hb dX0_agree_123 (lv_at hl 1 rfl) ?_
            refine xo_11_1 X M (k := i) k_12 dX0_agree_125 ?_
            refine lv_if_eq (tgt := 135) hx hb dX0_agree_128 (by decide) (fun c_17 => ?_) (fun c_17 => ?_)
            · -- c_17: Rr 111 i = 0
              refine lv_iconst (v := (-1)) hx hb dX0_agree_135 (by decide) ?_
              refine lv_iadd hx hb dX0_agree_136 ?_
              refine g_iast (n := 16) (f := f2) (j := ((Rr 110 i).toNatClampNeg)) X M.1 M.2.1 M.2.2.1 (21 + (T.length + 1)) 0 (xT_k (T := T) (j := 1) rfl) rfl (vp_in_nI (by omega) (by omega)) (nI_clamp (by omega)) dX0_agree_137 (fun H locs hP hD hS => ?_)
              have M : xM D dA A e0 h G (T ++ [(q_2, .inl (dA 2, 16, .inl (upd f1 ((Rr 110 i).toNatClampNeg) (x_bit (Rr 111 i))))), (q_3, .inl (dA 0, 16, .inl (upd f2 ((Rr 110 i).toNatClampNeg) ((f2 ((Rr 110 i).toNatClampNeg)) + (-1)))))]) s F Rr H locs := xM_setk M (j := 1) rfl hP hD hS
              refine lv_iinc (v := nI (i + 1)) (lv' := [(5, .int (nI (i + 1))), (4, .int (wr + 1)), (6, .ref (xea G 11 i)), (0, .ref h), (1, .int p1), (2, .ref q_2), (3, .ref q_3)]) hx hb dX0_agree_138 hl (k := 6) rfl (mk_inc _) (by decide) rfl (fun ls hl => ?_)
              refine lv_goto (tgt := 31) hx hb dX0_agree_141 (by decide) ?_
              exact L_4ih  (i + 1) (upd f1 ((Rr 110 i).toNatClampNeg) (x_bit (Rr 111 i))) (upd f2 ((Rr 110 i).toNatClampNeg) ((f2 ((Rr 110 i).toNatClampNeg)) + (-1))) (wr + 1) (by omega) (by show _ = x_agrS Rr i (x_agr Rr i); rw [← hq]; exact x_agr_step (by simp [c_17]) (by have e9 : (nI (Rr 112 i).toNatClampNeg).toNatClampNeg = (Rr 112 i).toNatClampNeg := nI_clamp (by omega); rw [e9] at c_14; simp [c_14])) (by omega) _ _ M ls (lv_sub hl [3, 4, 5, 6, 1, 0] rfl)
            · -- c_17: Rr 111 i ≠ 0
              refine lv_iconst (v := 1) hx hb dX0_agree_131 (by decide) ?_
              refine lv_goto (tgt := 136) hx hb dX0_agree_132 (by decide) ?_
              refine lv_iadd hx hb dX0_agree_136 ?_
              refine g_iast (n := 16) (f := f2) (j := ((Rr 110 i).toNatClampNeg)) X M.1 M.2.1 M.2.2.1 (21 + (T.length + 1)) 0 (xT_k (T := T) (j := 1) rfl) rfl (vp_in_nI (by omega) (by omega)) (nI_clamp (by omega)) dX0_agree_137 (fun H locs hP hD hS => ?_)
              have M : xM D dA A e0 h G (T ++ [(q_2, .inl (dA 2, 16, .inl (upd f1 ((Rr 110 i).toNatClampNeg) (x_bit (Rr 111 i))))), (q_3, .inl (dA 0, 16, .inl (upd f2 ((Rr 110 i).toNatClampNeg) ((f2 ((Rr 110 i).toNatClampNeg)) + 1))))]) s F Rr H locs := xM_setk M (j := 1) rfl hP hD hS
              refine lv_iinc (v := nI (i + 1)) (lv' := [(5, .int (nI (i + 1))), (4, .int (wr + 1)), (6, .ref (xea G 11 i)), (0, .ref h), (1, .int p1), (2, .ref q_2), (3, .ref q_3)]) hx hb dX0_agree_138 hl (k := 6) rfl (mk_inc _) (by decide) rfl (fun ls hl => ?_)
              refine lv_goto (tgt := 31) hx hb dX0_agree_141 (by decide) ?_
              exact L_4ih  (i + 1) (upd f1 ((Rr 110 i).toNatClampNeg) (x_bit (Rr 111 i))) (upd f2 ((Rr 110 i).toNatClampNeg) ((f2 ((Rr 110 i).toNatClampNeg)) + 1)) (wr + 1) (by omega) (by show _ = x_agrS Rr i (x_agr Rr i); rw [← hq]; exact x_agr_step (by simp [c_17]) (by have e9 : (nI (Rr 112 i).toNatClampNeg).toNatClampNeg = (Rr 112 i).toNatClampNeg := nI_clamp (by omega); rw [e9] at c_14; simp [c_14])) (by omega) _ _ M ls (lv_sub hl [3, 4, 5, 6, 1, 0] rfl)
          · -- c_14: inB (Rr 1 (nI ((Rr 112 i).toNatClampNeg)).toNatClampNeg) (Rr 2 (nI ((Rr 112 i).toNatClampNeg)).toNatClampNeg - 1) (Rr 114 i) = true
            refine lv_aload_n hx hb dX0_agree_80 rfl (lv_at hl 3 rfl) ?_
            refine lv_aload hx hb dX0_agree_81 (lv_at hl 0 rfl) ?_
            refine xo_11_0 X M (k := i) k_12 dX0_agree_83 ?_
            have b_18 : (Rr 110 i).toNatClampNeg ≤ 15 := cnB_le (h11p i (by omega)).1 rfl
            refine lv_asi (y := nI (Rr 110 i).toNatClampNeg) (nJ_of ((h11p i (by omega)).1).1) ?_
            refine g_zald (n := 16) (f := f1) (j := ((Rr 110 i).toNatClampNeg)) X M.1 (21 + (T.length + 0)) 2 (xT_k (T := T) (j := 0) rfl) rfl (vp_in_nI (by omega) (by omega)) (nI_clamp (by omega)) dX0_agree_86 ?_
            refine lv_aload hx hb dX0_agree_87 (lv_at hl 0 rfl) ?_
            refine xo_11_1 X M (k := i) k_12 dX0_agree_89 ?_
            refine lv_icmp_ne (tgt := 99) hx hb dX0_agree_92 (by decide) (fun c_19 => ?_) (fun c_19 => ?_)
            · -- c_19: f1 ((Rr 110 i).toNatClampNeg) ≠ Rr 111 i
              refine lv_iconst (v := 0) hx hb dX0_agree_99 (by decide) ?_
              refine lv_iadd hx hb dX0_agree_100 ?_
              refine lv_istore (lv' := [(4, .int (wr + 0)), (6, .ref (xea G 11 i)), (0, .ref h), (1, .int p1), (2, .ref q_2), (3, .ref q_3), (5, .int (nI i))]) hx hb dX0_agree_101 hl (by decide) rfl (fun ls hl => ?_)
              refine lv_aload_n hx hb dX0_agree_103 rfl (lv_at hl 4 rfl) ?_
              refine lv_aload hx hb dX0_agree_104 (lv_at hl 1 rfl) ?_
              refine xo_11_0 X M (k := i) k_12 dX0_agree_106 ?_
              have b_20 : (Rr 110 i).toNatClampNeg ≤ 15 := cnB_le (h11p i (by omega)).1 rfl
              refine lv_asi (y := nI (Rr 110 i).toNatClampNeg) (nJ_of ((h11p i (by omega)).1).1) ?_
              refine lv_aload hx hb dX0_agree_109 (lv_at hl 1 rfl) ?_
              refine xo_11_1 X M (k := i) k_12 dX0_agree_111 ?_
              refine g_zast (n := 16) (f := f1) (j := ((Rr 110 i).toNatClampNeg)) X M.1 M.2.1 M.2.2.1 (21 + (T.length + 0)) 2 (xT_k (T := T) (j := 0) rfl) rfl (vp_in_nI (by omega) (by omega)) (nI_clamp (by omega)) dX0_agree_114 (fun H locs hP hD hS => ?_)
              have M : xM D dA A e0 h G (T ++ [(q_2, .inl (dA 2, 16, .inl (upd f1 ((Rr 110 i).toNatClampNeg) (x_bit (Rr 111 i))))), (q_3, .inl (dA 0, 16, .inl f2))]) s F Rr H locs := xM_setk M (j := 0) rfl hP hD hS
              refine lv_aload_n hx hb dX0_agree_115 rfl (lv_at hl 5 rfl) ?_
              refine lv_aload hx hb dX0_agree_116 (lv_at hl 1 rfl) ?_
              refine xo_11_0 X M (k := i) k_12 dX0_agree_118 ?_
              have b_21 : (Rr 110 i).toNatClampNeg ≤ 15 := cnB_le (h11p i (by omega)).1 rfl
              refine lv_asi (y := nI (Rr 110 i).toNatClampNeg) (nJ_of ((h11p i (by omega)).1).1) ?_
              refine lv_dup2_11 hx hb dX0_agree_121 rfl rfl ?_
              refine g_iald (n := 16) (f := f2) (j := ((Rr 110 i).toNatClampNeg)) X M.1 (21 + (T.length + 1)) 0 (xT_k (T := T) (j := 1) rfl) rfl (vp_in_nI (by omega) (by omega)) (nI_clamp (by omega)) dX0_agree_122 ?_
              refine lv_aload hx hb dX0_agree_123 (lv_at hl 1 rfl) ?_
              refine xo_11_1 X M (k := i) k_12 dX0_agree_125 ?_
              refine lv_if_eq (tgt := 135) hx hb dX0_agree_128 (by decide) (fun c_22 => ?_) (fun c_22 => ?_)
              · -- c_22: Rr 111 i = 0
                refine lv_iconst (v := (-1)) hx hb dX0_agree_135 (by decide) ?_
                refine lv_iadd hx hb dX0_agree_136 ?_
                refine g_iast (n := 16) (f := f2) (j := ((Rr 110 i).toNatClampNeg)) X M.1 M.2.1 M.2.2.1 (21 + (T.length + 1)) 0 (xT_k (T := T) (j := 1) rfl) rfl (vp_in_nI (by omega) (by omega)) (nI_clamp (by omega)) dX0_agree_137 (fun H locs hP hD hS => ?_)
                have M : xM D dA A e0 h G (T ++ [(q_2, .inl (dA 2, 16, .inl (upd f1 ((Rr 110 i).toNatClampNeg) (x_bit (Rr 111 i))))), (q_3, .inl (dA 0, 16, .inl (upd f2 ((Rr 110 i).toNatClampNeg) ((f2 ((Rr 110 i).toNatClampNeg)) + (-1)))))]) s F Rr H locs := xM_setk M (j := 1) rfl hP hD hS
                refine lv_iinc (v := nI (i + 1)) (lv' := [(5, .int (nI (i + 1))), (4, .int (wr + 0)), (6, .ref (xea G 11 i)), (0, .ref h), (1, .int p1), (2, .ref q_2), (3, .ref q_3)]) hx hb dX0_agree_138 hl (k := 6) rfl (mk_inc _) (by decide) rfl (fun ls hl => ?_)
                refine lv_goto (tgt := 31) hx hb dX0_agree_141 (by decide) ?_
                exact L_4ih  (i + 1) (upd f1 ((Rr 110 i).toNatClampNeg) (x_bit (Rr 111 i))) (upd f2 ((Rr 110 i).toNatClampNeg) ((f2 ((Rr 110 i).toNatClampNeg)) + (-1))) (wr + 0) (by omega) (by show _ = x_agrS Rr i (x_agr Rr i); rw [← hq]; exact x_agr_step (by simp [c_22]) (by have e9 : (nI (Rr 112 i).toNatClampNeg).toNatClampNeg = (Rr 112 i).toNatClampNeg := nI_clamp (by omega); rw [e9] at c_14; simp [c_14, c_19])) (by omega) _ _ M ls (lv_sub hl [3, 4, 5, 6, 1, 0] rfl)
              · -- c_22: Rr 111 i ≠ 0
                refine lv_iconst (v := 1) hx hb dX0_agree_131 (by decide) ?_
                refine lv_goto (tgt := 136) hx hb dX0_agree_132 (by decide) ?_
                refine lv_iadd hx hb dX0_agree_136 ?_
                refine g_iast (n := 16) (f := f2) (j := ((Rr 110 i).toNatClampNeg)) X M.1 M.2.1 M.2.2.1 (21 + (T.length + 1)) 0 (xT_k (T := T) (j := 1) rfl) rfl (vp_in_nI (by omega) (by omega)) (nI_clamp (by omega)) dX0_agree_137 (fun H locs hP hD hS => ?_)
                have M : xM D dA A e0 h G (T ++ [(q_2, .inl (dA 2, 16, .inl (upd f1 ((Rr 110 i).toNatClampNeg) (x_bit (Rr 111 i))))), (q_3, .inl (dA 0, 16, .inl (upd f2 ((Rr 110 i).toNatClampNeg) ((f2 ((Rr 110 i).toNatClampNeg)) + 1))))]) s F Rr H locs := xM_setk M (j := 1) rfl hP hD hS
                refine lv_iinc (v := nI (i + 1)) (lv' := [(5, .int (nI (i + 1))), (4, .int (wr + 0)), (6, .ref (xea G 11 i)), (0, .ref h), (1, .int p1), (2, .ref q_2), (3, .ref q_3)]) hx hb dX0_agree_138 hl (k := 6) rfl (mk_inc _) (by decide) rfl (fun ls hl => ?_)
                refine lv_goto (tgt := 31) hx hb dX0_agree_141 (by decide) ?_
                exact L_4ih  (i + 1) (upd f1 ((Rr 110 i).toNatClampNeg) (x_bit (Rr 111 i))) (upd f2 ((Rr 110 i).toNatClampNeg) ((f2 ((Rr 110 i).toNatClampNeg)) + 1)) (wr + 0) (by omega) (by show _ = x_agrS Rr i (x_agr Rr i); rw [← hq]; exact x_agr_step (by simp [c_22]) (by have e9 : (nI (Rr 112 i).toNatClampNeg).toNatClampNeg = (Rr 112 i).toNatClampNeg := nI_clamp (by omega); rw [e9] at c_14; simp [c_14, c_19])) (by omega) _ _ M ls (lv_sub hl [3, 4, 5, 6, 1, 0] rfl)
            · -- c_19: f1 ((Rr 110 i).toNatClampNeg) = Rr 111 i
              refine lv_iconst (v := 1) hx hb dX0_agree_95 (by decide) ?_
              refine lv_goto (tgt := 100) hx hb dX0_agree_96 (by decide) ?_
              refine lv_iadd hx hb dX0_agree_100 ?_
              refine lv_istore (lv' := [(4, .int (wr + 1)), (6, .ref (xea G 11 i)), (0, .ref h), (1, .int p1), (2, .ref q_2), (3, .ref q_3), (5, .int (nI i))]) hx hb dX0_agree_101 hl (by decide) rfl (fun ls hl => ?_)
              refine lv_aload_n hx hb dX0_agree_103 rfl (lv_at hl 4 rfl) ?_
              refine lv_aload hx hb dX0_agree_104 (lv_at hl 1 rfl) ?_
              refine xo_11_0 X M (k := i) k_12 dX0_agree_106 ?_
              have b_23 : (Rr 110 i).toNatClampNeg ≤ 15 := cnB_le (h11p i (by omega)).1 rfl
              refine lv_asi (y := nI (Rr 110 i).toNatClampNeg) (nJ_of ((h11p i (by omega)).1).1) ?_
              refine lv_aload hx hb dX0_agree_109 (lv_at hl 1 rfl) ?_
              refine xo_11_1 X M (k := i) k_12 dX0_agree_111 ?_
              refine g_zast (n := 16) (f := f1) (j := ((Rr 110 i).toNatClampNeg)) X M.1 M.2.1 M.2.2.1 (21 + (T.length + 0)) 2 (xT_k (T := T) (j := 0) rfl) rfl (vp_in_nI (by omega) (by omega)) (nI_clamp (by omega)) dX0_agree_114 (fun H locs hP hD hS => ?_)
              have M : xM D dA A e0 h G (T ++ [(q_2, .inl (dA 2, 16, .inl (upd f1 ((Rr 110 i).toNatClampNeg) (x_bit (Rr 111 i))))), (q_3, .inl (dA 0, 16, .inl f2))]) s F Rr H locs := xM_setk M (j := 0) rfl hP hD hS
              refine lv_aload_n hx hb dX0_agree_115 rfl (lv_at hl 5 rfl) ?_
              refine lv_aload hx hb dX0_agree_116 (lv_at hl 1 rfl) ?_
              refine xo_11_0 X M (k := i) k_12 dX0_agree_118 ?_
              have b_24 : (Rr 110 i).toNatClampNeg ≤ 15 := cnB_le (h11p i (by omega)).1 rfl
              refine lv_asi (y := nI (Rr 110 i).toNatClampNeg) (nJ_of ((h11p i (by omega)).1).1) ?_
              refine lv_dup2_11 hx hb dX0_agree_121 rfl rfl ?_
              refine g_iald (n := 16) (f := f2) (j := ((Rr 110 i).toNatClampNeg)) X M.1 (21 + (T.length + 1)) 0 (xT_k (T := T) (j := 1) rfl) rfl (vp_in_nI (by omega) (by omega)) (nI_clamp (by omega)) dX0_agree_122 ?_
              refine lv_aload hx hb dX0_agree_123 (lv_at hl 1 rfl) ?_
              refine xo_11_1 X M (k := i) k_12 dX0_agree_125 ?_
              refine lv_if_eq (tgt := 135) hx hb dX0_agree_128 (by decide) (fun c_25 => ?_) (fun c_25 => ?_)
              · -- c_25: Rr 111 i = 0
                refine lv_iconst (v := (-1)) hx hb dX0_agree_135 (by decide) ?_
                refine lv_iadd hx hb dX0_agree_136 ?_
                refine g_iast (n := 16) (f := f2) (j := ((Rr 110 i).toNatClampNeg)) X M.1 M.2.1 M.2.2.1 (21 + (T.length + 1)) 0 (xT_k (T := T) (j := 1) rfl) rfl (vp_in_nI (by omega) (by omega)) (nI_clamp (by omega)) dX0_agree_137 (fun H locs hP hD hS => ?_)
                have M : xM D dA A e0 h G (T ++ [(q_2, .inl (dA 2, 16, .inl (upd f1 ((Rr 110 i).toNatClampNeg) (x_bit (Rr 111 i))))), (q_3, .inl (dA 0, 16, .inl (upd f2 ((Rr 110 i).toNatClampNeg) ((f2 ((Rr 110 i).toNatClampNeg)) + (-1)))))]) s F Rr H locs := xM_setk M (j := 1) rfl hP hD hS
                refine lv_iinc (v := nI (i + 1)) (lv' := [(5, .int (nI (i + 1))), (4, .int (wr + 1)), (6, .ref (xea G 11 i)), (0, .ref h), (1, .int p1), (2, .ref q_2), (3, .ref q_3)]) hx hb dX0_agree_138 hl (k := 6) rfl (mk_inc _) (by decide) rfl (fun ls hl => ?_)
                refine lv_goto (tgt := 31) hx hb dX0_agree_141 (by decide) ?_
                exact L_4ih  (i + 1) (upd f1 ((Rr 110 i).toNatClampNeg) (x_bit (Rr 111 i))) (upd f2 ((Rr 110 i).toNatClampNeg) ((f2 ((Rr 110 i).toNatClampNeg)) + (-1))) (wr + 1) (by omega) (by show _ = x_agrS Rr i (x_agr Rr i); rw [← hq]; exact x_agr_step (by simp [c_25]) (by have e9 : (nI (Rr 112 i).toNatClampNeg).toNatClampNeg = (Rr 112 i).toNatClampNeg := nI_clamp (by omega); rw [e9] at c_14; simp [c_14, c_19])) (by omega) _ _ M ls (lv_sub hl [3, 4, 5, 6, 1, 0] rfl)
              · -- c_25: Rr 111 i ≠ 0
                refine lv_iconst (v := 1) hx hb dX0_agree_131 (by decide) ?_
                refine lv_goto (tgt := 136) hx hb dX0_agree_132 (by decide) ?_
                refine lv_iadd hx hb dX0_agree_136 ?_
                refine g_iast (n := 16) (f := f2) (j := ((Rr 110 i).toNatClampNeg)) X M.1 M.2.1 M.2.2.1 (21 + (T.length + 1)) 0 (xT_k (T := T) (j := 1) rfl) rfl (vp_in_nI (by omega) (by omega)) (nI_clamp (by omega)) dX0_agree_137 (fun H locs hP hD hS => ?_)
                have M : xM D dA A e0 h G (T ++ [(q_2, .inl (dA 2, 16, .inl (upd f1 ((Rr 110 i).toNatClampNeg) (x_bit (Rr 111 i))))), (q_3, .inl (dA 0, 16, .inl (upd f2 ((Rr 110 i).toNatClampNeg) ((f2 ((Rr 110 i).toNatClampNeg)) + 1))))]) s F Rr H locs := xM_setk M (j := 1) rfl hP hD hS
                refine lv_iinc (v := nI (i + 1)) (lv' := [(5, .int (nI (i + 1))), (4, .int (wr + 1)), (6, .ref (xea G 11 i)), (0, .ref h), (1, .int p1), (2, .ref q_2), (3, .ref q_3)]) hx hb dX0_agree_138 hl (k := 6) rfl (mk_inc _) (by decide) rfl (fun ls hl => ?_)
                refine lv_goto (tgt := 31) hx hb dX0_agree_141 (by decide) ?_
                exact L_4ih  (i + 1) (upd f1 ((Rr 110 i).toNatClampNeg) (x_bit (Rr 111 i))) (upd f2 ((Rr 110 i).toNatClampNeg) ((f2 ((Rr 110 i).toNatClampNeg)) + 1)) (wr + 1) (by omega) (by show _ = x_agrS Rr i (x_agr Rr i); rw [← hq]; exact x_agr_step (by simp [c_25]) (by have e9 : (nI (Rr 112 i).toNatClampNeg).toNatClampNeg = (Rr 112 i).toNatClampNeg := nI_clamp (by omega); rw [e9] at c_14; simp [c_14, c_19])) (by omega) _ _ M ls (lv_sub hl [3, 4, 5, 6, 1, 0] rfl)
    exact L_4 ((n11 - 0) + 1) 0 (fun _ => 0) (fun _ => 0) 0 (by omega) rfl (Nat.lt_succ_self _) _ _ M ls (lv_sub hl [4, 5, 3, 2, 1, 0] rfl)
  · -- c_1: inB 0 2 p1 = false
    refine lv_ldc (v := (-1000001)) hx hb hown (hts _ q234) dX0_agree_12 ?_
    refine W.widen (k := 2) (n := 32) (Nat.le_of_ble_eq_true rfl) (Nat.le_of_ble_eq_true rfl) ?_
    exact W.iret (v := (-1000001)) hx hb hr (fun t9 ht9 hW9 => ⟨⟨_, (F, Rr), rfl, (by simp [x_agree, em11, ec11, c_1]), ⟨G, (xext.rf _), by rw [ht9]; exact M.1, M.2.1, M.2.2.2⟩⟩, M.2.2.1.F ht9⟩) M.2.2.1.2.2 dX0_agree_14

