/-! THE SYSTEM, 9: who comes first, how long all wait -/
theorem tk_up {t : Nat → Bool} {j : Nat} : upd (fun k => b2i (t k)) j (x_bit 1) = fun k => b2i (va_up t j true k) := by
  funext k
  show (if k = j then x_bit 1 else b2i (t k)) = b2i (if k = j then true else t k)
  split <;> rfl
theorem nI_half {n : Nat} (h : n < 2 ^ 30) : nI (2 * n) / 2 = nI n := by
  rw [← Int32.toInt_inj, nI_toInt (by omega)]
  have e2 : (2 : Int32).toInt = 2 := by decide
  rw [Int32.toInt_div, nI_toInt (by omega), e2]
  have : ((2 * n : Nat) : Int).tdiv 2 = n := by push_cast; exact Int.mul_tdiv_cancel_left _ (by decide)
  rw [this]
  exact Int.bmod_eq_of_le (by omega) (by omega)
set_option maxHeartbeats 4000000 in
set_option maxRecDepth 100000 in
theorem metX0_firstAt (l : Launch) (D : va_G) (dA : Nat → ClassId) (A : Nat → Prop) (e0 : Nat) (r : Nat) (tk : Nat) (nn : Nat) (g : Nat → Int32) (p1 : Int32) (hn : nn ≤ 20) (t : Nat → Bool) : Met l yX0_firstAt (ws_ yX0_firstAt cX0_firstAt 5 (some .int)) ({ frames := 0, cells := 0, slots := 0, locals := 0 } : Room) (va_Pc [.ref r, .int p1, .ref tk] (fun U => xC D dA A e0 U ∧ va_P D xCl [(r, .inl (dA 0, (2 * nn), .inl g)), (tk, .inl (dA 2, nn, .inl (fun k => b2i (t k))))] U.heap)) (vp_Si (fun r9 => r9 = w_next g 0 nn p1 t)) 0 0 (fun _ => False) := by
  refine Met.ofW (cc := cX0_firstAt) (maxL := 5) (ret := (some .int)) (by decide) rfl ?_
  intro p e s m args below meth c s₁ B hml hv
  obtain ⟨rfl, hC, hP⟩ := hv
  have hx := B.exec
  have hb := B.bytes
  have hr := B.returns
  have hts := atoms_spec (ws := (ws_ yX0_firstAt cX0_firstAt 5 (some .int))) B.pre
  have hts : ∀ w ∈ lw_all, w.before _ s = true := fun w h => hts w (List.mem_cons_of_mem _ h)
  have hown : s.vm.findClass RX0 = some m.cls := findClass_of_methodNamed B.named
  have hlocks := B.notSynchronized
  have S : CallFix p m c cX0_firstAt 5 s ([.ref r, .int p1, .ref tk] : List Value).toArray lw_all RX0 := ⟨hx, hb, hml, hown, hts⟩
  have X : xX RX0 p s m ([.ref r, .int p1, .ref tk] : List Value).toArray c cX0_firstAt 5 D dA A e0 := ⟨S, hC⟩
  have M : gQ D s [(r, .inl (dA 0, (2 * nn), .inl g)), (tk, .inl (dA 2, nn, .inl (fun k => b2i (t k))))] s.heap [] := ⟨hP, trivial⟩
  have hl := lv_entry ([.ref r, .int p1, .ref tk]) (n := 5) (Nat.le_of_ble_eq_true rfl)
  rw [lg_entry_eq]
  generalize (lg_sl ([.ref r, .int p1, .ref tk]) ++ List.replicate (5 - (lg_sl ([.ref r, .int p1, .ref tk])).length) Slot.unset).toArray = ls at hl ⊢
  have hl : lv_has ls 5 [(0, .ref r), (1, .int p1), (2, .ref tk)] := hl
  refine lv_ldc (v := (-1000000)) hx hb hown (hts _ q147) dX0_firstAt_0 ?_
  refine lv_istore_n (lv' := [(3, .int (-1000000)), (0, .ref r), (1, .int p1), (2, .ref tk)]) hx hb dX0_firstAt_2 rfl hl (by decide) rfl (fun ls hl => ?_)
  refine lv_iconst (v := 0) hx hb dX0_firstAt_3 (by decide) ?_
  refine lv_istore (lv' := [(4, .int 0), (3, .int (-1000000)), (0, .ref r), (1, .int p1), (2, .ref tk)]) hx hb dX0_firstAt_4 hl (by decide) rfl (fun ls hl => ?_)
  have L_1 : ∀ (fuL_1 : Nat) (i : Nat) (x : Int32), (i ≤ nn) → (x = itr (w_sel g 0 p1 t) i (-1000000)) → nn - i < fuL_1 → ∀ ls, lv_has ls 5 [(0, .ref r), (1, .int p1), (2, .ref tk), (3, .int x), (4, .int (nI i))] → W p l e ({ frames := 0, cells := 0, slots := 0, locals := 0 } : Room) s m ([.ref r, .int p1, .ref tk] : List Value).toArray below meth c s.heap [] 0 0 (MQ below (vp_Si (fun r9 => r9 = w_next g 0 nn p1 t)) ([.ref r, .int p1, .ref tk] : List Value).toArray s 0 0 (fun _ => False)) (F0 m 6 ls []) := by
    intro fuL_1
    induction fuL_1 with
    | zero => intro i x hi qx hfuL_1; exact absurd hfuL_1 (Nat.not_lt_zero _)
    | succ fuL_1 L_1ih =>
      intro i x hi qx hfuL_1 ls hl
      have hb9 : x = (-1000000) ∨ vp_in x i := by rw [qx]; exact itr_in (fun k x => by unfold w_sel; split <;> simp) i (by omega)
      refine lv_iload hx hb dX0_firstAt_6 (lv_at hl 4 rfl) ?_
      refine lv_aload_n hx hb dX0_firstAt_8 rfl (lv_at hl 2 rfl) ?_
      refine va_alen (v := nI nn) X.hx X.hb X.K M.1 1 2 rfl rfl rfl dX0_firstAt_9 ?_
      refine ln_icmp_ge (tgt := 63) hx hb (a := i) (b := nn) (by omega) (by omega) dX0_firstAt_10 (by decide) (fun c_2 => ?_) (fun c_2 => ?_)
      · -- c_2: nI i ≥ nI nn
        have ei : i = nn := by omega
        rw [ei] at qx
        refine lv_iload_n hx hb dX0_firstAt_63 rfl (lv_at hl 3 rfl) ?_
        exact W.iret (v := x) hx hb hr (fun t9 ht9 hW9 => ⟨_, rfl, (by unfold w_next; exact qx), ht9⟩) (fun _ h9 => by cases h9) dX0_firstAt_64
      · -- c_2: nI i < nI nn
        refine lv_aload_n hx hb dX0_firstAt_13 rfl (lv_at hl 2 rfl) ?_
        refine lv_iload hx hb dX0_firstAt_14 (lv_at hl 4 rfl) ?_
        refine g_zald (n := nn) (f := (fun k => b2i (t k))) (j := i) X M.1 1 2 rfl rfl (vp_in_nI (by omega) (by omega)) (nI_clamp (by omega)) dX0_firstAt_16 ?_
        refine lz_if_ne (tgt := 57) hx hb dX0_firstAt_17 (by decide) (fun c_3 => ?_) (fun c_3 => ?_)
        · -- c_3: t i = true
          refine lv_iinc (v := nI (i + 1)) (lv' := [(4, .int (nI (i + 1))), (0, .ref r), (1, .int p1), (2, .ref tk), (3, .int x)]) hx hb dX0_firstAt_57 hl (k := 4) rfl (mk_inc _) (by decide) rfl (fun ls hl => ?_)
          refine lv_goto (tgt := 6) hx hb dX0_firstAt_60 (by decide) ?_
          exact L_1ih  (i + 1) x (by omega) (by first | (rw [itr_s, ← qx]; done) | (rw [itr_s, ← qx]; first | (simp [w_sel, c_2, c_3, up_s, up_n, nI_1, b2i]; done) | (simp_all [w_sel]; done) | grind [w_sel])) (by omega) ls (lv_sub hl [1, 2, 3, 4, 0] rfl)
        · -- c_3: t i = false
          refine lv_aload_n hx hb dX0_firstAt_20 rfl (lv_at hl 0 rfl) ?_
          refine lv_iconst (v := 2) hx hb dX0_firstAt_21 (by decide) ?_
          refine lv_iload hx hb dX0_firstAt_22 (lv_at hl 4 rfl) ?_
          refine lv_imul hx hb dX0_firstAt_24 ?_
          refine lv_asi (y := nI (2 * i)) (nI_mul 2 i) ?_
          refine g_iald (n := (2 * nn)) (f := g) (j := (2 * i)) X M.1 0 0 rfl rfl (vp_in_nI (by omega) (by omega)) (nI_clamp (by omega)) dX0_firstAt_25 ?_
          refine lv_iload_n hx hb dX0_firstAt_26 rfl (lv_at hl 1 rfl) ?_
          refine lv_icmp_ne (tgt := 57) hx hb dX0_firstAt_27 (by decide) (fun c_4 => ?_) (fun c_4 => ?_)
          · -- c_4: g (2 * i) ≠ p1
            refine lv_iinc (v := nI (i + 1)) (lv' := [(4, .int (nI (i + 1))), (0, .ref r), (1, .int p1), (2, .ref tk), (3, .int x)]) hx hb dX0_firstAt_57 hl (k := 4) rfl (mk_inc _) (by decide) rfl (fun ls hl => ?_)
            refine lv_goto (tgt := 6) hx hb dX0_firstAt_60 (by decide) ?_
            exact L_1ih  (i + 1) x (by omega) (by first | (rw [itr_s, ← qx]; done) | (rw [itr_s, ← qx]; first | (simp [w_sel, c_2, c_3, c_4, up_s, up_n, nI_1, b2i]; done) | (simp_all [w_sel]; done) | grind [w_sel])) (by omega) ls (lv_sub hl [1, 2, 3, 4, 0] rfl)
          · -- c_4: g (2 * i) = p1
            refine lv_iload_n hx hb dX0_firstAt_30 rfl (lv_at hl 3 rfl) ?_
            refine lv_ldc (v := (-1000000)) hx hb hown (hts _ q147) dX0_firstAt_31 ?_
            refine lv_icmp_eq (tgt := 54) hx hb dX0_firstAt_33 (by decide) (fun c_5 => ?_) (fun c_5 => ?_)
            · -- c_5: x = (-1000000)
              refine lv_iload hx hb dX0_firstAt_54 (lv_at hl 4 rfl) ?_
              refine lv_istore_n (lv' := [(3, .int (nI i)), (0, .ref r), (1, .int p1), (2, .ref tk), (4, .int (nI i))]) hx hb dX0_firstAt_56 rfl hl (by decide) rfl (fun ls hl => ?_)
              refine lv_iinc (v := nI (i + 1)) (lv' := [(4, .int (nI (i + 1))), (3, .int (nI i)), (0, .ref r), (1, .int p1), (2, .ref tk)]) hx hb dX0_firstAt_57 hl (k := 4) rfl (mk_inc _) (by decide) rfl (fun ls hl => ?_)
              refine lv_goto (tgt := 6) hx hb dX0_firstAt_60 (by decide) ?_
              exact L_1ih  (i + 1) (nI i) (by omega) (by first | (rw [itr_s, ← qx]; done) | (rw [itr_s, ← qx]; first | (simp [w_sel, c_2, c_3, c_4, c_5, up_s, up_n, nI_1, b2i]; done) | (simp_all [w_sel]; done) | grind [w_sel])) (by omega) ls (lv_sub hl [2, 3, 4, 1, 0] rfl)
            · -- c_5: x ≠ (-1000000)
              obtain ⟨b1, hb1, rfl⟩ := vp_ex (vp_or hb9 c_5 (Nat.le_refl i))
              have eb1 : (nI b1).toNatClampNeg = b1 := nI_clamp (by omega)
              have hlt9 : b1 < nn := by omega
              refine lv_aload_n hx hb dX0_firstAt_36 rfl (lv_at hl 0 rfl) ?_
              refine lv_iconst (v := 2) hx hb dX0_firstAt_37 (by decide) ?_
              refine lv_iload hx hb dX0_firstAt_38 (lv_at hl 4 rfl) ?_
              refine lv_imul hx hb dX0_firstAt_40 ?_
              refine lv_asi (y := nI (2 * i)) (nI_mul 2 i) ?_
              refine lv_iconst (v := 1) hx hb dX0_firstAt_41 (by decide) ?_
              refine lv_iadd hx hb dX0_firstAt_42 ?_
              refine lv_asi (y := nI ((2 * i) + 1)) (nI_add (2 * i) 1) ?_
              refine g_iald (n := (2 * nn)) (f := g) (j := ((2 * i) + 1)) X M.1 0 0 rfl rfl (vp_in_nI (by omega) (by omega)) (nI_clamp (by omega)) dX0_firstAt_43 ?_
              refine lv_aload_n hx hb dX0_firstAt_44 rfl (lv_at hl 0 rfl) ?_
              refine lv_iconst (v := 2) hx hb dX0_firstAt_45 (by decide) ?_
              refine lv_iload_n hx hb dX0_firstAt_46 rfl (lv_at hl 3 rfl) ?_
              refine lv_imul hx hb dX0_firstAt_47 ?_
              refine lv_asi (y := nI (2 * b1)) (nI_mul 2 b1) ?_
              refine lv_iconst (v := 1) hx hb dX0_firstAt_48 (by decide) ?_
              refine lv_iadd hx hb dX0_firstAt_49 ?_
              refine lv_asi (y := nI ((2 * b1) + 1)) (nI_add (2 * b1) 1) ?_
              refine g_iald (n := (2 * nn)) (f := g) (j := ((2 * b1) + 1)) X M.1 0 0 rfl rfl (vp_in_nI (by omega) (by omega)) (nI_clamp (by omega)) dX0_firstAt_50 ?_
              refine lb_icmp_ge (tgt := 57) hx hb dX0_firstAt_51 (by decide) (fun c_6 c_6' => ?_) (fun c_6 c_6' => ?_)
              · -- c_6: g ((2 * i) + 1) ≥ g ((2 * b1) + 1)
                refine lv_iinc (v := nI (i + 1)) (lv' := [(4, .int (nI (i + 1))), (0, .ref r), (1, .int p1), (2, .ref tk), (3, .int (nI b1))]) hx hb dX0_firstAt_57 hl (k := 4) rfl (mk_inc _) (by decide) rfl (fun ls hl => ?_)
                refine lv_goto (tgt := 6) hx hb dX0_firstAt_60 (by decide) ?_
                exact L_1ih  (i + 1) (nI b1) (by omega) (by first | (rw [itr_s, ← qx]; done) | (rw [itr_s, ← qx]; first | (simp [w_sel, c_2, c_3, c_4, c_5, eb1, c_6, c_6', up_s, up_n, nI_1, b2i]; done) | (simp_all [w_sel]; done) | grind [w_sel])) (by omega) ls (lv_sub hl [1, 2, 3, 4, 0] rfl)
              · -- c_6: g ((2 * i) + 1) < g ((2 * b1) + 1)
                refine lv_iload hx hb dX0_firstAt_54 (lv_at hl 4 rfl) ?_
                refine lv_istore_n (lv' := [(3, .int (nI i)), (0, .ref r), (1, .int p1), (2, .ref tk), (4, .int (nI i))]) hx hb dX0_firstAt_56 rfl hl (by decide) rfl (fun ls hl => ?_)
                refine lv_iinc (v := nI (i + 1)) (lv' := [(4, .int (nI (i + 1))), (3, .int (nI i)), (0, .ref r), (1, .int p1), (2, .ref tk)]) hx hb dX0_firstAt_57 hl (k := 4) rfl (mk_inc _) (by decide) rfl (fun ls hl => ?_)
                refine lv_goto (tgt := 6) hx hb dX0_firstAt_60 (by decide) ?_
                exact L_1ih  (i + 1) (nI i) (by omega) (by first | (rw [itr_s, ← qx]; done) | (rw [itr_s, ← qx]; first | (simp [w_sel, c_2, c_3, c_4, c_5, eb1, c_6, c_6', up_s, up_n, nI_1, b2i]; done) | (simp_all [w_sel]; done) | grind [w_sel])) (by omega) ls (lv_sub hl [2, 3, 4, 1, 0] rfl)
  exact L_1 ((nn - 0) + 1) 0 (-1000000) (Nat.zero_le _) (by first | rfl | (simp only [itr]; assumption) | (simp [itr, up_s, up_n, nI_1, b2i]; done)) (Nat.lt_succ_self _) ls (lv_sub hl [2, 3, 4, 1, 0] rfl)

set_option maxHeartbeats 4000000 in
set_option maxRecDepth 100000 in
theorem metX0_isComing (l : Launch) (D : va_G) (dA : Nat → ClassId) (A : Nat → Prop) (e0 : Nat) (r : Nat) (nn : Nat) (g : Nat → Int32) (p1 : Int32) (hn : nn ≤ 20) : Met l yX0_isComing (ws_ yX0_isComing cX0_isComing 2 (some .boolean)) ({ frames := 1, cells := 1, slots := 20, locals := 24 } : Room) (va_Pc [.ref r, .int p1] (fun U => xC D dA A e0 U ∧ va_P D xCl [(r, .inl (dA 0, (2 * nn), .inl g))] U.heap ∧ va_D A [(r, .inl (dA 0, (2 * nn), .inl g))])) (va_Qi (fun r9 (_ : Unit) => r9 = b2i (!decide (w_next g 0 nn p1 (fun _ => false) = (-1000000)))) (fun _ t => va_P D xCl [(r, .inl (dA 0, (2 * nn), .inl g))] t.heap ∧ va_D A [(r, .inl (dA 0, (2 * nn), .inl g))]) A) 1 20 A := by
  refine Met.ofW (cc := cX0_isComing) (maxL := 2) (ret := (some .boolean)) (by decide) rfl ?_
  intro p e s m args below meth c s₁ B hml hv
  obtain ⟨rfl, hC, hP, hD⟩ := hv
  have hx := B.exec
  have hb := B.bytes
  have hr := B.returns
  have hts := atoms_spec (ws := (ws_ yX0_isComing cX0_isComing 2 (some .boolean))) B.pre
  have hts : ∀ w ∈ lw_all, w.before _ s = true := fun w h => hts w (List.mem_cons_of_mem _ h)
  have hown : s.vm.findClass RX0 = some m.cls := findClass_of_methodNamed B.named
  have hlocks := B.notSynchronized
  have S : CallFix p m c cX0_isComing 2 s ([.ref r, .int p1] : List Value).toArray lw_all RX0 := ⟨hx, hb, hml, hown, hts⟩
  have X : xX RX0 p s m ([.ref r, .int p1] : List Value).toArray c cX0_isComing 2 D dA A e0 := ⟨S, hC⟩
  have M : gM D A s [(r, .inl (dA 0, (2 * nn), .inl g))] s.heap [] := ⟨hP, hD, va_S.rf⟩
  have hl := lv_entry ([.ref r, .int p1]) (n := 2) (Nat.le_of_ble_eq_true rfl)
  rw [lg_entry_eq]
  generalize (lg_sl ([.ref r, .int p1]) ++ List.replicate (2 - (lg_sl ([.ref r, .int p1])).length) Slot.unset).toArray = ls at hl ⊢
  have hl : lv_has ls 2 [(0, .ref r), (1, .int p1)] := hl
  refine lv_aload_n hx hb dX0_isComing_0 rfl (lv_at hl 0 rfl) ?_
  refine lv_iload_n hx hb dX0_isComing_1 rfl (lv_at hl 1 rfl) ?_
  refine lv_aload_n hx hb dX0_isComing_2 rfl (lv_at hl 0 rfl) ?_
  refine va_alen (v := nI (2 * nn)) X.hx X.hb X.K M.1 0 0 rfl rfl rfl dX0_isComing_3 ?_
  refine lv_iconst (v := 2) hx hb dX0_isComing_4 (by decide) ?_
  refine lv_idiv hx hb dX0_isComing_5 (by decide) ?_
  refine lv_asi (y := nI nn) (nI_half (by omega)) ?_
  refine g_newz (N' := nn) X (X.hts _ q1022) M.1 M.2.1 M.2.2 (nI_pos (by omega)) (nI_clamp (by omega)) (by omega) (Nat.le_of_ble_eq_true rfl) (by show 0 + nn ≤ 20; omega) dX0_isComing_6 (fun q_1 H hP hD hS => ?_)
  have M : gM D A s [(r, .inl (dA 0, (2 * nn), .inl g)), (q_1, .inl (dA 2, nn, .inl (fun _ => 0)))] H _ := ⟨hP, hD, hS⟩
  refine W.widen (k := 1) (n := 20) (Nat.le_of_ble_eq_true rfl) (by first | omega | (dsimp only; omega)) ?_
  refine vp_callSi (W.runS (As := [.ref r, .int p1, .ref q_1]) (rest := []) X.1 (metX0_firstAt l D dA A e0 r q_1 nn g p1 hn (fun _ => false)) (va_cwS 3 hts (lw_S q1228 q1229 q57 q1230) rfl rfl rfl (by decide +kernel) ⟨Nat.le_of_ble_eq_true rfl, Nat.le_of_ble_eq_true rfl⟩) ⟨gPre_blind, fun U hU hW => ⟨rfl, X.C (H := H) M.2.2 hU hW, by rw [hU]; exact M.1.sub [0, 1] rfl⟩⟩ rfl rfl hl.1 rfl (lv_room (Nat.le_of_ble_eq_true rfl)) dX0_isComing_8 ⟨Nat.le_of_ble_eq_true rfl, Nat.le_of_ble_eq_true rfl⟩) (fun r9 hr9 => ?_)
  subst hr9
  refine lv_ldc (v := (-1000000)) hx hb hown (hts _ q147) dX0_isComing_11 ?_
  refine lv_icmp_eq (tgt := 20) hx hb dX0_isComing_13 (by decide) (fun c_2 => ?_) (fun c_2 => ?_)
  · -- c_2: w_next g 0 nn p1 (fun _ => false) = (-1000000)
    refine lv_iconst (v := 0) hx hb dX0_isComing_20 (by decide) ?_
    exact W.zret (v := 0) hx hb hr rfl (fun t9 ht9 hW9 => ⟨⟨_, (), rfl, (by simp [b2i, c_2]), by rw [ht9]; exact M.1.sub [0] rfl, M.2.1.sub [0] (by decide) rfl⟩, M.2.2.F ht9⟩) M.2.2.2.2 dX0_isComing_21
  · -- c_2: w_next g 0 nn p1 (fun _ => false) ≠ (-1000000)
    refine lv_iconst (v := 1) hx hb dX0_isComing_16 (by decide) ?_
    refine lv_goto (tgt := 21) hx hb dX0_isComing_17 (by decide) ?_
    exact W.zret (v := 1) hx hb hr rfl (fun t9 ht9 hW9 => ⟨⟨_, (), rfl, (by simp [b2i, c_2]), by rw [ht9]; exact M.1.sub [0] rfl, M.2.1.sub [0] (by decide) rfl⟩, M.2.2.F ht9⟩) M.2.2.2.2 dX0_isComing_21

set_option maxHeartbeats 4000000 in
set_option maxRecDepth 100000 in
theorem metX0_waitedAt (l : Launch) (D : va_G) (dA : Nat → ClassId) (A : Nat → Prop) (e0 : Nat) (r : Nat) (nn : Nat) (g : Nat → Int32) (p1 : Int32) (hn : nn ≤ 20) (c1 : Nat) (p4 : Int32) (hc1 : 1 ≤ c1) (hc8 : c1 ≤ 8) : Met l yX0_waitedAt (ws_ yX0_waitedAt cX0_waitedAt 10 (some .int)) ({ frames := 1, cells := 2, slots := 28, locals := 40 } : Room) (va_Pc [.ref r, .int p1, .int (nI c1), .int p4] (fun U => xC D dA A e0 U ∧ va_P D xCl [(r, .inl (dA 0, (2 * nn), .inl g))] U.heap ∧ va_D A [(r, .inl (dA 0, (2 * nn), .inl g))])) (va_Qi (fun r9 (_ : Unit) => r9 = m_wait g 0 nn p1 p4 c1) (fun _ t => va_P D xCl [(r, .inl (dA 0, (2 * nn), .inl g))] t.heap ∧ va_D A [(r, .inl (dA 0, (2 * nn), .inl g))]) A) 2 28 A := by
  refine Met.ofW (cc := cX0_waitedAt) (maxL := 10) (ret := (some .int)) (by decide) rfl ?_
  intro p e s m args below meth c s₁ B hml hv
  obtain ⟨rfl, hC, hP, hD⟩ := hv
  have hx := B.exec
  have hb := B.bytes
  have hr := B.returns
  have hts := atoms_spec (ws := (ws_ yX0_waitedAt cX0_waitedAt 10 (some .int))) B.pre
  have hts : ∀ w ∈ lw_all, w.before _ s = true := fun w h => hts w (List.mem_cons_of_mem _ h)
  have hown : s.vm.findClass RX0 = some m.cls := findClass_of_methodNamed B.named
  have hlocks := B.notSynchronized
  have S : CallFix p m c cX0_waitedAt 10 s ([.ref r, .int p1, .int (nI c1), .int p4] : List Value).toArray lw_all RX0 := ⟨hx, hb, hml, hown, hts⟩
  have X : xX RX0 p s m ([.ref r, .int p1, .int (nI c1), .int p4] : List Value).toArray c cX0_waitedAt 10 D dA A e0 := ⟨S, hC⟩
  have M : gM D A s [(r, .inl (dA 0, (2 * nn), .inl g))] s.heap [] := ⟨hP, hD, va_S.rf⟩
  have hl := lv_entry ([.ref r, .int p1, .int (nI c1), .int p4]) (n := 10) (Nat.le_of_ble_eq_true rfl)
  rw [lg_entry_eq]
  generalize (lg_sl ([.ref r, .int p1, .int (nI c1), .int p4]) ++ List.replicate (10 - (lg_sl ([.ref r, .int p1, .int (nI c1), .int p4])).length) Slot.unset).toArray = ls at hl ⊢
  have hl : lv_has ls 10 [(0, .ref r), (1, .int p1), (2, .int (nI c1)), (3, .int p4)] := hl
  refine lv_iload_n hx hb dX0_waitedAt_0 rfl (lv_at hl 2 rfl) ?_
  refine g_newi (N' := c1) X (X.hts _ q130) M.1 M.2.1 M.2.2 (nI_pos (by omega)) (nI_clamp (by omega)) (by omega) (Nat.le_of_ble_eq_true rfl) (by show 0 + c1 ≤ 28; omega) dX0_waitedAt_1 (fun q_1 H hP hD hS => ?_)
  have M : gM D A s [(r, .inl (dA 0, (2 * nn), .inl g)), (q_1, .inl (dA 0, c1, .inl (fun _ => 0)))] H _ := ⟨hP, hD, hS⟩
  refine W.widen (k := 1) (n := 8) (Nat.le_of_ble_eq_true rfl) (by omega) ?_
  refine lv_astore (lv' := [(4, .ref q_1), (0, .ref r), (1, .int p1), (2, .int (nI c1)), (3, .int p4)]) hx hb dX0_waitedAt_3 hl (by decide) rfl (fun ls hl => ?_)
  refine lv_aload_n hx hb dX0_waitedAt_5 rfl (lv_at hl 1 rfl) ?_
  refine va_alen (v := nI (2 * nn)) X.hx X.hb X.K M.1 0 0 rfl rfl rfl dX0_waitedAt_6 ?_
  refine lv_iconst (v := 2) hx hb dX0_waitedAt_7 (by decide) ?_
  refine lv_idiv hx hb dX0_waitedAt_8 (by decide) ?_
  refine lv_asi (y := nI nn) (nI_half (by omega)) ?_
  refine g_newz (N' := nn) X (X.hts _ q1022) M.1 M.2.1 M.2.2 (nI_pos (by omega)) (nI_clamp (by omega)) (by omega) (Nat.le_of_ble_eq_true rfl) (by show 8 + nn ≤ 28; omega) dX0_waitedAt_9 (fun q_2 H hP hD hS => ?_)
  have M : gM D A s [(r, .inl (dA 0, (2 * nn), .inl g)), (q_1, .inl (dA 0, c1, .inl (fun _ => 0))), (q_2, .inl (dA 2, nn, .inl (fun _ => 0)))] H _ := ⟨hP, hD, hS⟩
  refine W.widen (k := 2) (n := 28) (Nat.le_of_ble_eq_true rfl) (by omega) ?_
  refine lv_astore (lv' := [(5, .ref q_2), (4, .ref q_1), (0, .ref r), (1, .int p1), (2, .int (nI c1)), (3, .int p4)]) hx hb dX0_waitedAt_11 hl (by decide) rfl (fun ls hl => ?_)
  refine lv_iconst (v := 0) hx hb dX0_waitedAt_13 (by decide) ?_
  refine lv_istore (lv' := [(6, .int 0), (5, .ref q_2), (4, .ref q_1), (0, .ref r), (1, .int p1), (2, .int (nI c1)), (3, .int p4)]) hx hb dX0_waitedAt_14 hl (by decide) rfl (fun ls hl => ?_)
  refine lv_aload_n hx hb dX0_waitedAt_16 rfl (lv_at hl 3 rfl) ?_
  refine lv_iload_n hx hb dX0_waitedAt_17 rfl (lv_at hl 4 rfl) ?_
  refine lv_aload hx hb dX0_waitedAt_18 (lv_at hl 1 rfl) ?_
  refine vp_callSi (W.runS (As := [.ref r, .int p1, .ref q_2]) (rest := []) X.1 (metX0_firstAt l D dA A e0 r q_2 nn g p1 hn (fun _ => false)) (va_cwS 3 hts (lw_S q1228 q1229 q57 q1230) rfl rfl rfl (by decide +kernel) ⟨Nat.le_of_ble_eq_true rfl, Nat.le_of_ble_eq_true rfl⟩) ⟨gPre_blind, fun U hU hW => ⟨rfl, X.C (H := H) M.2.2 hU hW, by rw [hU]; exact M.1.sub [0, 2] rfl⟩⟩ rfl rfl hl.1 rfl (lv_room (Nat.le_of_ble_eq_true rfl)) dX0_waitedAt_20 ⟨Nat.le_of_ble_eq_true rfl, Nat.le_of_ble_eq_true rfl⟩) (fun r9 hr9 => ?_)
  subst hr9
  refine lv_istore (lv' := [(7, .int (w_next g 0 nn p1 (fun _ => false))), (6, .int 0), (5, .ref q_2), (4, .ref q_1), (0, .ref r), (1, .int p1), (2, .int (nI c1)), (3, .int p4)]) hx hb dX0_waitedAt_23 hl (by decide) rfl (fun ls hl => ?_)
  have L_3 : ∀ (fuL_3 : Nat) (t : Nat → Bool) (fr : Nat → Int32) (sm : Int32), (w_run g 0 nn p1 p4 c1 (t, fr, sm) = w_run g 0 nn p1 p4 c1 (fun _ => false, fun _ => 0, 0)) → cntF t nn < fuL_3 → ∀ (H : Heap) (locs : List Loc), gM D A s [(r, .inl (dA 0, (2 * nn), .inl g)), (q_1, .inl (dA 0, c1, .inl fr)), (q_2, .inl (dA 2, nn, .inl (fun k => b2i (t k))))] H locs → ∀ ls, lv_has ls 10 [(0, .ref r), (1, .int p1), (2, .int (nI c1)), (3, .int p4), (4, .ref q_1), (5, .ref q_2), (6, .int sm), (7, .int (w_next g 0 nn p1 t))] → W p l e ({ frames := 1, cells := 2, slots := 28, locals := 40 } : Room) s m ([.ref r, .int p1, .int (nI c1), .int p4] : List Value).toArray below meth c H locs 2 28 (MQ below (va_Qi (fun r9 (_ : Unit) => r9 = m_wait g 0 nn p1 p4 c1) (fun _ t => va_P D xCl [(r, .inl (dA 0, (2 * nn), .inl g))] t.heap ∧ va_D A [(r, .inl (dA 0, (2 * nn), .inl g))]) A) ([.ref r, .int p1, .int (nI c1), .int p4] : List Value).toArray s 2 28 A) (F0 m 25 ls []) := by
    intro fuL_3
    induction fuL_3 with
    | zero => intro t fr sm hrun hfuL_3; exact absurd hfuL_3 (Nat.not_lt_zero _)
    | succ fuL_3 L_3ih =>
      intro t fr sm hrun hfuL_3 H locs M ls hl
      refine lv_iload hx hb dX0_waitedAt_25 (lv_at hl 7 rfl) ?_
      refine lv_ldc (v := (-1000000)) hx hb hown (hts _ q147) dX0_waitedAt_27 ?_
      refine lv_icmp_eq (tgt := 133) hx hb dX0_waitedAt_29 (by decide) (fun c_4 => ?_) (fun c_4 => ?_)
      · -- c_4: w_next g 0 nn p1 t = (-1000000)
        have eFin : (t, fr, sm) = w_run g 0 nn p1 p4 c1  (fun _ => false, fun _ => 0, 0) := (wh_f (c := w_c g 0 nn p1) (b := w_body g 0 nn p1 p4 c1) (μ := fun x => cntF x.1 nn) (a := (t, fr, sm)) (by unfold w_c; simp [c_4])).symm.trans hrun
        refine lv_iload hx hb dX0_waitedAt_133 (lv_at hl 6 rfl) ?_
        exact W.iret (v := sm) hx hb hr (fun t9 ht9 hW9 => ⟨⟨_, (), rfl, (by unfold m_wait; rw [← eFin]), by rw [ht9]; exact M.1.sub [0] rfl, M.2.1.sub [0] (by decide) rfl⟩, M.2.2.F ht9⟩) M.2.2.2.2 dX0_waitedAt_135
      · -- c_4: w_next g 0 nn p1 t ≠ (-1000000)
        obtain ⟨kk, hkk, ek, hkf, hkc⟩ := (w_next_sp (I := g) (a := 0) (n := nn) (g := p1) (t := t)).elim (fun q => absurd q c_4) id
        have hgc9 : w_c g 0 nn p1 (t, fr, sm) = true := by unfold w_c; simp [c_4]
        rw [ek] at hl
        refine lv_aload hx hb dX0_waitedAt_32 (lv_at hl 5 rfl) ?_
        refine lv_iload hx hb dX0_waitedAt_34 (lv_at hl 7 rfl) ?_
        refine lv_iconst (v := 1) hx hb dX0_waitedAt_36 (by decide) ?_
        refine g_zast (n := nn) (f := (fun k => b2i (t k))) (j := kk) X M.1 M.2.1 M.2.2 2 2 rfl rfl (vp_in_nI (by omega) (by omega)) (nI_clamp (by omega)) dX0_waitedAt_37 (fun H locs hP hD hS => ?_)
        have M : gM D A s [(r, .inl (dA 0, (2 * nn), .inl g)), (q_1, .inl (dA 0, c1, .inl fr)), (q_2, .inl (dA 2, nn, .inl (upd (fun k => b2i (t k)) kk (x_bit 1))))] H locs := ⟨hP, hD, hS⟩
        rw [tk_up] at M
        refine lv_iconst (v := 0) hx hb dX0_waitedAt_38 (by decide) ?_
        refine lv_istore (lv' := [(8, .int 0), (0, .ref r), (1, .int p1), (2, .int (nI c1)), (3, .int p4), (4, .ref q_1), (5, .ref q_2), (6, .int sm), (7, .int (nI kk))]) hx hb dX0_waitedAt_39 hl (by decide) rfl (fun ls hl => ?_)
        refine lv_iconst (v := 1) hx hb dX0_waitedAt_41 (by decide) ?_
        refine lv_istore (lv' := [(9, .int 1), (8, .int 0), (0, .ref r), (1, .int p1), (2, .int (nI c1)), (3, .int p4), (4, .ref q_1), (5, .ref q_2), (6, .int sm), (7, .int (nI kk))]) hx hb dX0_waitedAt_42 hl (by decide) rfl (fun ls hl => ?_)
        have L_5 : ∀ (fuL_5 : Nat) (i : Nat) (x : Nat), (i ≤ c1 - 1) → (x = itr (w_fst fr) i 0) → (x < c1) → c1 - 1 - i < fuL_5 → ∀ (H : Heap) (locs : List Loc), gM D A s [(r, .inl (dA 0, (2 * nn), .inl g)), (q_1, .inl (dA 0, c1, .inl fr)), (q_2, .inl (dA 2, nn, .inl (fun k => b2i (va_up t kk true k))))] H locs → ∀ ls, lv_has ls 10 [(0, .ref r), (1, .int p1), (2, .int (nI c1)), (3, .int p4), (4, .ref q_1), (5, .ref q_2), (6, .int sm), (7, .int (nI kk)), (8, .int (nI x)), (9, .int (nI (i + 1)))] → W p l e ({ frames := 1, cells := 2, slots := 28, locals := 40 } : Room) s m ([.ref r, .int p1, .int (nI c1), .int p4] : List Value).toArray below meth c H locs 2 28 (MQ below (va_Qi (fun r9 (_ : Unit) => r9 = m_wait g 0 nn p1 p4 c1) (fun _ t => va_P D xCl [(r, .inl (dA 0, (2 * nn), .inl g))] t.heap ∧ va_D A [(r, .inl (dA 0, (2 * nn), .inl g))]) A) ([.ref r, .int p1, .int (nI c1), .int p4] : List Value).toArray s 2 28 A) (F0 m 44 ls []) := by
          intro fuL_5
          induction fuL_5 with
          | zero => intro i x hi qx hx8 hfuL_5; exact absurd hfuL_5 (Nat.not_lt_zero _)
          | succ fuL_5 L_5ih =>
            intro i x hi qx hx8 hfuL_5 H locs M ls hl
            refine lv_iload hx hb dX0_waitedAt_44 (lv_at hl 9 rfl) ?_
            refine lv_iload_n hx hb dX0_waitedAt_46 rfl (lv_at hl 2 rfl) ?_
            refine ln_icmp_ge (tgt := 78) hx hb (a := i + 1) (b := c1) (by omega) (by omega) dX0_waitedAt_47 (by decide) (fun c_6 => ?_) (fun c_6 => ?_)
            · -- c_6: nI (i + 1) ≥ nI c1
              have ei9 : i = c1 - 1 := by omega
              have qx9 : x = w_first fr c1 := by rw [ei9] at qx; exact qx
              refine lv_aload hx hb dX0_waitedAt_78 (lv_at hl 4 rfl) ?_
              refine lv_iload hx hb dX0_waitedAt_80 (lv_at hl 8 rfl) ?_
              refine g_iald (n := c1) (f := fr) (j := x) X M.1 1 0 rfl rfl (vp_in_nI (by omega) (by omega)) (nI_clamp (by omega)) dX0_waitedAt_82 ?_
              refine lv_aload_n hx hb dX0_waitedAt_83 rfl (lv_at hl 0 rfl) ?_
              refine lv_iconst (v := 2) hx hb dX0_waitedAt_84 (by decide) ?_
              refine lv_iload hx hb dX0_waitedAt_85 (lv_at hl 7 rfl) ?_
              refine lv_imul hx hb dX0_waitedAt_87 ?_
              refine lv_asi (y := nI (2 * kk)) (nI_mul 2 kk) ?_
              refine lv_iconst (v := 1) hx hb dX0_waitedAt_88 (by decide) ?_
              refine lv_iadd hx hb dX0_waitedAt_89 ?_
              refine lv_asi (y := nI ((2 * kk) + 1)) (nI_add (2 * kk) 1) ?_
              refine g_iald (n := (2 * nn)) (f := g) (j := ((2 * kk) + 1)) X M.1 0 0 rfl rfl (vp_in_nI (by omega) (by omega)) (nI_clamp (by omega)) dX0_waitedAt_90 ?_
              refine va_mmax (x := fr x) (y := g ((2 * kk) + 1)) (rest := []) hx hb (by rw [hml]; exact hl.1.symm) hown (hts _ q1220) (hts _ q530) (hts _ q77) (hts _ q531) (Nat.le_of_ble_eq_true rfl) (Nat.le_of_ble_eq_true rfl) (Nat.le_of_ble_eq_true rfl) (Nat.le_of_ble_eq_true rfl) dX0_waitedAt_91 ?_
              refine lv_asi (y := x_max (fr x) (g ((2 * kk) + 1))) rfl ?_
              refine lv_istore (lv' := [(9, .int (x_max (fr x) (g ((2 * kk) + 1)))), (0, .ref r), (1, .int p1), (2, .int (nI c1)), (3, .int p4), (4, .ref q_1), (5, .ref q_2), (6, .int sm), (7, .int (nI kk)), (8, .int (nI x))]) hx hb dX0_waitedAt_94 hl (by decide) rfl (fun ls hl => ?_)
              refine lv_iload hx hb dX0_waitedAt_96 (lv_at hl 7 rfl) ?_
              refine lv_iload hx hb dX0_waitedAt_98 (lv_at hl 0 rfl) ?_
              refine lv_aload_n hx hb dX0_waitedAt_100 rfl (lv_at hl 1 rfl) ?_
              refine lv_iconst (v := 2) hx hb dX0_waitedAt_101 (by decide) ?_
              refine lv_iload hx hb dX0_waitedAt_102 (lv_at hl 8 rfl) ?_
              refine lv_imul hx hb dX0_waitedAt_104 ?_
              refine lv_asi (y := nI (2 * kk)) (nI_mul 2 kk) ?_
              refine lv_iconst (v := 1) hx hb dX0_waitedAt_105 (by decide) ?_
              refine lv_iadd hx hb dX0_waitedAt_106 ?_
              refine lv_asi (y := nI ((2 * kk) + 1)) (nI_add (2 * kk) 1) ?_
              refine g_iald (n := (2 * nn)) (f := g) (j := ((2 * kk) + 1)) X M.1 0 0 rfl rfl (vp_in_nI (by omega) (by omega)) (nI_clamp (by omega)) dX0_waitedAt_107 ?_
              refine lv_isub hx hb dX0_waitedAt_108 ?_
              refine lv_iadd hx hb dX0_waitedAt_109 ?_
              refine lv_istore (lv' := [(6, .int (sm + ((x_max (fr x) (g ((2 * kk) + 1))) - (g ((2 * kk) + 1))))), (9, .int (x_max (fr x) (g ((2 * kk) + 1)))), (0, .ref r), (1, .int p1), (2, .int (nI c1)), (3, .int p4), (4, .ref q_1), (5, .ref q_2), (7, .int (nI kk)), (8, .int (nI x))]) hx hb dX0_waitedAt_110 hl (by decide) rfl (fun ls hl => ?_)
              refine lv_aload hx hb dX0_waitedAt_112 (lv_at hl 6 rfl) ?_
              refine lv_iload hx hb dX0_waitedAt_114 (lv_at hl 9 rfl) ?_
              refine lv_iload hx hb dX0_waitedAt_116 (lv_at hl 1 rfl) ?_
              refine lv_iload_n hx hb dX0_waitedAt_118 rfl (lv_at hl 5 rfl) ?_
              refine lv_iadd hx hb dX0_waitedAt_119 ?_
              refine g_iast (n := c1) (f := fr) (j := x) X M.1 M.2.1 M.2.2 1 0 rfl rfl (vp_in_nI (by omega) (by omega)) (nI_clamp (by omega)) dX0_waitedAt_120 (fun H locs hP hD hS => ?_)
              have M : gM D A s [(r, .inl (dA 0, (2 * nn), .inl g)), (q_1, .inl (dA 0, c1, .inl (upd fr x ((x_max (fr x) (g ((2 * kk) + 1))) + p4)))), (q_2, .inl (dA 2, nn, .inl (fun k => b2i (va_up t kk true k))))] H locs := ⟨hP, hD, hS⟩
              refine lv_aload_n hx hb dX0_waitedAt_121 rfl (lv_at hl 2 rfl) ?_
              refine lv_iload_n hx hb dX0_waitedAt_122 rfl (lv_at hl 3 rfl) ?_
              refine lv_aload hx hb dX0_waitedAt_123 (lv_at hl 7 rfl) ?_
              refine vp_callSi (W.runS (As := [.ref r, .int p1, .ref q_2]) (rest := []) X.1 (metX0_firstAt l D dA A e0 r q_2 nn g p1 hn (va_up t kk true)) (va_cwS 3 hts (lw_S q1228 q1229 q57 q1230) rfl rfl rfl (by decide +kernel) ⟨Nat.le_of_ble_eq_true rfl, Nat.le_of_ble_eq_true rfl⟩) ⟨gPre_blind, fun U hU hW => ⟨rfl, X.C (H := H) M.2.2 hU hW, by rw [hU]; exact M.1.sub [0, 2] rfl⟩⟩ rfl rfl hl.1 rfl (lv_room (Nat.le_of_ble_eq_true rfl)) dX0_waitedAt_125 ⟨Nat.le_of_ble_eq_true rfl, Nat.le_of_ble_eq_true rfl⟩) (fun r9 hr9 => ?_)
              subst hr9
              refine lv_istore (lv' := [(7, .int (w_next g 0 nn p1 (va_up t kk true))), (6, .int (sm + ((x_max (fr x) (g ((2 * kk) + 1))) - (g ((2 * kk) + 1))))), (9, .int (x_max (fr x) (g ((2 * kk) + 1)))), (0, .ref r), (1, .int p1), (2, .int (nI c1)), (3, .int p4), (4, .ref q_1), (5, .ref q_2), (8, .int (nI x))]) hx hb dX0_waitedAt_128 hl (by decide) rfl (fun ls hl => ?_)
              refine lv_goto (tgt := 25) hx hb dX0_waitedAt_130 (by decide) ?_
              have hcn := cntF_up hkf nn hkk
              have dec9 : cntF (va_up t kk true) nn < fuL_3 := by omega
              have hst9 : (va_up t kk true, upd fr x ((x_max (fr x) (g ((2 * kk) + 1))) + p4), sm + ((x_max (fr x) (g ((2 * kk) + 1))) - (g ((2 * kk) + 1)))) = w_body g 0 nn p1 p4 c1 (t, fr, sm) := by
                exact w_step_eq (by omega) ek.symm qx9 (by unfold w_tk; rw [Nat.zero_add]; rfl) (by rw [Nat.zero_add])
              have hrun9 : w_run g 0 nn p1 p4 c1  (va_up t kk true, upd fr x ((x_max (fr x) (g ((2 * kk) + 1))) + p4), sm + ((x_max (fr x) (g ((2 * kk) + 1))) - (g ((2 * kk) + 1)))) = w_run g 0 nn p1 p4 c1  (fun _ => false, fun _ => 0, 0) := by
                rw [hst9, ← hrun]
                exact (wh_t (c := w_c g 0 nn p1) (b := w_body g 0 nn p1 p4 c1) (μ := fun x => cntF x.1 nn) (I := fun _ => True) (w_go (by omega)) trivial hgc9).symm
              exact L_3ih  (va_up t kk true) (upd fr x ((x_max (fr x) (g ((2 * kk) + 1))) + p4)) (sm + ((x_max (fr x) (g ((2 * kk) + 1))) - (g ((2 * kk) + 1)))) hrun9 dec9 _ _ M ls (lv_sub hl [3, 4, 5, 6, 7, 8, 1, 0] rfl)
            · -- c_6: nI (i + 1) < nI c1
              refine lv_aload hx hb dX0_waitedAt_50 (lv_at hl 4 rfl) ?_
              refine lv_iload hx hb dX0_waitedAt_52 (lv_at hl 9 rfl) ?_
              refine g_iald (n := c1) (f := fr) (j := (i + 1)) X M.1 1 0 rfl rfl (vp_in_nI (by omega) (by omega)) (nI_clamp (by omega)) dX0_waitedAt_54 ?_
              refine lv_aload hx hb dX0_waitedAt_55 (lv_at hl 4 rfl) ?_
              refine lv_iload hx hb dX0_waitedAt_57 (lv_at hl 8 rfl) ?_
              refine g_iald (n := c1) (f := fr) (j := x) X M.1 1 0 rfl rfl (vp_in_nI (by omega) (by omega)) (nI_clamp (by omega)) dX0_waitedAt_59 ?_
              refine lb_icmp_ge (tgt := 68) hx hb dX0_waitedAt_60 (by decide) (fun c_7 c_7' => ?_) (fun c_7 c_7' => ?_)
              · -- c_7: fr (i + 1) ≥ fr x
                refine lv_iload hx hb dX0_waitedAt_68 (lv_at hl 8 rfl) ?_
                refine lv_istore (lv' := [(8, .int (nI x)), (0, .ref r), (1, .int p1), (2, .int (nI c1)), (3, .int p4), (4, .ref q_1), (5, .ref q_2), (6, .int sm), (7, .int (nI kk)), (9, .int (nI (i + 1)))]) hx hb dX0_waitedAt_70 hl (by decide) rfl (fun ls hl => ?_)
                refine lv_iinc (v := nI (i + 1 + 1)) (lv' := [(9, .int (nI (i + 1 + 1))), (8, .int (nI x)), (0, .ref r), (1, .int p1), (2, .int (nI c1)), (3, .int p4), (4, .ref q_1), (5, .ref q_2), (6, .int sm), (7, .int (nI kk))]) hx hb dX0_waitedAt_72 hl (k := 9) rfl (mk_inc _) (by decide) rfl (fun ls hl => ?_)
                refine lv_goto (tgt := 44) hx hb dX0_waitedAt_75 (by decide) ?_
                exact L_5ih  (i + 1) x (by omega) (by first | (rw [itr_s, ← qx]; done) | (rw [itr_s, ← qx]; first | (simp [w_fst, c_4, c_6, c_7, c_7', up_s, up_n, nI_1, b2i]; done) | (simp_all [w_fst]; done) | grind [w_fst])) (by omega) (by omega) _ _ M ls (lv_sub hl [2, 3, 4, 5, 6, 7, 8, 9, 1, 0] rfl)
              · -- c_7: fr (i + 1) < fr x
                refine lv_iload hx hb dX0_waitedAt_63 (lv_at hl 9 rfl) ?_
                refine lv_goto (tgt := 70) hx hb dX0_waitedAt_65 (by decide) ?_
                refine lv_istore (lv' := [(8, .int (nI (i + 1))), (0, .ref r), (1, .int p1), (2, .int (nI c1)), (3, .int p4), (4, .ref q_1), (5, .ref q_2), (6, .int sm), (7, .int (nI kk)), (9, .int (nI (i + 1)))]) hx hb dX0_waitedAt_70 hl (by decide) rfl (fun ls hl => ?_)
                refine lv_iinc (v := nI (i + 1 + 1)) (lv' := [(9, .int (nI (i + 1 + 1))), (8, .int (nI (i + 1))), (0, .ref r), (1, .int p1), (2, .int (nI c1)), (3, .int p4), (4, .ref q_1), (5, .ref q_2), (6, .int sm), (7, .int (nI kk))]) hx hb dX0_waitedAt_72 hl (k := 9) rfl (mk_inc _) (by decide) rfl (fun ls hl => ?_)
                refine lv_goto (tgt := 44) hx hb dX0_waitedAt_75 (by decide) ?_
                exact L_5ih  (i + 1) (i + 1) (by omega) (by first | (rw [itr_s, ← qx]; done) | (rw [itr_s, ← qx]; first | (simp [w_fst, c_4, c_6, c_7, c_7', up_s, up_n, nI_1, b2i]; done) | (simp_all [w_fst]; done) | grind [w_fst])) (by omega) (by omega) _ _ M ls (lv_sub hl [2, 3, 4, 5, 6, 7, 8, 9, 1, 0] rfl)
        exact L_5 ((c1 - 1 - 0) + 1) 0 0 (Nat.zero_le _) (by first | rfl | (simp only [itr]; assumption) | (simp [itr, c_4, up_s, up_n, nI_1, b2i]; done)) (by omega) (Nat.lt_succ_self _) _ _ M ls (lv_sub hl [2, 3, 4, 5, 6, 7, 8, 9, 1, 0] rfl)
  exact L_3 ((cntF (fun _ => false) nn) + 1) (fun _ => false) (fun _ => 0) 0 rfl (Nat.lt_succ_self _) _ _ M ls (lv_sub hl [4, 5, 6, 7, 3, 2, 1, 0] rfl)

