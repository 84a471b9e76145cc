/-! THE SYSTEM, 10: clerks shared out -/
def xs_add (a b : Int32) : Int32 := if a = (-1000000) ∨ b = (-1000000) then (-1000000) else a + b
def k_m (p q r z : Nat) (g : Nat) : Nat := if g = 0 then p else if g = 1 then q else if g = 2 then r else z
theorem k_m_le {p q r z g N : Nat} (h1 : p ≤ N) (h2 : q ≤ N) (h3 : r ≤ N) (h4 : z ≤ N) : k_m p q r z g ≤ N := by unfold k_m; split; exact h1; split; exact h2; split; exact h3; exact h4
def xk_al (w : Nat → Int32) (p q r z : Nat) : Int32 := itr (fun g a => xs_add a (w (9 * g + k_m p q r z g))) 4 0
def xk_stp (w : Nat → Int32) (c p q r : Nat) (x : Int32 × (Nat → Int32)) : Int32 × (Nat → Int32) := if ¬ xk_al w p q r (c - p - q - r) = (-1000000) ∧ (x.1 = (-1000000) ∨ xk_al w p q r (c - p - q - r) < x.1) then (xk_al w p q r (c - p - q - r), va_cpy (fun k => nI (k_m p q r (c - p - q - r) k)) x.2 0 0 4) else x
def xk_r (w : Nat → Int32) (c p q : Nat) (x : Int32 × (Nat → Int32)) : Int32 × (Nat → Int32) := itr (fun l x => xk_stp w c p q (c - p - q - l) x) (c - p - q + 1) x
def xk_q (w : Nat → Int32) (c p : Nat) (x : Int32 × (Nat → Int32)) : Int32 × (Nat → Int32) := itr (fun j x => xk_r w c p (c - p - j) x) (c - p + 1) x
def xk_p (w : Nat → Int32) (c : Nat) (x : Int32 × (Nat → Int32)) : Int32 × (Nat → Int32) := itr (fun i x => xk_q w c (c - i) x) (c + 1) x
def xk_res (w : Nat → Int32) (c : Nat) (what : Int32) : Int32 := if (xk_p w c ((-1000000), fun _ => 0)).1 = (-1000000) ∨ what = 0 then (xk_p w c ((-1000000), fun _ => 0)).1 else (xk_p w c ((-1000000), fun _ => 0)).2 (what - 1).toNatClampNeg
theorem vp_in_pred {x : Int32} (h : inB 0 4 x = true) (h0 : ¬ x = 0) : vp_in (x - 1) 4 := by
  obtain ⟨k, hk, rfl⟩ := inB_ex h (n := 4) rfl
  rcases k with _ | k
  · exact absurd rfl h0
  · rw [nI_pred]; exact vp_in_nI (by omega) (by decide)
theorem cpy4_eq {f g b : Nat → Int32} (h : ∀ k, k < 4 → f k = g k) : va_cpy f b 0 0 4 = va_cpy g b 0 0 4 := by
  funext k
  unfold va_cpy
  by_cases q : 0 ≤ k ∧ k < 0 + 4
  · rw [if_pos q, if_pos q]; exact h _ (by omega)
  · rw [if_neg q, if_neg q]
set_option maxHeartbeats 4000000 in
set_option maxRecDepth 100000 in
theorem metX0_shared (l : Launch) (D : va_G) (dA : Nat → ClassId) (A : Nat → Prop) (e0 : Nat) (wt : Nat) (wf : Nat → Int32) (c1 : Nat) (p2 : Int32) (hc1 : 1 ≤ c1) (hc8 : c1 ≤ 8) (hp2 : inB 0 4 p2 = true) : Met l yX0_shared (ws_ yX0_shared cX0_shared 9 (some .int)) ({ frames := 1, cells := 2, slots := 8, locals := 60 } : Room) (va_Pc [.ref wt, .int (nI c1), .int p2] (fun U => xC D dA A e0 U ∧ va_P D xCl [(wt, .inl (dA 0, 36, .inl wf))] U.heap ∧ va_D A [(wt, .inl (dA 0, 36, .inl wf))])) (va_Qi (fun r9 (_ : Unit) => r9 = xk_res wf c1 p2) (fun _ t => va_P D xCl [(wt, .inl (dA 0, 36, .inl wf))] t.heap ∧ va_D A [(wt, .inl (dA 0, 36, .inl wf))]) A) 2 8 A := by
  refine Met.ofW (cc := cX0_shared) (maxL := 9) (ret := (some .int)) (by decide) rfl ?_
  intro p e s m args below meth c s₁ B hml hv
  obtain ⟨rfl, hC, hP, hD⟩ := hv
  have hx := B.exec
  have hb := B.bytes
  have hr := B.returns
  have hts := atoms_spec (ws := (ws_ yX0_shared cX0_shared 9 (some .int))) B.pre
  have hts : ∀ w ∈ lw_all, w.before _ s = true := fun w h => hts w (List.mem_cons_of_mem _ h)
  have hown : s.vm.findClass RX0 = some m.cls := findClass_of_methodNamed B.named
  have hlocks := B.notSynchronized
  have S : CallFix p m c cX0_shared 9 s ([.ref wt, .int (nI c1), .int p2] : List Value).toArray lw_all RX0 := ⟨hx, hb, hml, hown, hts⟩
  have X : xX RX0 p s m ([.ref wt, .int (nI c1), .int p2] : List Value).toArray c cX0_shared 9 D dA A e0 := ⟨S, hC⟩
  have M : gM D A s [(wt, .inl (dA 0, 36, .inl wf))] s.heap [] := ⟨hP, hD, va_S.rf⟩
  have hl := lv_entry ([.ref wt, .int (nI c1), .int p2]) (n := 9) (Nat.le_of_ble_eq_true rfl)
  rw [lg_entry_eq]
  generalize (lg_sl ([.ref wt, .int (nI c1), .int p2]) ++ List.replicate (9 - (lg_sl ([.ref wt, .int (nI c1), .int p2])).length) Slot.unset).toArray = ls at hl ⊢
  have hl : lv_has ls 9 [(0, .ref wt), (1, .int (nI c1)), (2, .int p2)] := hl
  refine lv_ldc (v := (-1000000)) hx hb hown (hts _ q147) dX0_shared_0 ?_
  refine lv_istore_n (lv' := [(3, .int (-1000000)), (0, .ref wt), (1, .int (nI c1)), (2, .int p2)]) hx hb dX0_shared_2 rfl hl (by decide) rfl (fun ls hl => ?_)
  refine lv_iconst (v := 4) hx hb dX0_shared_3 (by decide) ?_
  refine g_newi (N' := 4) X (X.hts _ q130) M.1 M.2.1 M.2.2 (by decide) (by decide) (Nat.le_of_ble_eq_true rfl) (Nat.le_of_ble_eq_true rfl) (Nat.le_of_ble_eq_true rfl) dX0_shared_4 (fun q_1 H hP hD hS => ?_)
  have M : gM D A s [(wt, .inl (dA 0, 36, .inl wf)), (q_1, .inl (dA 0, 4, .inl (fun _ => 0)))] H _ := ⟨hP, hD, hS⟩
  refine W.widen (k := 1) (n := 4) (Nat.le_of_ble_eq_true rfl) (Nat.le_of_ble_eq_true rfl) ?_
  refine lv_astore (lv' := [(4, .ref q_1), (3, .int (-1000000)), (0, .ref wt), (1, .int (nI c1)), (2, .int p2)]) hx hb dX0_shared_6 hl (by decide) rfl (fun ls hl => ?_)
  refine lv_iconst (v := 4) hx hb dX0_shared_8 (by decide) ?_
  refine g_newi (N' := 4) X (X.hts _ q130) M.1 M.2.1 M.2.2 (by decide) (by decide) (Nat.le_of_ble_eq_true rfl) (Nat.le_of_ble_eq_true rfl) (Nat.le_of_ble_eq_true rfl) dX0_shared_9 (fun q_2 H hP hD hS => ?_)
  have M : gM D A s [(wt, .inl (dA 0, 36, .inl wf)), (q_1, .inl (dA 0, 4, .inl (fun _ => 0))), (q_2, .inl (dA 0, 4, .inl (fun _ => 0)))] H _ := ⟨hP, hD, hS⟩
  refine W.widen (k := 2) (n := 8) (Nat.le_of_ble_eq_true rfl) (Nat.le_of_ble_eq_true rfl) ?_
  refine lv_astore (lv' := [(5, .ref q_2), (4, .ref q_1), (3, .int (-1000000)), (0, .ref wt), (1, .int (nI c1)), (2, .int p2)]) hx hb dX0_shared_11 hl (by decide) rfl (fun ls hl => ?_)
  refine lv_aload hx hb dX0_shared_13 (lv_at hl 0 rfl) ?_
  refine lv_iconst (v := 0) hx hb dX0_shared_15 (by decide) ?_
  refine lv_iload_n hx hb dX0_shared_16 rfl (lv_at hl 4 rfl) ?_
  refine g_iast (n := 4) (f := (fun _ => 0)) (j := 0) X M.1 M.2.1 M.2.2 2 0 rfl rfl (show vp_in (nI 0) _ from vp_in_nI (by decide) (by decide)) rfl dX0_shared_17 (fun H locs hP hD hS => ?_)
  have M : gM D A s [(wt, .inl (dA 0, 36, .inl wf)), (q_1, .inl (dA 0, 4, .inl (fun _ => 0))), (q_2, .inl (dA 0, 4, .inl (upd (fun _ => 0) 0 (nI c1))))] H locs := ⟨hP, hD, hS⟩
  have L_3 : ∀ (fuL_3 : Nat) (i : Nat) (rp : Nat) (m1 : Nat → Int32) (x1 : Int32) (b1 : Nat → Int32), (i + rp = c1 + 1) → (m1 0 = nI rp - 1) → ((x1, b1) = itr (fun i z => xk_q wf c1 (c1 - i) z) i ((-1000000), fun _ => 0)) → rp < fuL_3 → ∀ (H : Heap) (locs : List Loc), gM D A s [(wt, .inl (dA 0, 36, .inl wf)), (q_1, .inl (dA 0, 4, .inl b1)), (q_2, .inl (dA 0, 4, .inl m1))] H locs → ∀ ls, lv_has ls 9 [(0, .ref wt), (1, .int (nI c1)), (2, .int p2), (3, .int x1), (4, .ref q_1), (5, .ref q_2)] → W p l e ({ frames := 1, cells := 2, slots := 8, locals := 60 } : Room) s m ([.ref wt, .int (nI c1), .int p2] : List Value).toArray below meth c H locs 2 8 (MQ below (va_Qi (fun r9 (_ : Unit) => r9 = xk_res wf c1 p2) (fun _ t => va_P D xCl [(wt, .inl (dA 0, 36, .inl wf))] t.heap ∧ va_D A [(wt, .inl (dA 0, 36, .inl wf))]) A) ([.ref wt, .int (nI c1), .int p2] : List Value).toArray s 2 8 A) (F0 m 18 ls []) := by
    intro fuL_3
    induction fuL_3 with
    | zero => intro i rp m1 x1 b1 hip hm0 hx1 hfuL_3; exact absurd hfuL_3 (Nat.not_lt_zero _)
    | succ fuL_3 L_3ih =>
      intro i rp m1 x1 b1 hip hm0 hx1 hfuL_3 H locs M ls hl
      refine lv_aload hx hb dX0_shared_18 (lv_at hl 5 rfl) ?_
      refine lv_iconst (v := 0) hx hb dX0_shared_20 (by decide) ?_
      refine g_iald (n := 4) (f := m1) (j := 0) X M.1 2 0 rfl rfl (show vp_in (nI 0) _ from vp_in_nI (by decide) (by decide)) rfl dX0_shared_21 ?_
      refine lv_asi (y := nI rp - 1) (hm0) ?_
      refine lb_if_lt (tgt := 211) hx hb dX0_shared_22 (by decide) (fun c_4 c_4' => ?_) (fun c_4 c_4' => ?_)
      · -- c_4: nI rp - 1 < 0
        have erp : rp = 0 := dec_lt0 (by omega) c_4
        have hfin : (x1, b1) = itr (fun i z => xk_q wf c1 (c1 - i) z) (c1 + 1) ((-1000000), fun _ => 0) := by rw [show c1 + 1 = i by omega]; exact hx1
        refine lv_iload_n hx hb dX0_shared_211 rfl (lv_at hl 3 rfl) ?_
        refine lv_ldc (v := (-1000000)) hx hb hown (hts _ q147) dX0_shared_212 ?_
        refine lv_icmp_eq (tgt := 221) hx hb dX0_shared_214 (by decide) (fun c_5 => ?_) (fun c_5 => ?_)
        · -- c_5: x1 = (-1000000)
          refine lv_iload_n hx hb dX0_shared_221 rfl (lv_at hl 3 rfl) ?_
          refine lv_goto (tgt := 231) hx hb dX0_shared_222 (by decide) ?_
          exact W.iret (v := x1) hx hb hr (fun t9 ht9 hW9 => ⟨⟨_, (), rfl, (by unfold xk_res xk_p; rw [← hfin]; simp [c_4, c_4', c_5]), by rw [ht9]; exact M.1.sub [0] rfl, M.2.1.sub [0] (by decide) rfl⟩, M.2.2.F ht9⟩) M.2.2.2.2 dX0_shared_231
        · -- c_5: x1 ≠ (-1000000)
          refine lv_iload_n hx hb dX0_shared_217 rfl (lv_at hl 2 rfl) ?_
          refine lv_if_ne (tgt := 225) hx hb dX0_shared_218 (by decide) (fun c_6 => ?_) (fun c_6 => ?_)
          · -- c_6: p2 ≠ 0
            refine lv_aload hx hb dX0_shared_225 (lv_at hl 4 rfl) ?_
            refine lv_iload_n hx hb dX0_shared_227 rfl (lv_at hl 2 rfl) ?_
            refine lv_iconst (v := 1) hx hb dX0_shared_228 (by decide) ?_
            refine lv_isub hx hb dX0_shared_229 ?_
            refine g_iald (n := 4) (f := b1) (j := (p2 - 1).toNatClampNeg) X M.1 1 0 rfl rfl (vp_in_pred hp2 c_6) rfl dX0_shared_230 ?_
            exact W.iret (v := b1 (p2 - 1).toNatClampNeg) hx hb hr (fun t9 ht9 hW9 => ⟨⟨_, (), rfl, (by unfold xk_res xk_p; rw [← hfin]; simp [c_4, c_4', c_5, c_6]), by rw [ht9]; exact M.1.sub [0] rfl, M.2.1.sub [0] (by decide) rfl⟩, M.2.2.F ht9⟩) M.2.2.2.2 dX0_shared_231
          · -- c_6: p2 = 0
            refine lv_iload_n hx hb dX0_shared_221 rfl (lv_at hl 3 rfl) ?_
            refine lv_goto (tgt := 231) hx hb dX0_shared_222 (by decide) ?_
            exact W.iret (v := x1) hx hb hr (fun t9 ht9 hW9 => ⟨⟨_, (), rfl, (by unfold xk_res xk_p; rw [← hfin]; simp [c_4, c_4', c_5, c_6]), by rw [ht9]; exact M.1.sub [0] rfl, M.2.1.sub [0] (by decide) rfl⟩, M.2.2.F ht9⟩) M.2.2.2.2 dX0_shared_231
      · -- c_4: nI rp - 1 ≥ 0
        obtain ⟨pp, rfl⟩ := dec_ge0 c_4
        have hmp : m1 0 = nI pp := hm0.trans (nI_pred _)
        refine lv_aload hx hb dX0_shared_25 (lv_at hl 5 rfl) ?_
        refine lv_iconst (v := 1) hx hb dX0_shared_27 (by decide) ?_
        refine lv_iload_n hx hb dX0_shared_28 rfl (lv_at hl 1 rfl) ?_
        refine lv_aload hx hb dX0_shared_29 (lv_at hl 5 rfl) ?_
        refine lv_iconst (v := 0) hx hb dX0_shared_31 (by decide) ?_
        refine g_iald (n := 4) (f := m1) (j := 0) X M.1 2 0 rfl rfl (show vp_in (nI 0) _ from vp_in_nI (by decide) (by decide)) rfl dX0_shared_32 ?_
        refine lv_asi (y := nI pp) (hmp) ?_
        refine lv_isub hx hb dX0_shared_33 ?_
        refine lv_asi (y := nI (c1 - pp)) (nI_subN (a := c1) (b := pp) (by omega)) ?_
        refine g_iast (n := 4) (f := m1) (j := 1) X M.1 M.2.1 M.2.2 2 0 rfl rfl (show vp_in (nI 1) _ from vp_in_nI (by decide) (by decide)) rfl dX0_shared_34 (fun H locs hP hD hS => ?_)
        have M : gM D A s [(wt, .inl (dA 0, 36, .inl wf)), (q_1, .inl (dA 0, 4, .inl b1)), (q_2, .inl (dA 0, 4, .inl (upd m1 1 (nI (c1 - pp)))))] H locs := ⟨hP, hD, hS⟩
        have L_7 : ∀ (fuL_7 : Nat) (j : Nat) (rq : Nat) (m2 : Nat → Int32) (x2 : Int32) (b2 : Nat → Int32), (j + rq = c1 - pp + 1) → (m2 0 = nI pp) → (m2 1 = nI rq - 1) → ((x2, b2) = itr (fun j z => xk_r wf c1 pp (c1 - pp - j) z) j (x1, b1)) → rq < fuL_7 → ∀ (H : Heap) (locs : List Loc), gM D A s [(wt, .inl (dA 0, 36, .inl wf)), (q_1, .inl (dA 0, 4, .inl b2)), (q_2, .inl (dA 0, 4, .inl m2))] H locs → ∀ ls, lv_has ls 9 [(0, .ref wt), (1, .int (nI c1)), (2, .int p2), (3, .int x2), (4, .ref q_1), (5, .ref q_2)] → W p l e ({ frames := 1, cells := 2, slots := 8, locals := 60 } : Room) s m ([.ref wt, .int (nI c1), .int p2] : List Value).toArray below meth c H locs 2 8 (MQ below (va_Qi (fun r9 (_ : Unit) => r9 = xk_res wf c1 p2) (fun _ t => va_P D xCl [(wt, .inl (dA 0, 36, .inl wf))] t.heap ∧ va_D A [(wt, .inl (dA 0, 36, .inl wf))]) A) ([.ref wt, .int (nI c1), .int p2] : List Value).toArray s 2 8 A) (F0 m 35 ls []) := by
          intro fuL_7
          induction fuL_7 with
          | zero => intro j rq m2 x2 b2 hjq hn0 hn1 hx2 hfuL_7; exact absurd hfuL_7 (Nat.not_lt_zero _)
          | succ fuL_7 L_7ih =>
            intro j rq m2 x2 b2 hjq hn0 hn1 hx2 hfuL_7 H locs M ls hl
            refine lv_aload hx hb dX0_shared_35 (lv_at hl 5 rfl) ?_
            refine lv_iconst (v := 1) hx hb dX0_shared_37 (by decide) ?_
            refine g_iald (n := 4) (f := m2) (j := 1) X M.1 2 0 rfl rfl (show vp_in (nI 1) _ from vp_in_nI (by decide) (by decide)) rfl dX0_shared_38 ?_
            refine lv_asi (y := nI rq - 1) (hn1) ?_
            refine lb_if_lt (tgt := 200) hx hb dX0_shared_39 (by decide) (fun c_8 c_8' => ?_) (fun c_8 c_8' => ?_)
            · -- c_8: nI rq - 1 < 0
              have erq : rq = 0 := dec_lt0 (by omega) c_8
              refine lv_aload hx hb dX0_shared_200 (lv_at hl 5 rfl) ?_
              refine lv_iconst (v := 0) hx hb dX0_shared_202 (by decide) ?_
              refine lv_dup2_11 hx hb dX0_shared_203 rfl rfl ?_
              refine g_iald (n := 4) (f := m2) (j := 0) X M.1 2 0 rfl rfl (show vp_in (nI 0) _ from vp_in_nI (by decide) (by decide)) rfl dX0_shared_204 ?_
              refine lv_asi (y := nI pp) (hn0) ?_
              refine lv_iconst (v := 1) hx hb dX0_shared_205 (by decide) ?_
              refine lv_isub hx hb dX0_shared_206 ?_
              refine g_iast (n := 4) (f := m2) (j := 0) X M.1 M.2.1 M.2.2 2 0 rfl rfl (show vp_in (nI 0) _ from vp_in_nI (by decide) (by decide)) rfl dX0_shared_207 (fun H locs hP hD hS => ?_)
              have M : gM D A s [(wt, .inl (dA 0, 36, .inl wf)), (q_1, .inl (dA 0, 4, .inl b2)), (q_2, .inl (dA 0, 4, .inl (upd m2 0 ((nI pp) - 1))))] H locs := ⟨hP, hD, hS⟩
              refine lv_goto (tgt := 18) hx hb dX0_shared_208 (by decide) ?_
              exact L_3ih  (i + 1) pp (upd m2 0 ((nI pp) - 1)) x2 b2 (by omega) rfl (by rw [itr_s, ← hx1, show c1 - i = pp by omega]; exact hx2.trans (by unfold xk_q; rw [show j = c1 - pp + 1 by omega])) (by omega) _ _ M ls (lv_sub hl [0, 1, 2, 3, 4, 5] rfl)
            · -- c_8: nI rq - 1 ≥ 0
              obtain ⟨qq, rfl⟩ := dec_ge0 c_8
              have hnq : m2 1 = nI qq := hn1.trans (nI_pred _)
              refine lv_aload hx hb dX0_shared_42 (lv_at hl 5 rfl) ?_
              refine lv_iconst (v := 2) hx hb dX0_shared_44 (by decide) ?_
              refine lv_iload_n hx hb dX0_shared_45 rfl (lv_at hl 1 rfl) ?_
              refine lv_aload hx hb dX0_shared_46 (lv_at hl 5 rfl) ?_
              refine lv_iconst (v := 0) hx hb dX0_shared_48 (by decide) ?_
              refine g_iald (n := 4) (f := m2) (j := 0) X M.1 2 0 rfl rfl (show vp_in (nI 0) _ from vp_in_nI (by decide) (by decide)) rfl dX0_shared_49 ?_
              refine lv_asi (y := nI pp) (hn0) ?_
              refine lv_isub hx hb dX0_shared_50 ?_
              refine lv_asi (y := nI (c1 - pp)) (nI_subN (a := c1) (b := pp) (by omega)) ?_
              refine lv_aload hx hb dX0_shared_51 (lv_at hl 5 rfl) ?_
              refine lv_iconst (v := 1) hx hb dX0_shared_53 (by decide) ?_
              refine g_iald (n := 4) (f := m2) (j := 1) X M.1 2 0 rfl rfl (show vp_in (nI 1) _ from vp_in_nI (by decide) (by decide)) rfl dX0_shared_54 ?_
              refine lv_asi (y := nI qq) (hnq) ?_
              refine lv_isub hx hb dX0_shared_55 ?_
              refine lv_asi (y := nI ((c1 - pp) - qq)) (nI_subN (a := c1 - pp) (b := qq) (by omega)) ?_
              refine g_iast (n := 4) (f := m2) (j := 2) X M.1 M.2.1 M.2.2 2 0 rfl rfl (show vp_in (nI 2) _ from vp_in_nI (by decide) (by decide)) rfl dX0_shared_56 (fun H locs hP hD hS => ?_)
              have M : gM D A s [(wt, .inl (dA 0, 36, .inl wf)), (q_1, .inl (dA 0, 4, .inl b2)), (q_2, .inl (dA 0, 4, .inl (upd m2 2 (nI ((c1 - pp) - qq)))))] H locs := ⟨hP, hD, hS⟩
              have L_9 : ∀ (fuL_9 : Nat) (l9 : Nat) (rr : Nat) (m3 : Nat → Int32) (x3 : Int32) (b3 : Nat → Int32), (l9 + rr = c1 - pp - qq + 1) → (m3 0 = nI pp) → (m3 1 = nI qq) → (m3 2 = nI rr - 1) → ((x3, b3) = itr (fun t z => xk_stp wf c1 pp qq (c1 - pp - qq - t) z) l9 (x2, b2)) → rr < fuL_9 → ∀ (H : Heap) (locs : List Loc), gM D A s [(wt, .inl (dA 0, 36, .inl wf)), (q_1, .inl (dA 0, 4, .inl b3)), (q_2, .inl (dA 0, 4, .inl m3))] H locs → ∀ ls, lv_has ls 9 [(0, .ref wt), (1, .int (nI c1)), (2, .int p2), (3, .int x3), (4, .ref q_1), (5, .ref q_2)] → W p l e ({ frames := 1, cells := 2, slots := 8, locals := 60 } : Room) s m ([.ref wt, .int (nI c1), .int p2] : List Value).toArray below meth c H locs 2 8 (MQ below (va_Qi (fun r9 (_ : Unit) => r9 = xk_res wf c1 p2) (fun _ t => va_P D xCl [(wt, .inl (dA 0, 36, .inl wf))] t.heap ∧ va_D A [(wt, .inl (dA 0, 36, .inl wf))]) A) ([.ref wt, .int (nI c1), .int p2] : List Value).toArray s 2 8 A) (F0 m 57 ls []) := by
                intro fuL_9
                induction fuL_9 with
                | zero => intro l9 rr m3 x3 b3 hlr ho0 ho1 ho2 hx3 hfuL_9; exact absurd hfuL_9 (Nat.not_lt_zero _)
                | succ fuL_9 L_9ih =>
                  intro l9 rr m3 x3 b3 hlr ho0 ho1 ho2 hx3 hfuL_9 H locs M ls hl
                  refine lv_aload hx hb dX0_shared_57 (lv_at hl 5 rfl) ?_
                  refine lv_iconst (v := 2) hx hb dX0_shared_59 (by decide) ?_
                  refine g_iald (n := 4) (f := m3) (j := 2) X M.1 2 0 rfl rfl (show vp_in (nI 2) _ from vp_in_nI (by decide) (by decide)) rfl dX0_shared_60 ?_
                  refine lv_asi (y := nI rr - 1) (ho2) ?_
                  refine lb_if_lt (tgt := 189) hx hb dX0_shared_61 (by decide) (fun c_10 c_10' => ?_) (fun c_10 c_10' => ?_)
                  · -- c_10: nI rr - 1 < 0
                    have err : rr = 0 := dec_lt0 (by omega) c_10
                    refine lv_aload hx hb dX0_shared_189 (lv_at hl 5 rfl) ?_
                    refine lv_iconst (v := 1) hx hb dX0_shared_191 (by decide) ?_
                    refine lv_dup2_11 hx hb dX0_shared_192 rfl rfl ?_
                    refine g_iald (n := 4) (f := m3) (j := 1) X M.1 2 0 rfl rfl (show vp_in (nI 1) _ from vp_in_nI (by decide) (by decide)) rfl dX0_shared_193 ?_
                    refine lv_asi (y := nI qq) (ho1) ?_
                    refine lv_iconst (v := 1) hx hb dX0_shared_194 (by decide) ?_
                    refine lv_isub hx hb dX0_shared_195 ?_
                    refine g_iast (n := 4) (f := m3) (j := 1) X M.1 M.2.1 M.2.2 2 0 rfl rfl (show vp_in (nI 1) _ from vp_in_nI (by decide) (by decide)) rfl dX0_shared_196 (fun H locs hP hD hS => ?_)
                    have M : gM D A s [(wt, .inl (dA 0, 36, .inl wf)), (q_1, .inl (dA 0, 4, .inl b3)), (q_2, .inl (dA 0, 4, .inl (upd m3 1 ((nI qq) - 1))))] H locs := ⟨hP, hD, hS⟩
                    refine lv_goto (tgt := 35) hx hb dX0_shared_197 (by decide) ?_
                    exact L_7ih  (j + 1) qq (upd m3 1 ((nI qq) - 1)) x3 b3 (by omega) ho0 rfl (by rw [itr_s, ← hx2, show c1 - pp - j = qq by omega]; exact hx3.trans (by unfold xk_r; rw [show l9 = c1 - pp - qq + 1 by omega])) (by omega) _ _ M ls (lv_sub hl [0, 1, 2, 3, 4, 5] rfl)
                  · -- c_10: nI rr - 1 ≥ 0
                    obtain ⟨ro, rfl⟩ := dec_ge0 c_10
                    have hor : m3 2 = nI ro := ho2.trans (nI_pred _)
                    refine lv_aload hx hb dX0_shared_64 (lv_at hl 5 rfl) ?_
                    refine lv_iconst (v := 3) hx hb dX0_shared_66 (by decide) ?_
                    refine lv_iload_n hx hb dX0_shared_67 rfl (lv_at hl 1 rfl) ?_
                    refine lv_aload hx hb dX0_shared_68 (lv_at hl 5 rfl) ?_
                    refine lv_iconst (v := 0) hx hb dX0_shared_70 (by decide) ?_
                    refine g_iald (n := 4) (f := m3) (j := 0) X M.1 2 0 rfl rfl (show vp_in (nI 0) _ from vp_in_nI (by decide) (by decide)) rfl dX0_shared_71 ?_
                    refine lv_asi (y := nI pp) (ho0) ?_
                    refine lv_isub hx hb dX0_shared_72 ?_
                    refine lv_asi (y := nI (c1 - pp)) (nI_subN (a := c1) (b := pp) (by omega)) ?_
                    refine lv_aload hx hb dX0_shared_73 (lv_at hl 5 rfl) ?_
                    refine lv_iconst (v := 1) hx hb dX0_shared_75 (by decide) ?_
                    refine g_iald (n := 4) (f := m3) (j := 1) X M.1 2 0 rfl rfl (show vp_in (nI 1) _ from vp_in_nI (by decide) (by decide)) rfl dX0_shared_76 ?_
                    refine lv_asi (y := nI qq) (ho1) ?_
                    refine lv_isub hx hb dX0_shared_77 ?_
                    refine lv_asi (y := nI ((c1 - pp) - qq)) (nI_subN (a := c1 - pp) (b := qq) (by omega)) ?_
                    refine lv_aload hx hb dX0_shared_78 (lv_at hl 5 rfl) ?_
                    refine lv_iconst (v := 2) hx hb dX0_shared_80 (by decide) ?_
                    refine g_iald (n := 4) (f := m3) (j := 2) X M.1 2 0 rfl rfl (show vp_in (nI 2) _ from vp_in_nI (by decide) (by decide)) rfl dX0_shared_81 ?_
                    refine lv_asi (y := nI ro) (hor) ?_
                    refine lv_isub hx hb dX0_shared_82 ?_
                    refine lv_asi (y := nI (((c1 - pp) - qq) - ro)) (nI_subN (a := (c1 - pp) - qq) (b := ro) (by omega)) ?_
                    refine g_iast (n := 4) (f := m3) (j := 3) X M.1 M.2.1 M.2.2 2 0 rfl rfl (show vp_in (nI 3) _ from vp_in_nI (by decide) (by decide)) rfl dX0_shared_83 (fun H locs hP hD hS => ?_)
                    have M : gM D A s [(wt, .inl (dA 0, 36, .inl wf)), (q_1, .inl (dA 0, 4, .inl b3)), (q_2, .inl (dA 0, 4, .inl (upd m3 3 (nI (((c1 - pp) - qq) - ro)))))] H locs := ⟨hP, hD, hS⟩
                    have hmv : ∀ g, g < 4 → (upd m3 3 (nI (c1 - pp - qq - ro))) g = nI (k_m pp qq ro (c1 - pp - qq - ro) g) := fun g hg => match g, hg with | 0, _ => ho0 | 1, _ => ho1 | 2, _ => hor | 3, _ => rfl | g + 4, hg => absurd hg (by omega)
                    have hkm : ∀ g, k_m pp qq ro (c1 - pp - qq - ro) g ≤ 8 := fun g => k_m_le (by omega) (by omega) (by omega) (by omega)
                    refine lv_iconst (v := 0) hx hb dX0_shared_84 (by decide) ?_
                    refine lv_istore (lv' := [(6, .int 0), (0, .ref wt), (1, .int (nI c1)), (2, .int p2), (3, .int x3), (4, .ref q_1), (5, .ref q_2)]) hx hb dX0_shared_85 hl (by decide) rfl (fun ls hl => ?_)
                    refine lv_iconst (v := 0) hx hb dX0_shared_87 (by decide) ?_
                    refine lv_istore (lv' := [(7, .int 0), (6, .int 0), (0, .ref wt), (1, .int (nI c1)), (2, .int p2), (3, .int x3), (4, .ref q_1), (5, .ref q_2)]) hx hb dX0_shared_88 hl (by decide) rfl (fun ls hl => ?_)
                    have L_11 : ∀ (fuL_11 : Nat) (g : Nat) (al : Int32), (g ≤ 4) → (al = itr (fun g a => xs_add a (wf (9 * g + k_m pp qq ro (c1 - pp - qq - ro) g))) g 0) → 4 - g < fuL_11 → ∀ (H : Heap) (locs : List Loc), gM D A s [(wt, .inl (dA 0, 36, .inl wf)), (q_1, .inl (dA 0, 4, .inl b3)), (q_2, .inl (dA 0, 4, .inl (upd m3 3 (nI (((c1 - pp) - qq) - ro)))))] H locs → ∀ ls, lv_has ls 9 [(0, .ref wt), (1, .int (nI c1)), (2, .int p2), (3, .int x3), (4, .ref q_1), (5, .ref q_2), (6, .int al), (7, .int (nI g))] → W p l e ({ frames := 1, cells := 2, slots := 8, locals := 60 } : Room) s m ([.ref wt, .int (nI c1), .int p2] : List Value).toArray below meth c H locs 2 8 (MQ below (va_Qi (fun r9 (_ : Unit) => r9 = xk_res wf c1 p2) (fun _ t => va_P D xCl [(wt, .inl (dA 0, 36, .inl wf))] t.heap ∧ va_D A [(wt, .inl (dA 0, 36, .inl wf))]) A) ([.ref wt, .int (nI c1), .int p2] : List Value).toArray s 2 8 A) (F0 m 90 ls []) := by
                      intro fuL_11
                      induction fuL_11 with
                      | zero => intro g al hg qal hfuL_11; exact absurd hfuL_11 (Nat.not_lt_zero _)
                      | succ fuL_11 L_11ih =>
                        intro g al hg qal hfuL_11 H locs M ls hl
                        have hkg := hkm g
                        refine lv_iload hx hb dX0_shared_90 (lv_at hl 7 rfl) ?_
                        refine lv_iconst (v := 4) hx hb dX0_shared_92 (by decide) ?_
                        refine ln_icmp_ge (tgt := 143) hx hb (a := g) (b := 4) (by omega) (by omega) dX0_shared_93 (by decide) (fun c_12 => ?_) (fun c_12 => ?_)
                        · -- c_12: nI g ≥ 4
                          have eg : g = 4 := by omega
                          rw [eg] at qal
                          refine lv_iload hx hb dX0_shared_143 (lv_at hl 6 rfl) ?_
                          refine lv_ldc (v := (-1000000)) hx hb hown (hts _ q147) dX0_shared_145 ?_
                          refine lv_icmp_eq (tgt := 178) hx hb dX0_shared_147 (by decide) (fun c_13 => ?_) (fun c_13 => ?_)
                          · -- c_13: al = (-1000000)
                            refine lv_aload hx hb dX0_shared_178 (lv_at hl 5 rfl) ?_
                            refine lv_iconst (v := 2) hx hb dX0_shared_180 (by decide) ?_
                            refine lv_dup2_11 hx hb dX0_shared_181 rfl rfl ?_
                            refine g_iald (n := 4) (f := (upd m3 3 (nI (((c1 - pp) - qq) - ro)))) (j := 2) X M.1 2 0 rfl rfl (show vp_in (nI 2) _ from vp_in_nI (by decide) (by decide)) rfl dX0_shared_182 ?_
                            refine lv_asi (y := nI ro) (hor) ?_
                            refine lv_iconst (v := 1) hx hb dX0_shared_183 (by decide) ?_
                            refine lv_isub hx hb dX0_shared_184 ?_
                            refine g_iast (n := 4) (f := (upd m3 3 (nI (((c1 - pp) - qq) - ro)))) (j := 2) X M.1 M.2.1 M.2.2 2 0 rfl rfl (show vp_in (nI 2) _ from vp_in_nI (by decide) (by decide)) rfl dX0_shared_185 (fun H locs hP hD hS => ?_)
                            have M : gM D A s [(wt, .inl (dA 0, 36, .inl wf)), (q_1, .inl (dA 0, 4, .inl b3)), (q_2, .inl (dA 0, 4, .inl (upd (upd m3 3 (nI (((c1 - pp) - qq) - ro))) 2 ((nI ro) - 1))))] H locs := ⟨hP, hD, hS⟩
                            refine lv_goto (tgt := 57) hx hb dX0_shared_186 (by decide) ?_
                            exact L_9ih  (l9 + 1) ro (upd (upd m3 3 (nI (((c1 - pp) - qq) - ro))) 2 ((nI ro) - 1)) x3 b3 (by omega) ho0 ho1 rfl (by rw [itr_s, ← hx3, show c1 - pp - qq - l9 = ro by omega]; unfold xk_stp xk_al; rw [← qal]; simp [c_13]) (by omega) _ _ M ls (lv_sub hl [0, 1, 2, 3, 4, 5] rfl)
                          · -- c_13: al ≠ (-1000000)
                            refine lv_iload_n hx hb dX0_shared_150 rfl (lv_at hl 3 rfl) ?_
                            refine lv_ldc (v := (-1000000)) hx hb hown (hts _ q147) dX0_shared_151 ?_
                            refine lv_icmp_eq (tgt := 165) hx hb dX0_shared_153 (by decide) (fun c_14 => ?_) (fun c_14 => ?_)
                            · -- c_14: x3 = (-1000000)
                              refine lv_iload hx hb dX0_shared_165 (lv_at hl 6 rfl) ?_
                              refine lv_istore_n (lv' := [(3, .int al), (0, .ref wt), (1, .int (nI c1)), (2, .int p2), (4, .ref q_1), (5, .ref q_2), (6, .int al), (7, .int (nI g))]) hx hb dX0_shared_167 rfl hl (by decide) rfl (fun ls hl => ?_)
                              refine lv_aload hx hb dX0_shared_168 (lv_at hl 5 rfl) ?_
                              refine lv_iconst (v := 0) hx hb dX0_shared_170 (by decide) ?_
                              refine lv_aload hx hb dX0_shared_171 (lv_at hl 4 rfl) ?_
                              refine lv_iconst (v := 0) hx hb dX0_shared_173 (by decide) ?_
                              refine lv_iconst (v := 4) hx hb dX0_shared_174 (by decide) ?_
                              refine va_copyi hx hb (by rw [hml]; exact hl.1.symm) hown (hts _ q377) (hts _ q379) (hts _ q378) (hts _ q71) X.K M.1 M.2.1 M.2.2 2 1 0 0 rfl rfl rfl rfl rfl (by decide) (by decide) (by decide) (by decide) (by decide) (fun i9 h9 => rfl) (Nat.le_of_ble_eq_true rfl) (Nat.le_of_ble_eq_true rfl) dX0_shared_175 (fun H locs hP hD hS => ?_)
                              rw [show va_cpy (upd m3 3 (nI (((c1 - pp) - qq) - ro))) b3 (0 : Int32).toNatClampNeg (0 : Int32).toNatClampNeg (4 : Int32).toNatClampNeg = va_cpy (fun k => nI (k_m pp qq ro (c1 - pp - qq - ro) k)) b3 0 0 4 from cpy4_eq hmv] at hP hD
                              have M : gM D A s [(wt, .inl (dA 0, 36, .inl wf)), (q_1, .inl (dA 0, 4, .inl (va_cpy (fun k => nI (k_m pp qq ro (c1 - pp - qq - ro) k)) b3 0 0 4))), (q_2, .inl (dA 0, 4, .inl (upd m3 3 (nI (((c1 - pp) - qq) - ro)))))] H locs := ⟨hP, hD, hS⟩
                              refine lv_aload hx hb dX0_shared_178 (lv_at hl 5 rfl) ?_
                              refine lv_iconst (v := 2) hx hb dX0_shared_180 (by decide) ?_
                              refine lv_dup2_11 hx hb dX0_shared_181 rfl rfl ?_
                              refine g_iald (n := 4) (f := (upd m3 3 (nI (((c1 - pp) - qq) - ro)))) (j := 2) X M.1 2 0 rfl rfl (show vp_in (nI 2) _ from vp_in_nI (by decide) (by decide)) rfl dX0_shared_182 ?_
                              refine lv_asi (y := nI ro) (hor) ?_
                              refine lv_iconst (v := 1) hx hb dX0_shared_183 (by decide) ?_
                              refine lv_isub hx hb dX0_shared_184 ?_
                              refine g_iast (n := 4) (f := (upd m3 3 (nI (((c1 - pp) - qq) - ro)))) (j := 2) X M.1 M.2.1 M.2.2 2 0 rfl rfl (show vp_in (nI 2) _ from vp_in_nI (by decide) (by decide)) rfl dX0_shared_185 (fun H locs hP hD hS => ?_)
                              have M : gM D A s [(wt, .inl (dA 0, 36, .inl wf)), (q_1, .inl (dA 0, 4, .inl (va_cpy (fun k => nI (k_m pp qq ro (c1 - pp - qq - ro) k)) b3 0 0 4))), (q_2, .inl (dA 0, 4, .inl (upd (upd m3 3 (nI (((c1 - pp) - qq) - ro))) 2 ((nI ro) - 1))))] H locs := ⟨hP, hD, hS⟩
                              refine lv_goto (tgt := 57) hx hb dX0_shared_186 (by decide) ?_
                              exact L_9ih  (l9 + 1) ro (upd (upd m3 3 (nI (((c1 - pp) - qq) - ro))) 2 ((nI ro) - 1)) al (va_cpy (fun k => nI (k_m pp qq ro (c1 - pp - qq - ro) k)) b3 0 0 4) (by omega) ho0 ho1 rfl (by rw [itr_s, ← hx3, show c1 - pp - qq - l9 = ro by omega]; unfold xk_stp xk_al; rw [← qal]; simp [c_13, c_14]) (by omega) _ _ M ls (lv_sub hl [1, 2, 3, 0, 4, 5] rfl)
                            · -- c_14: x3 ≠ (-1000000)
                              refine lv_iload hx hb dX0_shared_156 (lv_at hl 6 rfl) ?_
                              refine lv_iload_n hx hb dX0_shared_158 rfl (lv_at hl 3 rfl) ?_
                              refine lb_icmp_lt (tgt := 165) hx hb dX0_shared_159 (by decide) (fun c_15 c_15' => ?_) (fun c_15 c_15' => ?_)
                              · -- c_15: al < x3
                                refine lv_iload hx hb dX0_shared_165 (lv_at hl 6 rfl) ?_
                                refine lv_istore_n (lv' := [(3, .int al), (0, .ref wt), (1, .int (nI c1)), (2, .int p2), (4, .ref q_1), (5, .ref q_2), (6, .int al), (7, .int (nI g))]) hx hb dX0_shared_167 rfl hl (by decide) rfl (fun ls hl => ?_)
                                refine lv_aload hx hb dX0_shared_168 (lv_at hl 5 rfl) ?_
                                refine lv_iconst (v := 0) hx hb dX0_shared_170 (by decide) ?_
                                refine lv_aload hx hb dX0_shared_171 (lv_at hl 4 rfl) ?_
                                refine lv_iconst (v := 0) hx hb dX0_shared_173 (by decide) ?_
                                refine lv_iconst (v := 4) hx hb dX0_shared_174 (by decide) ?_
                                refine va_copyi hx hb (by rw [hml]; exact hl.1.symm) hown (hts _ q377) (hts _ q379) (hts _ q378) (hts _ q71) X.K M.1 M.2.1 M.2.2 2 1 0 0 rfl rfl rfl rfl rfl (by decide) (by decide) (by decide) (by decide) (by decide) (fun i9 h9 => rfl) (Nat.le_of_ble_eq_true rfl) (Nat.le_of_ble_eq_true rfl) dX0_shared_175 (fun H locs hP hD hS => ?_)
                                rw [show va_cpy (upd m3 3 (nI (((c1 - pp) - qq) - ro))) b3 (0 : Int32).toNatClampNeg (0 : Int32).toNatClampNeg (4 : Int32).toNatClampNeg = va_cpy (fun k => nI (k_m pp qq ro (c1 - pp - qq - ro) k)) b3 0 0 4 from cpy4_eq hmv] at hP hD
                                have M : gM D A s [(wt, .inl (dA 0, 36, .inl wf)), (q_1, .inl (dA 0, 4, .inl (va_cpy (fun k => nI (k_m pp qq ro (c1 - pp - qq - ro) k)) b3 0 0 4))), (q_2, .inl (dA 0, 4, .inl (upd m3 3 (nI (((c1 - pp) - qq) - ro)))))] H locs := ⟨hP, hD, hS⟩
                                refine lv_aload hx hb dX0_shared_178 (lv_at hl 5 rfl) ?_
                                refine lv_iconst (v := 2) hx hb dX0_shared_180 (by decide) ?_
                                refine lv_dup2_11 hx hb dX0_shared_181 rfl rfl ?_
                                refine g_iald (n := 4) (f := (upd m3 3 (nI (((c1 - pp) - qq) - ro)))) (j := 2) X M.1 2 0 rfl rfl (show vp_in (nI 2) _ from vp_in_nI (by decide) (by decide)) rfl dX0_shared_182 ?_
                                refine lv_asi (y := nI ro) (hor) ?_
                                refine lv_iconst (v := 1) hx hb dX0_shared_183 (by decide) ?_
                                refine lv_isub hx hb dX0_shared_184 ?_
                                refine g_iast (n := 4) (f := (upd m3 3 (nI (((c1 - pp) - qq) - ro)))) (j := 2) X M.1 M.2.1 M.2.2 2 0 rfl rfl (show vp_in (nI 2) _ from vp_in_nI (by decide) (by decide)) rfl dX0_shared_185 (fun H locs hP hD hS => ?_)
                                have M : gM D A s [(wt, .inl (dA 0, 36, .inl wf)), (q_1, .inl (dA 0, 4, .inl (va_cpy (fun k => nI (k_m pp qq ro (c1 - pp - qq - ro) k)) b3 0 0 4))), (q_2, .inl (dA 0, 4, .inl (upd (upd m3 3 (nI (((c1 - pp) - qq) - ro))) 2 ((nI ro) - 1))))] H locs := ⟨hP, hD, hS⟩
                                refine lv_goto (tgt := 57) hx hb dX0_shared_186 (by decide) ?_
                                exact L_9ih  (l9 + 1) ro (upd (upd m3 3 (nI (((c1 - pp) - qq) - ro))) 2 ((nI ro) - 1)) al (va_cpy (fun k => nI (k_m pp qq ro (c1 - pp - qq - ro) k)) b3 0 0 4) (by omega) ho0 ho1 rfl (by rw [itr_s, ← hx3, show c1 - pp - qq - l9 = ro by omega]; unfold xk_stp xk_al; rw [← qal]; simp [c_13, c_14, c_15, c_15']) (by omega) _ _ M ls (lv_sub hl [1, 2, 3, 0, 4, 5] rfl)
                              · -- c_15: al ≥ x3
                                refine lv_goto (tgt := 178) hx hb dX0_shared_162 (by decide) ?_
                                refine lv_aload hx hb dX0_shared_178 (lv_at hl 5 rfl) ?_
                                refine lv_iconst (v := 2) hx hb dX0_shared_180 (by decide) ?_
                                refine lv_dup2_11 hx hb dX0_shared_181 rfl rfl ?_
                                refine g_iald (n := 4) (f := (upd m3 3 (nI (((c1 - pp) - qq) - ro)))) (j := 2) X M.1 2 0 rfl rfl (show vp_in (nI 2) _ from vp_in_nI (by decide) (by decide)) rfl dX0_shared_182 ?_
                                refine lv_asi (y := nI ro) (hor) ?_
                                refine lv_iconst (v := 1) hx hb dX0_shared_183 (by decide) ?_
                                refine lv_isub hx hb dX0_shared_184 ?_
                                refine g_iast (n := 4) (f := (upd m3 3 (nI (((c1 - pp) - qq) - ro)))) (j := 2) X M.1 M.2.1 M.2.2 2 0 rfl rfl (show vp_in (nI 2) _ from vp_in_nI (by decide) (by decide)) rfl dX0_shared_185 (fun H locs hP hD hS => ?_)
                                have M : gM D A s [(wt, .inl (dA 0, 36, .inl wf)), (q_1, .inl (dA 0, 4, .inl b3)), (q_2, .inl (dA 0, 4, .inl (upd (upd m3 3 (nI (((c1 - pp) - qq) - ro))) 2 ((nI ro) - 1))))] H locs := ⟨hP, hD, hS⟩
                                refine lv_goto (tgt := 57) hx hb dX0_shared_186 (by decide) ?_
                                exact L_9ih  (l9 + 1) ro (upd (upd m3 3 (nI (((c1 - pp) - qq) - ro))) 2 ((nI ro) - 1)) x3 b3 (by omega) ho0 ho1 rfl (by rw [itr_s, ← hx3, show c1 - pp - qq - l9 = ro by omega]; unfold xk_stp xk_al; rw [← qal]; simp [c_13, c_14, c_15, c_15']) (by omega) _ _ M ls (lv_sub hl [0, 1, 2, 3, 4, 5] rfl)
                        · -- c_12: nI g < 4
                          refine lv_aload_n hx hb dX0_shared_96 rfl (lv_at hl 0 rfl) ?_
                          refine lv_bipush (v := 9) hx hb dX0_shared_97 (by decide) ?_
                          refine lv_iload hx hb dX0_shared_99 (lv_at hl 7 rfl) ?_
                          refine lv_imul hx hb dX0_shared_101 ?_
                          refine lv_asi (y := nI (9 * g)) (nI_mul 9 g) ?_
                          refine lv_aload hx hb dX0_shared_102 (lv_at hl 5 rfl) ?_
                          refine lv_iload hx hb dX0_shared_104 (lv_at hl 7 rfl) ?_
                          refine g_iald (n := 4) (f := (upd m3 3 (nI (((c1 - pp) - qq) - ro)))) (j := g) X M.1 2 0 rfl rfl (vp_in_nI (by omega) (by omega)) (nI_clamp (by omega)) dX0_shared_106 ?_
                          refine lv_asi (y := nI (k_m pp qq ro (c1 - pp - qq - ro) g)) (hmv g (by omega)) ?_
                          refine lv_iadd hx hb dX0_shared_107 ?_
                          refine lv_asi (y := nI ((9 * g) + (k_m pp qq ro (c1 - pp - qq - ro) g))) (nI_add (9 * g) (k_m pp qq ro (c1 - pp - qq - ro) g)) ?_
                          refine g_iald (n := 36) (f := wf) (j := ((9 * g) + (k_m pp qq ro (c1 - pp - qq - ro) g))) X M.1 0 0 rfl rfl (vp_in_nI (by have := hkm g; omega) (by decide)) (nI_clamp (by omega)) dX0_shared_108 ?_
                          refine lv_istore (lv' := [(8, .int (wf ((9 * g) + (k_m pp qq ro (c1 - pp - qq - ro) g)))), (0, .ref wt), (1, .int (nI c1)), (2, .int p2), (3, .int x3), (4, .ref q_1), (5, .ref q_2), (6, .int al), (7, .int (nI g))]) hx hb dX0_shared_109 hl (by decide) rfl (fun ls hl => ?_)
                          refine lv_iload hx hb dX0_shared_111 (lv_at hl 7 rfl) ?_
                          refine lv_ldc (v := (-1000000)) hx hb hown (hts _ q147) dX0_shared_113 ?_
                          refine lv_icmp_eq (tgt := 125) hx hb dX0_shared_115 (by decide) (fun c_16 => ?_) (fun c_16 => ?_)
                          · -- c_16: al = (-1000000)
                            refine lv_ldc (v := (-1000000)) hx hb hown (hts _ q147) dX0_shared_125 ?_
                            refine lv_goto (tgt := 135) hx hb dX0_shared_127 (by decide) ?_
                            refine lv_istore (lv' := [(6, .int (-1000000)), (8, .int (wf ((9 * g) + (k_m pp qq ro (c1 - pp - qq - ro) g)))), (0, .ref wt), (1, .int (nI c1)), (2, .int p2), (3, .int x3), (4, .ref q_1), (5, .ref q_2), (7, .int (nI g))]) hx hb dX0_shared_135 hl (by decide) rfl (fun ls hl => ?_)
                            refine lv_iinc (v := nI (g + 1)) (lv' := [(7, .int (nI (g + 1))), (6, .int (-1000000)), (8, .int (wf ((9 * g) + (k_m pp qq ro (c1 - pp - qq - ro) g)))), (0, .ref wt), (1, .int (nI c1)), (2, .int p2), (3, .int x3), (4, .ref q_1), (5, .ref q_2)]) hx hb dX0_shared_137 hl (k := 8) rfl (mk_inc _) (by decide) rfl (fun ls hl => ?_)
                            refine lv_goto (tgt := 90) hx hb dX0_shared_140 (by decide) ?_
                            exact L_11ih  (g + 1) (-1000000) (by omega) (by first | (rw [itr_s, ← qal]; done) | (rw [itr_s, ← qal]; first | (simp [xs_add, c_4, c_4', c_8, c_8', c_10, c_10', c_12, c_16, up_s, up_n, nI_1, b2i]; done) | (simp_all [xs_add]; done) | grind [xs_add])) (by omega) _ _ M ls (lv_sub hl [3, 4, 5, 6, 7, 8, 1, 0] rfl)
                          · -- c_16: al ≠ (-1000000)
                            refine lv_iload hx hb dX0_shared_118 (lv_at hl 0 rfl) ?_
                            refine lv_ldc (v := (-1000000)) hx hb hown (hts _ q147) dX0_shared_120 ?_
                            refine lv_icmp_ne (tgt := 130) hx hb dX0_shared_122 (by decide) (fun c_17 => ?_) (fun c_17 => ?_)
                            · -- c_17: wf ((9 * g) + (k_m pp qq ro (c1 - pp - qq - ro) g)) ≠ (-1000000)
                              refine lv_iload hx hb dX0_shared_130 (lv_at hl 7 rfl) ?_
                              refine lv_iload hx hb dX0_shared_132 (lv_at hl 0 rfl) ?_
                              refine lv_iadd hx hb dX0_shared_134 ?_
                              refine lv_istore (lv' := [(6, .int (al + (wf ((9 * g) + (k_m pp qq ro (c1 - pp - qq - ro) g))))), (8, .int (wf ((9 * g) + (k_m pp qq ro (c1 - pp - qq - ro) g)))), (0, .ref wt), (1, .int (nI c1)), (2, .int p2), (3, .int x3), (4, .ref q_1), (5, .ref q_2), (7, .int (nI g))]) hx hb dX0_shared_135 hl (by decide) rfl (fun ls hl => ?_)
                              refine lv_iinc (v := nI (g + 1)) (lv' := [(7, .int (nI (g + 1))), (6, .int (al + (wf ((9 * g) + (k_m pp qq ro (c1 - pp - qq - ro) g))))), (8, .int (wf ((9 * g) + (k_m pp qq ro (c1 - pp - qq - ro) g)))), (0, .ref wt), (1, .int (nI c1)), (2, .int p2), (3, .int x3), (4, .ref q_1), (5, .ref q_2)]) hx hb dX0_shared_137 hl (k := 8) rfl (mk_inc _) (by decide) rfl (fun ls hl => ?_)
                              refine lv_goto (tgt := 90) hx hb dX0_shared_140 (by decide) ?_
                              exact L_11ih  (g + 1) (al + (wf ((9 * g) + (k_m pp qq ro (c1 - pp - qq - ro) g)))) (by omega) (by first | (rw [itr_s, ← qal]; done) | (rw [itr_s, ← qal]; first | (simp [xs_add, c_4, c_4', c_8, c_8', c_10, c_10', c_12, c_16, c_17, up_s, up_n, nI_1, b2i]; done) | (simp_all [xs_add]; done) | grind [xs_add])) (by omega) _ _ M ls (lv_sub hl [3, 4, 5, 6, 7, 8, 1, 0] rfl)
                            · -- c_17: wf ((9 * g) + (k_m pp qq ro (c1 - pp - qq - ro) g)) = (-1000000)
                              refine lv_ldc (v := (-1000000)) hx hb hown (hts _ q147) dX0_shared_125 ?_
                              refine lv_goto (tgt := 135) hx hb dX0_shared_127 (by decide) ?_
                              refine lv_istore (lv' := [(6, .int (-1000000)), (8, .int (wf ((9 * g) + (k_m pp qq ro (c1 - pp - qq - ro) g)))), (0, .ref wt), (1, .int (nI c1)), (2, .int p2), (3, .int x3), (4, .ref q_1), (5, .ref q_2), (7, .int (nI g))]) hx hb dX0_shared_135 hl (by decide) rfl (fun ls hl => ?_)
                              refine lv_iinc (v := nI (g + 1)) (lv' := [(7, .int (nI (g + 1))), (6, .int (-1000000)), (8, .int (wf ((9 * g) + (k_m pp qq ro (c1 - pp - qq - ro) g)))), (0, .ref wt), (1, .int (nI c1)), (2, .int p2), (3, .int x3), (4, .ref q_1), (5, .ref q_2)]) hx hb dX0_shared_137 hl (k := 8) rfl (mk_inc _) (by decide) rfl (fun ls hl => ?_)
                              refine lv_goto (tgt := 90) hx hb dX0_shared_140 (by decide) ?_
                              exact L_11ih  (g + 1) (-1000000) (by omega) (by first | (rw [itr_s, ← qal]; done) | (rw [itr_s, ← qal]; first | (simp [xs_add, c_4, c_4', c_8, c_8', c_10, c_10', c_12, c_16, c_17, up_s, up_n, nI_1, b2i]; done) | (simp_all [xs_add]; done) | grind [xs_add])) (by omega) _ _ M ls (lv_sub hl [3, 4, 5, 6, 7, 8, 1, 0] rfl)
                    exact L_11 ((4 - 0) + 1) 0 0 (Nat.zero_le _) (by first | rfl | (simp only [itr]; assumption) | (simp [itr, c_4, c_4', c_8, c_8', c_10, c_10', up_s, up_n, nI_1, b2i]; done)) (Nat.lt_succ_self _) _ _ M ls (lv_sub hl [2, 3, 4, 5, 6, 7, 1, 0] rfl)
              exact L_9 ((c1 - pp - qq + 1) + 1) 0 (c1 - pp - qq + 1) (upd m2 2 (nI (c1 - pp - qq))) x2 b2 (Nat.zero_add _) hn0 hnq ((nI_pred (c1 - pp - qq)).symm) rfl (Nat.lt_succ_self _) _ _ M ls (lv_sub hl [0, 1, 2, 3, 4, 5] rfl)
        exact L_7 ((c1 - pp + 1) + 1) 0 (c1 - pp + 1) (upd m1 1 (nI (c1 - pp))) x1 b1 (Nat.zero_add _) hmp ((nI_pred (c1 - pp)).symm) rfl (Nat.lt_succ_self _) _ _ M ls (lv_sub hl [0, 1, 2, 3, 4, 5] rfl)
  exact L_3 ((c1 + 1) + 1) 0 (c1 + 1) (upd (fun _ => 0) 0 (nI c1)) (-1000000) (fun _ => 0) (Nat.zero_add _) ((nI_pred c1).symm) rfl (Nat.lt_succ_self _) _ _ M ls (lv_sub hl [3, 4, 5, 2, 1, 0] rfl)

section XCTI
variable {p : Program} {l : Launch} {e : Env} {R : Room} {s : State} {m : MethodId} {args : Array Value} {below : List Frame} {meth : Method} {c : Code} {H : Heap} {locs : List Loc} {cells slots : Nat} {Q : State → Prop}
variable {own : String} {cc : ByteArray} {nL pc : Nat} {ls : Array Slot} {rest : List Value} {D : va_G} {dA : Nat → ClassId} {A : Nat → Prop} {e0 h : Nat} {G : xG} {T cs : va_W} {F : Nat → Int32} {Rr : Nat → Nat → Int32}
variable {y : MethodName} {bytes : ByteArray} {maxL n index mc ms : Nat} {wsc : List Cond} {rm : Room} {As st : List Value} {ret : Option FieldType}
theorem x_cTI {j a : Nat} {x0 : va_E} {v : Int32} (X : xX own p s m args c cc nL D dA A e0) (M : xM D dA A e0 h G (T ++ cs) s F Rr H locs) (hj : cs[j]? = some (a, x0)) (hM : ∀ A' : Nat → Prop, Met l y wsc rm (va_Pc As (fun U => xC D dA A' e0 U ∧ va_P D xCl [(a, x0)] U.heap ∧ va_D A' [(a, x0)])) (va_Qi (fun r9 (_ : Unit) => r9 = v) (fun _ t => va_P D xCl [(a, x0)] t.heap ∧ va_D A' [(a, x0)]) A') mc ms A')
    (cw : CallB R s args own index y bytes maxL ret wsc rm mc ms n ∧ (Cond.static y).before args s = true) (hn : As.length = n) (hl : ls.size = nL) (hst : st = As.reverse ++ rest) (hW : (rest.map fun v => v.category).sum ≤ 8) (hdg : decode cc pc = .ok (.invokestatic index, 3)) (hf : cells + mc ≤ R.cells ∧ slots + ms ≤ R.slots)
    (kk : ∀ (H1 : Heap) (locs1 : List Loc), xM D dA A e0 h G (T ++ cs) s F Rr H1 locs1 → W p l e R s m args below meth c H1 locs1 (cells + mc) (slots + ms) Q (F0 m (pc + 3) ls (.int v :: rest))) : W p l e R s m args below meth c H locs cells slots Q (F0 m pc ls st) := by
  have hi := xT_k (h := h) (dA := dA) (G := G) (F := F) (Rr := Rr) (T := T) hj
  have hDc := va_D1 M.2.1 hi
  have hFc := va_free1 M.2.1 M.2.2.1 X.hA hi
  refine va_calli (va_runS (As := As) (rest := rest) X.1 (hM _) cw ⟨gPre_blindD, fun U hU hW => ⟨rfl, X.Cn M.2.2.1 hFc hU hW, by rw [hU]; exact va_P1 (M.1 _ _ hi), hDc.self⟩⟩ rfl hn hl hst (by simpa [JFrame.monitorRoom] using hW) hdg hf) M.2.2.1 (fun q _ h => hFc q h) hFc (fun r u t H1 locs1 ht hvm hp hB hz hk hS => ?_)
  obtain ⟨hP1, hD1⟩ := hB; rw [ht] at hP1
  obtain ⟨p1, d1⟩ := fr_set (x := x0) M.1 M.2.1 hi hk (hP1 0 _ rfl)
  have e1 : (xWs h dA G F Rr (T ++ cs)).set (21 + (T.length + j)) (a, x0) = xWs h dA G F Rr (T ++ cs) := by
    apply List.ext_getElem?
    intro t
    by_cases ht' : t = 21 + (T.length + j)
    · subst ht'
      rw [List.getElem?_set_self (List.getElem?_eq_some_iff.mp hi).1, hi]
    · rw [List.getElem?_set_ne (Ne.symm ht')]
  rw [e1] at p1 d1
  rw [hp]
  exact kk H1 locs1 ⟨p1, d1, hS, M.2.2.2⟩
end XCTI
theorem nI_mod2 {j : Nat} (h : j < 2 ^ 30) : nI j - nI j / 2 * 2 = nI (j % 2) := by
  have e : nI j / 2 = nI (j / 2) := by
    rw [← Int32.toInt_inj, Int32.toInt_div, nI_toInt (by omega), nI_toInt (by omega), show (2 : Int32).toInt = 2 by decide]
    have : ((j : Nat) : Int).tdiv 2 = ((j / 2 : Nat) : Int) := by rw [Int.tdiv_eq_ediv_of_nonneg (by omega)]; omega
    rw [this]; exact Int.bmod_eq_of_le (by omega) (by omega)
  rw [e, show nI (j / 2) * 2 = nI (j / 2 * 2) from nI_mul _ 2, nI_subN (by omega)]
  congr 1; omega
def xk_bad (g : Nat → Int32) (j : Nat) : Bool := !inB 0 (if j % 2 = 0 then 3 else 1439) (g j)
def xk_wait (g : Nat → Int32) (n : Nat) (tk : Int32) (gt m : Nat) : Int32 := if w_next g 0 n (nI gt) (fun _ => false) = (-1000000) then 0 else if m = 0 then (-1000000) else m_wait g 0 n (nI gt) tk m
def xw_row (g : Nat → Int32) (n : Nat) (tk : Int32) (gt m : Nat) (f : Nat → Int32) : Nat → Int32 := upd f (9 * gt + m) (xk_wait g n tk gt m)
def xw_tab (g : Nat → Int32) (n : Nat) (tk : Int32) (c : Nat) : Nat → Int32 := itr (fun gt f => itr (xw_row g n tk gt) (c + 1) f) 4 (fun _ => 0)
def x_clerks (F : Nat → Int32) (Rr : Nat → Nat → Int32) (k i n t c w : Int32) : Int32 × mST := if inB 0 7 k = false ∨ inB 1 20 n = false ∨ inB 1 60 t = false ∨ inB 1 8 c = false ∨ inB 0 4 w = false then ((-1000001), F, Rr) else if Rr 0 k.toNatClampNeg = -1 then x_fnd F Rr 1 else if x_rowOk i (nI (2 * n.toNatClampNeg)) (Rr 24 k.toNatClampNeg) = false then x_fnd F Rr 2 else if x_any (xk_bad (x_rowOf Rr k.toNatClampNeg i.toNatClampNeg (2 * n.toNatClampNeg))) (2 * n.toNatClampNeg) = true then ((-1000001), F, Rr) else (xk_res (xw_tab (x_rowOf Rr k.toNatClampNeg i.toNatClampNeg (2 * n.toNatClampNeg)) n.toNatClampNeg t c.toNatClampNeg) c.toNatClampNeg w, va_up F 23 0, Rr)
set_option maxHeartbeats 4000000 in
set_option maxRecDepth 100000 in
theorem metX0_clerks (l : Launch) (D : va_G) (dA : Nat → ClassId) (A : Nat → Prop) (e0 h : Nat) (G : xG) (T : va_W) (F : Nat → Int32) (Rr : Nat → Nat → Int32) (p1 : Int32) (p2 : Int32) (p3 : Int32) (p4 : Int32) (p5 : Int32) (p6 : Int32) : Met l yX0_clerks (wsW_ yX0_clerks cX0_clerks 11 (some .int) [(61, 117, 221, 81), (118, 220, 221, 81)]) ({ frames := 6, cells := 112, slots := 1836, locals := 153 } : Room) (va_Pc [.ref h, .int p1, .int p2, .int p3, .int p4, .int p5, .int p6] (xPre D dA A e0 h G T F Rr)) (va_Qi (fun r u => (r, u) = x_clerks F Rr p1 p2 p3 p4 p5 p6) (xB D dA A e0 h G T) A) 112 1836 A := by
  refine va_MetW (cc := cX0_clerks) (maxL := 11) (ret := (some .int)) (by decide) rfl ?_
  intro p e s m args below meth c s₁ B hml hv
  obtain ⟨rfl, hC, hP, hD, hI⟩ := hv
  have hx := B.exec
  have hb := B.bytes
  have hr := B.returns
  have hts := atoms_spec (ws := (wsW_ yX0_clerks cX0_clerks 11 (some .int) [(61, 117, 221, 81), (118, 220, 221, 81)])) B.pre
  have hts : ∀ w ∈ lw_all, w.before _ s = true := fun w h => hts w (List.mem_cons_of_mem _ h)
  have hown : s.vm.findClass RX0 = some m.cls := findClass_of_methodNamed B.named
  have hlocks := B.notSynchronized
  have S : CallFix p m c cX0_clerks 11 s ([.ref h, .int p1, .int p2, .int p3, .int p4, .int p5, .int p6] : List Value).toArray lw_all RX0 := ⟨hx, hb, hml, hown, hts⟩
  have X : xX RX0 p s m ([.ref h, .int p1, .int p2, .int p3, .int p4, .int p5, .int p6] : List Value).toArray c cX0_clerks 11 D dA A e0 := ⟨S, hC⟩
  have M : xM D dA A e0 h G T s F Rr s.heap [] := ⟨hP, hD, va_S.rf, hI⟩
  have hl := lv_entry ([.ref h, .int p1, .int p2, .int p3, .int p4, .int p5, .int p6]) (n := 11) (Nat.le_of_ble_eq_true rfl)
  rw [lg_entry_eq]
  generalize (lg_sl ([.ref h, .int p1, .int p2, .int p3, .int p4, .int p5, .int p6]) ++ List.replicate (11 - (lg_sl ([.ref h, .int p1, .int p2, .int p3, .int p4, .int p5, .int p6])).length) Slot.unset).toArray = ls at hl ⊢
  have hl : lv_has ls 11 [(0, .ref h), (1, .int p1), (2, .int p2), (3, .int p3), (4, .int p4), (5, .int p5), (6, .int p6)] := hl
  have htab := vx_table (x := yX0_clerks) B (hts _ q1224)
  refine lv_iload_n hx hb dX0_clerks_0 rfl (lv_at hl 1 rfl) ?_
  refine s_cI (v := b2i (inB 0 7 p1)) (As := [.int p1]) (rest := []) S (metX0_isSheet l p1) (va_cwS 1 hts (lw_S q226 q227 q57 q228) rfl rfl rfl (by decide +kernel) ⟨Nat.le_of_ble_eq_true rfl, Nat.le_of_ble_eq_true rfl⟩) rfl hl.1 rfl (Nat.le_of_ble_eq_true rfl) dX0_clerks_1 ⟨Nat.le_of_ble_eq_true rfl, Nat.le_of_ble_eq_true rfl⟩ ?_
  refine lz_if_eq (tgt := 58) hx hb dX0_clerks_4 (by decide) (fun c_1 => ?_) (fun c_1 => ?_)
  · -- c_1: inB 0 7 p1 = false
    refine lv_ldc (v := (-1000001)) hx hb hown (hts _ q234) dX0_clerks_58 ?_
    refine W.widen (k := 112) (n := 1836) (Nat.le_of_ble_eq_true rfl) (Nat.le_of_ble_eq_true rfl) ?_
    exact W.iret (v := (-1000001)) hx hb hr (fun t9 ht9 hW9 => ⟨⟨_, (F, Rr), rfl, (by simp [x_clerks, x_fnd, c_1]), ⟨G, (xext.rf _), by rw [ht9]; exact M.1, M.2.1, M.2.2.2⟩⟩, M.2.2.1.F ht9⟩) M.2.2.1.2.2 dX0_clerks_60
  · -- c_1: inB 0 7 p1 = true
    obtain ⟨k1, hk1, rfl⟩ := inB_ex c_1 (n := 7) rfl
    have ek1 : (nI k1).toNatClampNeg = k1 := nI_clamp (by omega)
    refine lv_iload_n hx hb dX0_clerks_7 rfl (lv_at hl 3 rfl) ?_
    refine lv_i2l (v := p3.toInt64) hx hb dX0_clerks_8 rfl ?_
    refine lv_lconst (v := 1) hx hb dX0_clerks_9 (by decide) ?_
    refine lv_ldc2 (v := 20) hx hb hown (hts _ q833) dX0_clerks_10 ?_
    refine s_cI (v := b2i (inB 1 20 p3)) (As := [.long p3.toInt64, .long 1, .long 20]) (rest := []) S (metX0_isInI l p3 1 20 p3.toInt64 1 20 rfl rfl rfl) (va_cwS 3 hts (lw_S q230 q231 q57 q232) rfl rfl rfl (by decide +kernel) ⟨Nat.le_of_ble_eq_true rfl, Nat.le_of_ble_eq_true rfl⟩) rfl hl.1 rfl (Nat.le_of_ble_eq_true rfl) dX0_clerks_13 ⟨Nat.le_of_ble_eq_true rfl, Nat.le_of_ble_eq_true rfl⟩ ?_
    refine lz_if_eq (tgt := 58) hx hb dX0_clerks_16 (by decide) (fun c_2 => ?_) (fun c_2 => ?_)
    · -- c_2: inB 1 20 p3 = false
      refine lv_ldc (v := (-1000001)) hx hb hown (hts _ q234) dX0_clerks_58 ?_
      refine W.widen (k := 112) (n := 1836) (Nat.le_of_ble_eq_true rfl) (Nat.le_of_ble_eq_true rfl) ?_
      exact W.iret (v := (-1000001)) hx hb hr (fun t9 ht9 hW9 => ⟨⟨_, (F, Rr), rfl, (by simp [x_clerks, x_fnd, c_1, ek1, c_2]), ⟨G, (xext.rf _), by rw [ht9]; exact M.1, M.2.1, M.2.2.2⟩⟩, M.2.2.1.F ht9⟩) M.2.2.1.2.2 dX0_clerks_60
    · -- c_2: inB 1 20 p3 = true
      obtain ⟨n1, hn1, rfl⟩ := inB_ex (show inB 0 20 p3 = true from inB_t.mpr ⟨Int32.le_trans (by decide) (inB_t.mp c_2).1, (inB_t.mp c_2).2⟩) (n := 20) rfl
      have en1 : (nI n1).toNatClampNeg = n1 := nI_clamp (by omega)
      have hn1p : 1 ≤ n1 := Nat.pos_of_ne_zero (fun q => by rw [q] at c_2; exact absurd (inB_t.mp c_2).1 (by decide))
      refine lv_iload hx hb dX0_clerks_19 (lv_at hl 4 rfl) ?_
      refine lv_i2l (v := p4.toInt64) hx hb dX0_clerks_21 rfl ?_
      refine lv_lconst (v := 1) hx hb dX0_clerks_22 (by decide) ?_
      refine lv_ldc2 (v := 60) hx hb hown (hts _ q1037) dX0_clerks_23 ?_
      refine s_cI (v := b2i (inB 1 60 p4)) (As := [.long p4.toInt64, .long 1, .long 60]) (rest := []) S (metX0_isInI l p4 1 60 p4.toInt64 1 60 rfl rfl rfl) (va_cwS 3 hts (lw_S q230 q231 q57 q232) rfl rfl rfl (by decide +kernel) ⟨Nat.le_of_ble_eq_true rfl, Nat.le_of_ble_eq_true rfl⟩) rfl hl.1 rfl (Nat.le_of_ble_eq_true rfl) dX0_clerks_26 ⟨Nat.le_of_ble_eq_true rfl, Nat.le_of_ble_eq_true rfl⟩ ?_
      refine lz_if_eq (tgt := 58) hx hb dX0_clerks_29 (by decide) (fun c_3 => ?_) (fun c_3 => ?_)
      · -- c_3: inB 1 60 p4 = false
        refine lv_ldc (v := (-1000001)) hx hb hown (hts _ q234) dX0_clerks_58 ?_
        refine W.widen (k := 112) (n := 1836) (Nat.le_of_ble_eq_true rfl) (Nat.le_of_ble_eq_true rfl) ?_
        exact W.iret (v := (-1000001)) hx hb hr (fun t9 ht9 hW9 => ⟨⟨_, (F, Rr), rfl, (by simp [x_clerks, x_fnd, c_1, ek1, c_2, en1, c_3]), ⟨G, (xext.rf _), by rw [ht9]; exact M.1, M.2.1, M.2.2.2⟩⟩, M.2.2.1.F ht9⟩) M.2.2.1.2.2 dX0_clerks_60
      · -- c_3: inB 1 60 p4 = true
        refine lv_iload hx hb dX0_clerks_32 (lv_at hl 5 rfl) ?_
        refine lv_i2l (v := p5.toInt64) hx hb dX0_clerks_34 rfl ?_
        refine lv_lconst (v := 1) hx hb dX0_clerks_35 (by decide) ?_
        refine lv_ldc2 (v := 8) hx hb hown (hts _ q391) dX0_clerks_36 ?_
        refine s_cI (v := b2i (inB 1 8 p5)) (As := [.long p5.toInt64, .long 1, .long 8]) (rest := []) S (metX0_isInI l p5 1 8 p5.toInt64 1 8 rfl rfl rfl) (va_cwS 3 hts (lw_S q230 q231 q57 q232) rfl rfl rfl (by decide +kernel) ⟨Nat.le_of_ble_eq_true rfl, Nat.le_of_ble_eq_true rfl⟩) rfl hl.1 rfl (Nat.le_of_ble_eq_true rfl) dX0_clerks_39 ⟨Nat.le_of_ble_eq_true rfl, Nat.le_of_ble_eq_true rfl⟩ ?_
        refine lz_if_eq (tgt := 58) hx hb dX0_clerks_42 (by decide) (fun c_4 => ?_) (fun c_4 => ?_)
        · -- c_4: inB 1 8 p5 = false
          refine lv_ldc (v := (-1000001)) hx hb hown (hts _ q234) dX0_clerks_58 ?_
          refine W.widen (k := 112) (n := 1836) (Nat.le_of_ble_eq_true rfl) (Nat.le_of_ble_eq_true rfl) ?_
          exact W.iret (v := (-1000001)) hx hb hr (fun t9 ht9 hW9 => ⟨⟨_, (F, Rr), rfl, (by simp [x_clerks, x_fnd, c_1, ek1, c_2, en1, c_3, c_4]), ⟨G, (xext.rf _), by rw [ht9]; exact M.1, M.2.1, M.2.2.2⟩⟩, M.2.2.1.F ht9⟩) M.2.2.1.2.2 dX0_clerks_60
        · -- c_4: inB 1 8 p5 = true
          obtain ⟨c1, hc1, rfl⟩ := inB_ex (show inB 0 8 p5 = true from inB_t.mpr ⟨Int32.le_trans (by decide) (inB_t.mp c_4).1, (inB_t.mp c_4).2⟩) (n := 8) rfl
          have ec1 : (nI c1).toNatClampNeg = c1 := nI_clamp (by omega)
          have hc1p : 1 ≤ c1 := Nat.pos_of_ne_zero (fun q => by rw [q] at c_4; exact absurd (inB_t.mp c_4).1 (by decide))
          refine lv_iload hx hb dX0_clerks_45 (lv_at hl 6 rfl) ?_
          refine lv_i2l (v := p6.toInt64) hx hb dX0_clerks_47 rfl ?_
          refine lv_lconst (v := 0) hx hb dX0_clerks_48 (by decide) ?_
          refine lv_ldc2 (v := 4) hx hb hown (hts _ q849) dX0_clerks_49 ?_
          refine s_cI (v := b2i (inB 0 4 p6)) (As := [.long p6.toInt64, .long 0, .long 4]) (rest := []) S (metX0_isInI l p6 0 4 p6.toInt64 0 4 rfl rfl rfl) (va_cwS 3 hts (lw_S q230 q231 q57 q232) rfl rfl rfl (by decide +kernel) ⟨Nat.le_of_ble_eq_true rfl, Nat.le_of_ble_eq_true rfl⟩) rfl hl.1 rfl (Nat.le_of_ble_eq_true rfl) dX0_clerks_52 ⟨Nat.le_of_ble_eq_true rfl, Nat.le_of_ble_eq_true rfl⟩ ?_
          refine lz_if_ne (tgt := 61) hx hb dX0_clerks_55 (by decide) (fun c_5 => ?_) (fun c_5 => ?_)
          · -- c_5: inB 0 4 p6 = true
            have hwh := c_5
            refine lv_aload_n hx hb dX0_clerks_61 rfl (lv_at hl 0 rfl) ?_
            refine lv_iload_n hx hb dX0_clerks_62 rfl (lv_at hl 1 rfl) ?_
            rcases hy_6 : g_rs G k1 with _ | y_7
            · -- a sheet there: False
              have h0_8 : Rr 0 k1 = -1 := x_nosheet M (by omega) hy_6
              refine x_thrownW M (vx_runV (As := [.int (nI k1)]) (rest := []) X.1 (metX0_sheetAt_f l D dA A e0 h G T F Rr k1 (by omega) hy_6) (cwV 1 hts (lw_V q331 q333 qs3 q57 q334) rfl rfl rfl (by decide +kernel) ⟨Nat.le_of_ble_eq_true rfl, Nat.le_of_ble_eq_true rfl⟩) ⟨xPre_blind, x_recv X M, fun U hU hW => ⟨rfl, x_pre X M hU hW⟩⟩ rfl rfl hl.1 rfl (lv_room (Nat.le_of_ble_eq_true rfl)) dX0_clerks_63 ⟨Nat.le_of_ble_eq_true rfl, Nat.le_of_ble_eq_true rfl⟩) (fun q9 ce9 H locs M hce9 hcv9 hcl9 => ?_)
              refine x_catch X htab [] { startPc := 61, endPc := 117, handlerPc := 221, catchType := 81 } [{ startPc := 118, endPc := 220, handlerPc := 221, catchType := 81 }] rfl (fun z9 hz9 => by cases hz9) (by decide) (by decide) (X.hts _ q225) hce9 hcv9 hcl9 ?_
              refine W.eq (g2 := F0 m 221 ls [.ref q9]) rfl ?_
              refine W.widen (k := 1) (n := 7) (Nat.le_of_ble_eq_true rfl) (Nat.le_of_ble_eq_true rfl) ?_
              refine lv_astore (lv' := [(7, .ref q9), (0, .ref h), (1, .int (nI k1)), (2, .int p2), (3, .int (nI n1)), (4, .int p4), (5, .int (nI c1)), (6, .int p6)]) hx hb dX0_clerks_221 hl (by decide) rfl (fun ls hl => ?_)
              refine lv_aload_n hx hb dX0_clerks_223 rfl (lv_at hl 1 rfl) ?_
              refine lv_aload hx hb dX0_clerks_224 (lv_at hl 0 rfl) ?_
              refine x_cU0 (As := [.ref q9]) (rest := []) X M (metX0_found l D dA A e0 h G T F Rr q9 1) (cwV 1 hts (lw_V q322 q324 qs2 q57 q325) rfl rfl rfl (by decide +kernel) ⟨Nat.le_of_ble_eq_true rfl, Nat.le_of_ble_eq_true rfl⟩) rfl hl.1 rfl (Nat.le_of_ble_eq_true rfl) dX0_clerks_226 ⟨Nat.le_of_ble_eq_true rfl, Nat.le_of_ble_eq_true rfl⟩ (fun r9 F9 R9 hr9 H locs M => ?_)
              obtain ⟨e91, e92, e93⟩ : r9 = (-1000010) - 1 ∧ F9 = va_up F 23 1 ∧ R9 = Rr := ⟨congrArg Prod.fst hr9, congrArg (fun z => z.2.1) hr9, congrArg (fun z => z.2.2) hr9⟩
              rw [e92, e93] at M; rw [e91]
              clear hr9
              have M := xM_drop M
              refine W.widen (k := 112) (n := 1836) (Nat.le_of_ble_eq_true rfl) (Nat.le_of_ble_eq_true rfl) ?_
              exact W.iret (v := (-1000010) - 1) hx hb hr (fun t9 ht9 hW9 => ⟨⟨_, (va_up F 23 1, Rr), rfl, (by simp [x_clerks, x_fnd, c_1, ek1, c_2, en1, c_3, c_4, ec1, c_5, h0_8]), ⟨G, (xext.rf _), by rw [ht9]; exact M.1, M.2.1, M.2.2.2⟩⟩, M.2.2.1.F ht9⟩) M.2.2.1.2.2 dX0_clerks_229
            · -- a sheet there: True
              refine va_csq (W.runV (As := [.int (nI k1)]) (rest := []) X.1 (metX0_sheetAt_t l D dA A e0 h G T F Rr k1 y_7 (by omega) hy_6) (cwV 1 hts (lw_V q331 q333 qs3 q57 q334) rfl rfl rfl (by decide +kernel) ⟨Nat.le_of_ble_eq_true rfl, Nat.le_of_ble_eq_true rfl⟩) ⟨xPre_blind, x_recv X M, fun U hU hW => ⟨rfl, x_pre X M hU hW⟩⟩ rfl rfl hl.1 rfl (lv_room (Nat.le_of_ble_eq_true rfl)) dX0_clerks_63 ⟨Nat.le_of_ble_eq_true rfl, Nat.le_of_ble_eq_true rfl⟩) (fun r9 hr9 => ?_)
              subst hr9
              obtain ⟨z_9, n_10, hs_11⟩ := x_sheet M (show k1 < 8 by omega) hy_6
              have h6hs_11 := hs_11.2.2.2.2.2
              have e2hs_11 := hs_11.2.2.2.2.1
              have nehs_11 := hs_11.ne
              have ecn_10 : (nI n_10).toNatClampNeg = n_10 := nI_clamp (by omega)
              refine lv_iload_n hx hb dX0_clerks_66 rfl (lv_at hl 2 rfl) ?_
              refine lv_iconst (v := 2) hx hb dX0_clerks_67 (by decide) ?_
              refine lv_iload_n hx hb dX0_clerks_68 rfl (lv_at hl 3 rfl) ?_
              refine lv_imul hx hb dX0_clerks_69 ?_
              refine lv_asi (y := nI (2 * n1)) (nI_mul 2 n1) ?_
              by_cases c_12 : x_rowOk p2 (nI (2 * n1)) (nI n_10) = true
              · -- the row is in: True
                obtain ⟨i_13, hi_13, rfl⟩ := x_rowOk_ex (n := (2 * n1)) c_12 (by omega) (by omega)
                have ei_13 : (nI i_13).toNatClampNeg = i_13 := nI_clamp (by omega)
                refine x_rowT (k := k1) (kk := i_13) (n := (2 * n1)) X M hs_11 (by omega) (cwV 2 hts (lw_V q843 q844 q845 q66 q846) rfl rfl rfl (by decide +kernel) ⟨Nat.le_of_ble_eq_true rfl, Nat.le_of_ble_eq_true rfl⟩) hl.1 (Nat.le_of_ble_eq_true rfl) dX0_clerks_70 ⟨Nat.le_of_ble_eq_true rfl, Nat.le_of_ble_eq_true rfl⟩ (fun r_14 H locs M => ?_)
                refine W.widen (k := 1) (n := 64) (Nat.le_of_ble_eq_true rfl) (Nat.le_of_ble_eq_true rfl) ?_
                refine lv_astore (lv' := [(7, .ref r_14), (0, .ref h), (1, .int (nI k1)), (2, .int (nI i_13)), (3, .int (nI n1)), (4, .int p4), (5, .int (nI c1)), (6, .int p6)]) hx hb dX0_clerks_73 hl (by decide) rfl (fun ls hl => ?_)
                refine lv_iconst (v := 0) hx hb dX0_clerks_75 (by decide) ?_
                refine lv_istore (lv' := [(8, .int 0), (7, .ref r_14), (0, .ref h), (1, .int (nI k1)), (2, .int (nI i_13)), (3, .int (nI n1)), (4, .int p4), (5, .int (nI c1)), (6, .int p6)]) hx hb dX0_clerks_76 hl (by decide) rfl (fun ls hl => ?_)
                have L_15 : ∀ (fuL_15 : Nat) (j : Nat), (j ≤ 2 * n1) → (∀ t, t < j → (xk_bad (x_rowOf Rr k1 i_13 (2 * n1))) t = false) → 2 * n1 - j < fuL_15 → ∀ (H : Heap) (locs : List Loc), xM D dA A e0 h G (T ++ [(r_14, .inl (dA 0, 2 * n1, .inl (x_rowOf Rr k1 i_13 (2 * n1))))]) s F Rr H locs → ∀ ls, lv_has ls 11 [(0, .ref h), (1, .int (nI k1)), (2, .int (nI i_13)), (3, .int (nI n1)), (4, .int p4), (5, .int (nI c1)), (6, .int p6), (7, .ref r_14), (8, .int (nI j))] → W p l e ({ frames := 6, cells := 112, slots := 1836, locals := 153 } : Room) s m ([.ref h, .int (nI k1), .int (nI i_13), .int (nI n1), .int p4, .int (nI c1), .int p6] : List Value).toArray below meth c H locs 1 64 (MQ below (va_Qi (fun r u => (r, u) = x_clerks F Rr (nI k1) (nI i_13) (nI n1) p4 (nI c1) p6) (xB D dA A e0 h G T) A) ([.ref h, .int (nI k1), .int (nI i_13), .int (nI n1), .int p4, .int (nI c1), .int p6] : List Value).toArray s 112 1836 A) (F0 m 78 ls []) := by
                  intro fuL_15
                  induction fuL_15 with
                  | zero => intro j hj hno hfuL_15; exact absurd hfuL_15 (Nat.not_lt_zero _)
                  | succ fuL_15 L_15ih =>
                    intro j hj hno hfuL_15 H locs M ls hl
                    refine lv_iload hx hb dX0_clerks_78 (lv_at hl 8 rfl) ?_
                    refine lv_aload hx hb dX0_clerks_80 (lv_at hl 7 rfl) ?_
                    refine va_alen (v := nI (2 * n1)) X.hx X.hb X.K M.1 (21 + (T.length + 0)) 0 (xT_k (T := T) (j := 0) rfl) rfl rfl dX0_clerks_82 ?_
                    refine ln_icmp_ge (tgt := 124) hx hb (a := j) (b := 2 * n1) (by omega) (by omega) dX0_clerks_83 (by decide) (fun c_16 => ?_) (fun c_16 => ?_)
                    · -- c_16: nI j ≥ nI (2 * n1)
                      have hall : x_any (xk_bad (x_rowOf Rr k1 i_13 (2 * n1))) (2 * n1) = false := x_any_f _ (fun t ht => hno t (by omega))
                      refine lv_bipush (v := 36) hx hb dX0_clerks_124 (by decide) ?_
                      refine g_newi (N' := 36) X (X.hts _ q130) M.1 M.2.1 M.2.2.1 (by decide) (by decide) (Nat.le_of_ble_eq_true rfl) (Nat.le_of_ble_eq_true rfl) (Nat.le_of_ble_eq_true rfl) dX0_clerks_126 (fun q_17 H hP hD hS => ?_)
                      have M := xM_push M hP hD hS
                      rw [List.append_assoc] at M
                      have M : xM D dA A e0 h G (T ++ [(r_14, .inl (dA 0, 2 * n1, .inl (x_rowOf Rr k1 i_13 (2 * n1)))), (q_17, .inl (dA 0, 36, .inl (fun _ => 0)))]) s F Rr H _ := M
                      refine W.widen (k := 2) (n := 100) (Nat.le_of_ble_eq_true rfl) (Nat.le_of_ble_eq_true rfl) ?_
                      refine lv_astore (lv' := [(8, .ref q_17), (0, .ref h), (1, .int (nI k1)), (2, .int (nI i_13)), (3, .int (nI n1)), (4, .int p4), (5, .int (nI c1)), (6, .int p6), (7, .ref r_14)]) hx hb dX0_clerks_128 hl (by decide) rfl (fun ls hl => ?_)
                      refine lv_iconst (v := 0) hx hb dX0_clerks_130 (by decide) ?_
                      refine lv_istore (lv' := [(9, .int 0), (8, .ref q_17), (0, .ref h), (1, .int (nI k1)), (2, .int (nI i_13)), (3, .int (nI n1)), (4, .int p4), (5, .int (nI c1)), (6, .int p6), (7, .ref r_14)]) hx hb dX0_clerks_131 hl (by decide) rfl (fun ls hl => ?_)
                      have L_18 : ∀ (fuL_18 : Nat) (gt : Nat) (f1 : Nat → Int32), (gt ≤ 4) → (f1 = itr (fun gt f => itr (xw_row (x_rowOf Rr k1 i_13 (2 * n1)) n1 p4 gt) (c1 + 1) f) gt (fun _ => 0)) → 4 - gt < fuL_18 → ∀ (H : Heap) (locs : List Loc), xM D dA A e0 h G (T ++ [(r_14, .inl (dA 0, 2 * n1, .inl (x_rowOf Rr k1 i_13 (2 * n1)))), (q_17, .inl (dA 0, 36, .inl f1))]) s F Rr H locs → ∀ ls, lv_has ls 11 [(0, .ref h), (1, .int (nI k1)), (2, .int (nI i_13)), (3, .int (nI n1)), (4, .int p4), (5, .int (nI c1)), (6, .int p6), (7, .ref r_14), (8, .ref q_17), (9, .int (nI gt))] → W p l e ({ frames := 6, cells := 112, slots := 1836, locals := 153 } : Room) s m ([.ref h, .int (nI k1), .int (nI i_13), .int (nI n1), .int p4, .int (nI c1), .int p6] : List Value).toArray below meth c H locs (2 + 27 * gt) (100 + 432 * gt) (MQ below (va_Qi (fun r u => (r, u) = x_clerks F Rr (nI k1) (nI i_13) (nI n1) p4 (nI c1) p6) (xB D dA A e0 h G T) A) ([.ref h, .int (nI k1), .int (nI i_13), .int (nI n1), .int p4, .int (nI c1), .int p6] : List Value).toArray s 112 1836 A) (F0 m 133 ls []) := by
                        intro fuL_18
                        induction fuL_18 with
                        | zero => intro gt f1 hgt hf1 hfuL_18; exact absurd hfuL_18 (Nat.not_lt_zero _)
                        | succ fuL_18 L_18ih =>
                          intro gt f1 hgt hf1 hfuL_18 H locs M ls hl
                          refine lv_iload hx hb dX0_clerks_133 (lv_at hl 9 rfl) ?_
                          refine lv_iconst (v := 4) hx hb dX0_clerks_135 (by decide) ?_
                          refine ln_icmp_ge (tgt := 207) hx hb (a := gt) (b := 4) (by omega) (by omega) dX0_clerks_136 (by decide) (fun c_19 => ?_) (fun c_19 => ?_)
                          · -- c_19: nI gt ≥ 4
                            have egt : gt = 4 := by omega
                            have htab9 : f1 = xw_tab (x_rowOf Rr k1 i_13 (2 * n1)) n1 p4 c1 := by unfold xw_tab; rw [egt] at hf1; exact hf1
                            refine W.widen (k := 110) (n := 1828) (by omega) (by omega) ?_
                            refine lv_aload_n hx hb dX0_clerks_207 rfl (lv_at hl 0 rfl) ?_
                            refine lv_aload hx hb dX0_clerks_208 (lv_at hl 8 rfl) ?_
                            refine lv_iload hx hb dX0_clerks_210 (lv_at hl 5 rfl) ?_
                            refine lv_iload hx hb dX0_clerks_212 (lv_at hl 6 rfl) ?_
                            refine x_cTI (v := xk_res f1 c1 p6) (j := 1) (As := [.ref q_17, .int (nI c1), .int p6]) (rest := [.ref h]) X M rfl (fun A9 => (metX0_shared l D dA A9 e0 q_17 f1 c1 p6 (by omega) (by omega) hwh)) (va_cwS 3 hts (lw_S q1234 q1235 q57 q1236) rfl rfl rfl (by decide +kernel) ⟨Nat.le_of_ble_eq_true rfl, Nat.le_of_ble_eq_true rfl⟩) rfl hl.1 rfl (Nat.le_of_ble_eq_true rfl) dX0_clerks_214 ⟨Nat.le_of_ble_eq_true rfl, Nat.le_of_ble_eq_true rfl⟩ (fun H locs M => ?_)
                            refine W.widen (k := 112) (n := 1836) (Nat.le_of_ble_eq_true rfl) (Nat.le_of_ble_eq_true rfl) ?_
                            refine x_cU0 (As := [.int (xk_res f1 c1 p6)]) (rest := []) X M (metX0_well l D dA A e0 h G _ F Rr (xk_res f1 c1 p6)) (cwV 1 hts (lw_V q318 q320 qs1 q57 q321) rfl rfl rfl (by decide +kernel) ⟨Nat.le_of_ble_eq_true rfl, Nat.le_of_ble_eq_true rfl⟩) rfl hl.1 rfl (Nat.le_of_ble_eq_true rfl) dX0_clerks_217 ⟨Nat.le_of_ble_eq_true rfl, Nat.le_of_ble_eq_true rfl⟩ (fun r9 F9 R9 hr9 H locs M => ?_)
                            obtain ⟨e91, e92, e93⟩ : r9 = xk_res f1 c1 p6 ∧ F9 = va_up F 23 0 ∧ R9 = Rr := ⟨congrArg Prod.fst hr9, congrArg (fun z => z.2.1) hr9, congrArg (fun z => z.2.2) hr9⟩
                            rw [e92, e93] at M; rw [e91]
                            clear hr9
                            have M := xM_drop M
                            exact W.iret (v := xk_res f1 c1 p6) hx hb hr (fun t9 ht9 hW9 => ⟨⟨_, (va_up F 23 0, Rr), rfl, (by simp [x_clerks, x_fnd, c_1, ek1, c_2, en1, c_3, c_4, ec1, c_5, e2hs_11, nehs_11, ecn_10, c_12, ei_13, c_16, hall, c_19, htab9]), ⟨G, (xext.rf _), by rw [ht9]; exact M.1, M.2.1, M.2.2.2⟩⟩, M.2.2.1.F ht9⟩) M.2.2.1.2.2 dX0_clerks_220
                          · -- c_19: nI gt < 4
                            refine lv_iconst (v := 0) hx hb dX0_clerks_139 (by decide) ?_
                            refine lv_istore (lv' := [(10, .int 0), (0, .ref h), (1, .int (nI k1)), (2, .int (nI i_13)), (3, .int (nI n1)), (4, .int p4), (5, .int (nI c1)), (6, .int p6), (7, .ref r_14), (8, .ref q_17), (9, .int (nI gt))]) hx hb dX0_clerks_140 hl (by decide) rfl (fun ls hl => ?_)
                            have L_20 : ∀ (fuL_20 : Nat) (mm : Nat) (f2 : Nat → Int32), (mm ≤ c1 + 1) → (f2 = itr (xw_row (x_rowOf Rr k1 i_13 (2 * n1)) n1 p4 gt) mm f1) → c1 + 1 - mm < fuL_20 → ∀ (H : Heap) (locs : List Loc), xM D dA A e0 h G (T ++ [(r_14, .inl (dA 0, 2 * n1, .inl (x_rowOf Rr k1 i_13 (2 * n1)))), (q_17, .inl (dA 0, 36, .inl f2))]) s F Rr H locs → ∀ ls, lv_has ls 11 [(0, .ref h), (1, .int (nI k1)), (2, .int (nI i_13)), (3, .int (nI n1)), (4, .int p4), (5, .int (nI c1)), (6, .int p6), (7, .ref r_14), (8, .ref q_17), (9, .int (nI gt)), (10, .int (nI mm))] → W p l e ({ frames := 6, cells := 112, slots := 1836, locals := 153 } : Room) s m ([.ref h, .int (nI k1), .int (nI i_13), .int (nI n1), .int p4, .int (nI c1), .int p6] : List Value).toArray below meth c H locs (2 + 27 * gt + 3 * mm) (100 + 432 * gt + 48 * mm) (MQ below (va_Qi (fun r u => (r, u) = x_clerks F Rr (nI k1) (nI i_13) (nI n1) p4 (nI c1) p6) (xB D dA A e0 h G T) A) ([.ref h, .int (nI k1), .int (nI i_13), .int (nI n1), .int p4, .int (nI c1), .int p6] : List Value).toArray s 112 1836 A) (F0 m 142 ls []) := by
                              intro fuL_20
                              induction fuL_20 with
                              | zero => intro mm f2 hmm hf2 hfuL_20; exact absurd hfuL_20 (Nat.not_lt_zero _)
                              | succ fuL_20 L_20ih =>
                                intro mm f2 hmm hf2 hfuL_20 H locs M ls hl
                                refine lv_iload hx hb dX0_clerks_142 (lv_at hl 10 rfl) ?_
                                refine lv_iload hx hb dX0_clerks_144 (lv_at hl 5 rfl) ?_
                                refine ln_icmp_gt (tgt := 201) hx hb (a := mm) (b := c1) (by omega) (by omega) dX0_clerks_146 (by decide) (fun c_21 => ?_) (fun c_21 => ?_)
                                · -- c_21: nI mm > nI c1
                                  refine lv_iinc (v := nI (gt + 1)) (lv' := [(9, .int (nI (gt + 1))), (0, .ref h), (1, .int (nI k1)), (2, .int (nI i_13)), (3, .int (nI n1)), (4, .int p4), (5, .int (nI c1)), (6, .int p6), (7, .ref r_14), (8, .ref q_17), (10, .int (nI mm))]) hx hb dX0_clerks_201 hl (k := 9) rfl (mk_inc _) (by decide) rfl (fun ls hl => ?_)
                                  refine lv_goto (tgt := 133) hx hb dX0_clerks_204 (by decide) ?_
                                  refine W.widen (k := 2 + 27 * (gt + 1)) (n := 100 + 432 * (gt + 1)) (by omega) (by omega) ?_
                                  exact L_18ih  (gt + 1) f2 (by omega) (by rw [itr_s, ← hf1, show c1 + 1 = mm by omega]; exact hf2) (by omega) _ _ M ls (lv_sub hl [1, 2, 3, 4, 5, 6, 7, 8, 9, 0] rfl)
                                · -- c_21: nI mm ≤ nI c1
                                  refine lv_aload hx hb dX0_clerks_149 (lv_at hl 8 rfl) ?_
                                  refine lv_bipush (v := 9) hx hb dX0_clerks_151 (by decide) ?_
                                  refine lv_iload hx hb dX0_clerks_153 (lv_at hl 9 rfl) ?_
                                  refine lv_imul hx hb dX0_clerks_155 ?_
                                  refine lv_asi (y := nI (9 * gt)) (nI_mul 9 gt) ?_
                                  refine lv_iload hx hb dX0_clerks_156 (lv_at hl 10 rfl) ?_
                                  refine lv_iadd hx hb dX0_clerks_158 ?_
                                  refine lv_asi (y := nI ((9 * gt) + mm)) (nI_add (9 * gt) mm) ?_
                                  refine lv_aload hx hb dX0_clerks_159 (lv_at hl 7 rfl) ?_
                                  refine lv_iload hx hb dX0_clerks_161 (lv_at hl 9 rfl) ?_
                                  refine x_cTI (v := b2i (!decide (w_next (x_rowOf Rr k1 i_13 (2 * n1)) 0 n1 (nI gt) (fun _ => false) = (-1000000)))) (j := 0) (As := [.ref r_14, .int (nI gt)]) (rest := [.int (nI ((9 * gt) + mm)), .ref q_17]) X M rfl (fun A9 => (metX0_isComing l D dA A9 e0 r_14 n1 (x_rowOf Rr k1 i_13 (2 * n1)) (nI gt) (by omega))) (va_cwS 2 hts (lw_S q1225 q1226 q57 q1227) rfl rfl rfl (by decide +kernel) ⟨Nat.le_of_ble_eq_true rfl, Nat.le_of_ble_eq_true rfl⟩) rfl hl.1 rfl (Nat.le_of_ble_eq_true rfl) dX0_clerks_163 ⟨by show _ ≤ 112; omega, by show _ ≤ 1836; omega⟩ (fun H locs M => ?_)
                                  refine lz_if_ne (tgt := 173) hx hb dX0_clerks_166 (by decide) (fun c_22 => ?_) (fun c_22 => ?_)
                                  · -- c_22: (!decide (w_next (x_rowOf Rr k1 i_13 (2 * n1)) 0 n1 (nI gt) (fun _ => false) = (-1000000))) = true
                                    have hic : ¬ w_next (x_rowOf Rr k1 i_13 (2 * n1)) 0 n1 (nI gt) (fun _ => false) = (-1000000) := by simpa using c_22
                                    refine lv_iload hx hb dX0_clerks_173 (lv_at hl 10 rfl) ?_
                                    refine lv_if_ne (tgt := 183) hx hb dX0_clerks_175 (by decide) (fun c_23 => ?_) (fun c_23 => ?_)
                                    · -- c_23: nI mm ≠ 0
                                      have hm0 : ¬ mm = 0 := fun q => c_23 (by rw [q]; rfl)
                                      refine lv_aload hx hb dX0_clerks_183 (lv_at hl 7 rfl) ?_
                                      refine lv_iload hx hb dX0_clerks_185 (lv_at hl 9 rfl) ?_
                                      refine lv_iload hx hb dX0_clerks_187 (lv_at hl 10 rfl) ?_
                                      refine lv_iload hx hb dX0_clerks_189 (lv_at hl 4 rfl) ?_
                                      refine x_cTI (v := m_wait (x_rowOf Rr k1 i_13 (2 * n1)) 0 n1 (nI gt) p4 mm) (j := 0) (As := [.ref r_14, .int (nI gt), .int (nI mm), .int p4]) (rest := [.int (nI ((9 * gt) + mm)), .ref q_17]) X M rfl (fun A9 => (metX0_waitedAt l D dA A9 e0 r_14 n1 (x_rowOf Rr k1 i_13 (2 * n1)) (nI gt) (by omega) mm p4 (by omega) (by omega))) (va_cwS 4 hts (lw_S q1231 q1232 q57 q1233) rfl rfl rfl (by decide +kernel) ⟨Nat.le_of_ble_eq_true rfl, Nat.le_of_ble_eq_true rfl⟩) rfl hl.1 rfl (Nat.le_of_ble_eq_true rfl) dX0_clerks_191 ⟨by show _ ≤ 112; omega, by show _ ≤ 1836; omega⟩ (fun H locs M => ?_)
                                      refine g_iast (n := 36) (f := f2) (j := ((9 * gt) + mm)) X M.1 M.2.1 M.2.2.1 (21 + (T.length + 1)) 0 (xT_k (T := T) (j := 1) rfl) rfl (vp_in_nI (by omega) (by omega)) (nI_clamp (by omega)) dX0_clerks_194 (fun H locs hP hD hS => ?_)
                                      have M : xM D dA A e0 h G (T ++ [(r_14, .inl (dA 0, 2 * n1, .inl (x_rowOf Rr k1 i_13 (2 * n1)))), (q_17, .inl (dA 0, 36, .inl (upd f2 ((9 * gt) + mm) (m_wait (x_rowOf Rr k1 i_13 (2 * n1)) 0 n1 (nI gt) p4 mm))))]) s F Rr H locs := xM_setk M (j := 1) rfl hP hD hS
                                      refine lv_iinc (v := nI (mm + 1)) (lv' := [(10, .int (nI (mm + 1))), (0, .ref h), (1, .int (nI k1)), (2, .int (nI i_13)), (3, .int (nI n1)), (4, .int p4), (5, .int (nI c1)), (6, .int p6), (7, .ref r_14), (8, .ref q_17), (9, .int (nI gt))]) hx hb dX0_clerks_195 hl (k := 10) rfl (mk_inc _) (by decide) rfl (fun ls hl => ?_)
                                      refine lv_goto (tgt := 142) hx hb dX0_clerks_198 (by decide) ?_
                                      refine W.widen (k := 2 + 27 * gt + 3 * (mm + 1)) (n := 100 + 432 * gt + 48 * (mm + 1)) (by omega) (by omega) ?_
                                      exact L_20ih  (mm + 1) (upd f2 ((9 * gt) + mm) (m_wait (x_rowOf Rr k1 i_13 (2 * n1)) 0 n1 (nI gt) p4 mm)) (by omega) (by rw [itr_s, ← hf2]; unfold xw_row xk_wait; simp [c_1, ek1, c_2, en1, c_3, c_4, ec1, c_5, e2hs_11, nehs_11, ecn_10, c_12, ei_13, c_16, hall, c_19, c_21, c_22, hic, c_23, hm0]) (by omega) _ _ M ls (lv_sub hl [1, 2, 3, 4, 5, 6, 7, 8, 9, 10, 0] rfl)
                                    · -- c_23: nI mm = 0
                                      have hm0 : mm = 0 := nI_inj (b := 0) c_23 (by omega) (by omega)
                                      refine lv_ldc (v := (-1000000)) hx hb hown (hts _ q147) dX0_clerks_178 ?_
                                      refine lv_goto (tgt := 194) hx hb dX0_clerks_180 (by decide) ?_
                                      refine g_iast (n := 36) (f := f2) (j := ((9 * gt) + mm)) X M.1 M.2.1 M.2.2.1 (21 + (T.length + 1)) 0 (xT_k (T := T) (j := 1) rfl) rfl (vp_in_nI (by omega) (by omega)) (nI_clamp (by omega)) dX0_clerks_194 (fun H locs hP hD hS => ?_)
                                      have M : xM D dA A e0 h G (T ++ [(r_14, .inl (dA 0, 2 * n1, .inl (x_rowOf Rr k1 i_13 (2 * n1)))), (q_17, .inl (dA 0, 36, .inl (upd f2 ((9 * gt) + mm) (-1000000))))]) s F Rr H locs := xM_setk M (j := 1) rfl hP hD hS
                                      refine lv_iinc (v := nI (mm + 1)) (lv' := [(10, .int (nI (mm + 1))), (0, .ref h), (1, .int (nI k1)), (2, .int (nI i_13)), (3, .int (nI n1)), (4, .int p4), (5, .int (nI c1)), (6, .int p6), (7, .ref r_14), (8, .ref q_17), (9, .int (nI gt))]) hx hb dX0_clerks_195 hl (k := 10) rfl (mk_inc _) (by decide) rfl (fun ls hl => ?_)
                                      refine lv_goto (tgt := 142) hx hb dX0_clerks_198 (by decide) ?_
                                      refine W.widen (k := 2 + 27 * gt + 3 * (mm + 1)) (n := 100 + 432 * gt + 48 * (mm + 1)) (by omega) (by omega) ?_
                                      exact L_20ih  (mm + 1) (upd f2 ((9 * gt) + mm) (-1000000)) (by omega) (by rw [itr_s, ← hf2]; unfold xw_row xk_wait; simp [c_1, ek1, c_2, en1, c_3, c_4, ec1, c_5, e2hs_11, nehs_11, ecn_10, c_12, ei_13, c_16, hall, c_19, c_21, c_22, hic, c_23, hm0]) (by omega) _ _ M ls (lv_sub hl [1, 2, 3, 4, 5, 6, 7, 8, 9, 10, 0] rfl)
                                  · -- c_22: (!decide (w_next (x_rowOf Rr k1 i_13 (2 * n1)) 0 n1 (nI gt) (fun _ => false) = (-1000000))) = false
                                    have hic : w_next (x_rowOf Rr k1 i_13 (2 * n1)) 0 n1 (nI gt) (fun _ => false) = (-1000000) := by simpa using c_22
                                    refine lv_iconst (v := 0) hx hb dX0_clerks_169 (by decide) ?_
                                    refine lv_goto (tgt := 194) hx hb dX0_clerks_170 (by decide) ?_
                                    refine g_iast (n := 36) (f := f2) (j := ((9 * gt) + mm)) X M.1 M.2.1 M.2.2.1 (21 + (T.length + 1)) 0 (xT_k (T := T) (j := 1) rfl) rfl (vp_in_nI (by omega) (by omega)) (nI_clamp (by omega)) dX0_clerks_194 (fun H locs hP hD hS => ?_)
                                    have M : xM D dA A e0 h G (T ++ [(r_14, .inl (dA 0, 2 * n1, .inl (x_rowOf Rr k1 i_13 (2 * n1)))), (q_17, .inl (dA 0, 36, .inl (upd f2 ((9 * gt) + mm) 0)))]) s F Rr H locs := xM_setk M (j := 1) rfl hP hD hS
                                    refine lv_iinc (v := nI (mm + 1)) (lv' := [(10, .int (nI (mm + 1))), (0, .ref h), (1, .int (nI k1)), (2, .int (nI i_13)), (3, .int (nI n1)), (4, .int p4), (5, .int (nI c1)), (6, .int p6), (7, .ref r_14), (8, .ref q_17), (9, .int (nI gt))]) hx hb dX0_clerks_195 hl (k := 10) rfl (mk_inc _) (by decide) rfl (fun ls hl => ?_)
                                    refine lv_goto (tgt := 142) hx hb dX0_clerks_198 (by decide) ?_
                                    refine W.widen (k := 2 + 27 * gt + 3 * (mm + 1)) (n := 100 + 432 * gt + 48 * (mm + 1)) (by omega) (by omega) ?_
                                    exact L_20ih  (mm + 1) (upd f2 ((9 * gt) + mm) 0) (by omega) (by rw [itr_s, ← hf2]; unfold xw_row xk_wait; simp [c_1, ek1, c_2, en1, c_3, c_4, ec1, c_5, e2hs_11, nehs_11, ecn_10, c_12, ei_13, c_16, hall, c_19, c_21, c_22, hic]) (by omega) _ _ M ls (lv_sub hl [1, 2, 3, 4, 5, 6, 7, 8, 9, 10, 0] rfl)
                            refine W.widen (k := 2 + 27 * gt + 3 * (0)) (n := 100 + 432 * gt + 48 * (0)) (by omega) (by omega) ?_
                            exact L_20 ((c1 + 1 - 0) + 1) 0 f1 (by omega) rfl (Nat.lt_succ_self _) _ _ M ls (lv_sub hl [1, 2, 3, 4, 5, 6, 7, 8, 9, 10, 0] rfl)
                      refine W.widen (k := 2 + 27 * (0)) (n := 100 + 432 * (0)) (by omega) (by omega) ?_
                      exact L_18 ((4 - 0) + 1) 0 (fun _ => 0) (by omega) rfl (Nat.lt_succ_self _) _ _ M ls (lv_sub hl [2, 3, 4, 5, 6, 7, 8, 9, 1, 0] rfl)
                    · -- c_16: nI j < nI (2 * n1)
                      refine lv_aload hx hb dX0_clerks_86 (lv_at hl 7 rfl) ?_
                      refine lv_iload hx hb dX0_clerks_88 (lv_at hl 8 rfl) ?_
                      refine g_iald (n := 2 * n1) (f := (x_rowOf Rr k1 i_13 (2 * n1))) (j := j) X M.1 (21 + (T.length + 0)) 0 (xT_k (T := T) (j := 0) rfl) rfl (vp_in_nI (by omega) (by omega)) (nI_clamp (by omega)) dX0_clerks_90 ?_
                      refine lv_i2l (v := ((x_rowOf Rr k1 i_13 (2 * n1)) j).toInt64) hx hb dX0_clerks_91 rfl ?_
                      refine lv_lconst (v := 0) hx hb dX0_clerks_92 (by decide) ?_
                      refine lv_iload hx hb dX0_clerks_93 (lv_at hl 8 rfl) ?_
                      refine lv_iconst (v := 2) hx hb dX0_clerks_95 (by decide) ?_
                      refine lv_irem hx hb dX0_clerks_96 (by decide) ?_
                      refine lv_asi (y := nI (j % 2)) (nI_mod2 (by omega)) ?_
                      refine lv_if_ne (tgt := 106) hx hb dX0_clerks_97 (by decide) (fun c_24 => ?_) (fun c_24 => ?_)
                      · -- c_24: nI (j % 2) ≠ 0
                        have hj0 : ¬ j % 2 = 0 := fun q => c_24 (by rw [q]; rfl)
                        refine lv_ldc2 (v := 1439) hx hb hown (hts _ q871) dX0_clerks_106 ?_
                        refine s_cI (v := b2i (inB 0 1439 ((x_rowOf Rr k1 i_13 (2 * n1)) j))) (As := [.long (((x_rowOf Rr k1 i_13 (2 * n1)) j).toInt64), .long 0, .long 1439]) (rest := []) S (metX0_isInI l ((x_rowOf Rr k1 i_13 (2 * n1)) j) 0 1439 (((x_rowOf Rr k1 i_13 (2 * n1)) j).toInt64) 0 1439 rfl rfl rfl) (va_cwS 3 hts (lw_S q230 q231 q57 q232) rfl rfl rfl (by decide +kernel) ⟨Nat.le_of_ble_eq_true rfl, Nat.le_of_ble_eq_true rfl⟩) rfl hl.1 rfl (Nat.le_of_ble_eq_true rfl) dX0_clerks_109 ⟨Nat.le_of_ble_eq_true rfl, Nat.le_of_ble_eq_true rfl⟩ ?_
                        refine lz_if_ne (tgt := 118) hx hb dX0_clerks_112 (by decide) (fun c_25 => ?_) (fun c_25 => ?_)
                        · -- c_25: inB 0 1439 ((x_rowOf Rr k1 i_13 (2 * n1)) j) = true
                          refine lv_iinc (v := nI (j + 1)) (lv' := [(8, .int (nI (j + 1))), (0, .ref h), (1, .int (nI k1)), (2, .int (nI i_13)), (3, .int (nI n1)), (4, .int p4), (5, .int (nI c1)), (6, .int p6), (7, .ref r_14)]) hx hb dX0_clerks_118 hl (k := 8) rfl (mk_inc _) (by decide) rfl (fun ls hl => ?_)
                          refine lv_goto (tgt := 78) hx hb dX0_clerks_121 (by decide) ?_
                          exact L_15ih  (j + 1) (by omega) (all_succF hno (by unfold xk_bad; first | (rw [if_pos hj0, c_25]; rfl) | (rw [if_neg hj0, c_25]; rfl))) (by omega) _ _ M ls (lv_sub hl [1, 2, 3, 4, 5, 6, 7, 8, 0] rfl)
                        · -- c_25: inB 0 1439 ((x_rowOf Rr k1 i_13 (2 * n1)) j) = false
                          refine lv_ldc (v := (-1000001)) hx hb hown (hts _ q234) dX0_clerks_115 ?_
                          have M := xM_drop M
                          refine W.widen (k := 112) (n := 1836) (Nat.le_of_ble_eq_true rfl) (Nat.le_of_ble_eq_true rfl) ?_
                          exact W.iret (v := (-1000001)) hx hb hr (fun t9 ht9 hW9 => ⟨⟨_, (F, Rr), rfl, (by have hany : x_any (xk_bad (x_rowOf Rr k1 i_13 (2 * n1))) (2 * n1) = true := x_any_t (k := j) (by unfold xk_bad; first | (rw [if_pos hj0, c_25]; rfl) | (rw [if_neg hj0, c_25]; rfl)) _ (by omega); simp [x_clerks, x_fnd, hany, c_1, ek1, c_2, en1, c_3, c_4, ec1, c_5, e2hs_11, nehs_11, ecn_10, c_12, ei_13, c_16, c_24, hj0, c_25]), ⟨G, (xext.rf _), by rw [ht9]; exact M.1, M.2.1, M.2.2.2⟩⟩, M.2.2.1.F ht9⟩) M.2.2.1.2.2 dX0_clerks_117
                      · -- c_24: nI (j % 2) = 0
                        have hj0 : j % 2 = 0 := nI_inj (b := 0) c_24 (by omega) (by omega)
                        refine lv_ldc2 (v := 3) hx hb hown (hts _ q1074) dX0_clerks_100 ?_
                        refine lv_goto (tgt := 109) hx hb dX0_clerks_103 (by decide) ?_
                        refine s_cI (v := b2i (inB 0 3 ((x_rowOf Rr k1 i_13 (2 * n1)) j))) (As := [.long (((x_rowOf Rr k1 i_13 (2 * n1)) j).toInt64), .long 0, .long 3]) (rest := []) S (metX0_isInI l ((x_rowOf Rr k1 i_13 (2 * n1)) j) 0 3 (((x_rowOf Rr k1 i_13 (2 * n1)) j).toInt64) 0 3 rfl rfl rfl) (va_cwS 3 hts (lw_S q230 q231 q57 q232) rfl rfl rfl (by decide +kernel) ⟨Nat.le_of_ble_eq_true rfl, Nat.le_of_ble_eq_true rfl⟩) rfl hl.1 rfl (Nat.le_of_ble_eq_true rfl) dX0_clerks_109 ⟨Nat.le_of_ble_eq_true rfl, Nat.le_of_ble_eq_true rfl⟩ ?_
                        refine lz_if_ne (tgt := 118) hx hb dX0_clerks_112 (by decide) (fun c_26 => ?_) (fun c_26 => ?_)
                        · -- c_26: inB 0 3 ((x_rowOf Rr k1 i_13 (2 * n1)) j) = true
                          refine lv_iinc (v := nI (j + 1)) (lv' := [(8, .int (nI (j + 1))), (0, .ref h), (1, .int (nI k1)), (2, .int (nI i_13)), (3, .int (nI n1)), (4, .int p4), (5, .int (nI c1)), (6, .int p6), (7, .ref r_14)]) hx hb dX0_clerks_118 hl (k := 8) rfl (mk_inc _) (by decide) rfl (fun ls hl => ?_)
                          refine lv_goto (tgt := 78) hx hb dX0_clerks_121 (by decide) ?_
                          exact L_15ih  (j + 1) (by omega) (all_succF hno (by unfold xk_bad; first | (rw [if_pos hj0, c_26]; rfl) | (rw [if_neg hj0, c_26]; rfl))) (by omega) _ _ M ls (lv_sub hl [1, 2, 3, 4, 5, 6, 7, 8, 0] rfl)
                        · -- c_26: inB 0 3 ((x_rowOf Rr k1 i_13 (2 * n1)) j) = false
                          refine lv_ldc (v := (-1000001)) hx hb hown (hts _ q234) dX0_clerks_115 ?_
                          have M := xM_drop M
                          refine W.widen (k := 112) (n := 1836) (Nat.le_of_ble_eq_true rfl) (Nat.le_of_ble_eq_true rfl) ?_
                          exact W.iret (v := (-1000001)) hx hb hr (fun t9 ht9 hW9 => ⟨⟨_, (F, Rr), rfl, (by have hany : x_any (xk_bad (x_rowOf Rr k1 i_13 (2 * n1))) (2 * n1) = true := x_any_t (k := j) (by unfold xk_bad; first | (rw [if_pos hj0, c_26]; rfl) | (rw [if_neg hj0, c_26]; rfl)) _ (by omega); simp [x_clerks, x_fnd, hany, c_1, ek1, c_2, en1, c_3, c_4, ec1, c_5, e2hs_11, nehs_11, ecn_10, c_12, ei_13, c_16, c_24, hj0, c_26]), ⟨G, (xext.rf _), by rw [ht9]; exact M.1, M.2.1, M.2.2.2⟩⟩, M.2.2.1.F ht9⟩) M.2.2.1.2.2 dX0_clerks_117
                exact L_15 ((2 * n1 - 0) + 1) 0 (by omega) (fun t ht => absurd ht (Nat.not_lt_zero t)) (Nat.lt_succ_self _) _ _ M ls (lv_sub hl [2, 3, 4, 5, 6, 7, 8, 1, 0] rfl)
              · -- the row is in: False
                have c_12 : x_rowOk p2 (nI (2 * n1)) (nI n_10) = false := Bool.eq_false_iff.mpr c_12
                obtain ⟨g_28, g_27, hg_28, hg_27, -⟩ := xsht_two M hs_11
                refine x_thrown X M (vx_runV (As := [.int p2, .int (nI (2 * n1))]) (rest := []) X.1 (metX4_row_f l D dA (va_A [] _) e0 y_7 (Rr 0 k1) z_9 n_10 (Rr (30 + k1)) p2 (2 * n1) (x_rowOk_n c_12)) (cwV 2 hts (lw_V q843 q844 q845 q66 q846) rfl rfl rfl (by decide +kernel) ⟨Nat.le_of_ble_eq_true rfl, Nat.le_of_ble_eq_true rfl⟩) ⟨gPre_blind, va_recv (cl := xCl) X.K M.1 (ci := 4) rfl hg_28, fun U hU hW => ⟨rfl, X.Cn M.2.2.1 (x_F0 X M.2.2.1) hU hW, by rw [hU]; exact va_P2 (M.1 _ _ hg_28) (M.1 _ _ hg_27)⟩⟩ rfl rfl hl.1 rfl (lv_room (Nat.le_of_ble_eq_true rfl)) dX0_clerks_70 ⟨Nat.le_of_ble_eq_true rfl, Nat.le_of_ble_eq_true rfl⟩) (fun q9 ce9 H locs M hce9 hcv9 hcl9 => ?_)
                refine x_catch X htab [] { startPc := 61, endPc := 117, handlerPc := 221, catchType := 81 } [{ startPc := 118, endPc := 220, handlerPc := 221, catchType := 81 }] rfl (fun z9 hz9 => by cases hz9) (by decide) (by decide) (X.hts _ q225) hce9 hcv9 hcl9 ?_
                refine W.eq (g2 := F0 m 221 ls [.ref q9]) rfl ?_
                refine W.widen (k := 1) (n := 7) (Nat.le_of_ble_eq_true rfl) (Nat.le_of_ble_eq_true rfl) ?_
                refine lv_astore (lv' := [(7, .ref q9), (0, .ref h), (1, .int (nI k1)), (2, .int p2), (3, .int (nI n1)), (4, .int p4), (5, .int (nI c1)), (6, .int p6)]) hx hb dX0_clerks_221 hl (by decide) rfl (fun ls hl => ?_)
                refine lv_aload_n hx hb dX0_clerks_223 rfl (lv_at hl 1 rfl) ?_
                refine lv_aload hx hb dX0_clerks_224 (lv_at hl 0 rfl) ?_
                refine x_cU0 (As := [.ref q9]) (rest := []) X M (metX0_found l D dA A e0 h G T F Rr q9 2) (cwV 1 hts (lw_V q322 q324 qs2 q57 q325) rfl rfl rfl (by decide +kernel) ⟨Nat.le_of_ble_eq_true rfl, Nat.le_of_ble_eq_true rfl⟩) rfl hl.1 rfl (Nat.le_of_ble_eq_true rfl) dX0_clerks_226 ⟨Nat.le_of_ble_eq_true rfl, Nat.le_of_ble_eq_true rfl⟩ (fun r9 F9 R9 hr9 H locs M => ?_)
                obtain ⟨e91, e92, e93⟩ : r9 = (-1000010) - 2 ∧ F9 = va_up F 23 2 ∧ R9 = Rr := ⟨congrArg Prod.fst hr9, congrArg (fun z => z.2.1) hr9, congrArg (fun z => z.2.2) hr9⟩
                rw [e92, e93] at M; rw [e91]
                clear hr9
                have M := xM_drop M
                refine W.widen (k := 112) (n := 1836) (Nat.le_of_ble_eq_true rfl) (Nat.le_of_ble_eq_true rfl) ?_
                exact W.iret (v := (-1000010) - 2) hx hb hr (fun t9 ht9 hW9 => ⟨⟨_, (va_up F 23 2, Rr), rfl, (by simp [x_clerks, x_fnd, c_1, ek1, c_2, en1, c_3, c_4, ec1, c_5, e2hs_11, nehs_11, ecn_10, c_12]), ⟨G, (xext.rf _), by rw [ht9]; exact M.1, M.2.1, M.2.2.2⟩⟩, M.2.2.1.F ht9⟩) M.2.2.1.2.2 dX0_clerks_229
          · -- c_5: inB 0 4 p6 = false
            refine lv_ldc (v := (-1000001)) hx hb hown (hts _ q234) dX0_clerks_58 ?_
            refine W.widen (k := 112) (n := 1836) (Nat.le_of_ble_eq_true rfl) (Nat.le_of_ble_eq_true rfl) ?_
            exact W.iret (v := (-1000001)) hx hb hr (fun t9 ht9 hW9 => ⟨⟨_, (F, Rr), rfl, (by simp [x_clerks, x_fnd, c_1, ek1, c_2, en1, c_3, c_4, ec1, c_5]), ⟨G, (xext.rf _), by rw [ht9]; exact M.1, M.2.1, M.2.2.2⟩⟩, M.2.2.1.F ht9⟩) M.2.2.1.2.2 dX0_clerks_60

