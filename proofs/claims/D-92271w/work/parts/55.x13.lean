/-! THE SYSTEM, 11: watch -/
def x_watBad (g : Nat → Int32) (k : Nat) : Bool := !inB 0 4095 (g k)
def x_hasS (g : Nat → Int32) (set : Nat) (k : Nat) (h : Int32) : Int32 := h ||| (if ((nI set) >>> (nI k &&& 31)) &&& 1 = 1 then g k else 0)
def x_watS (need : Int32) (g : Nat → Int32) (n : Nat) (set : Nat) (best : Int32) : Int32 := if need &&& (itr (x_hasS g set) n 0 ^^^ (-1)) = 0 ∧ (best = (-1000000) ∨ x_bc (nI set) < x_bc best) then nI set else best
def x_watch (F : Nat → Int32) (Rr : Nat → Nat → Int32) (k i n : Int32) : Int32 × mST := if inB 0 7 k = false ∨ inB 1 12 n = false then ((-1000001), F, Rr) else if Rr 0 k.toNatClampNeg = -1 then x_fnd F Rr 1 else if x_rowOk i n (Rr 24 k.toNatClampNeg) = false then x_fnd F Rr 2 else if x_any (x_watBad (x_rowOf Rr k.toNatClampNeg i.toNatClampNeg n.toNatClampNeg)) n.toNatClampNeg = true then ((-1000001), F, Rr) else (itr (x_watS (x_breaches Rr) (x_rowOf Rr k.toNatClampNeg i.toNatClampNeg n.toNatClampNeg) n.toNatClampNeg) (2 ^ n.toNatClampNeg) (-1000000), va_up F 23 0, Rr)
set_option maxHeartbeats 4000000 in
set_option maxRecDepth 100000 in
theorem metX0_watch (l : Launch) (D : va_G) (dA : Nat → ClassId) (A : Nat → Prop) (e0 h : Nat) (G : xG) (T : va_W) (F : Nat → Int32) (Rr : Nat → Nat → Int32) (p1 : Int32) (p2 : Int32) (p3 : Int32) : Met l yX0_watch (wsW_ yX0_watch cX0_watch 10 (some .int) [(22, 61, 179, 81), (62, 178, 179, 81)]) ({ frames := 6, cells := 1, slots := 64, locals := 153 } : Room) (va_Pc [.ref h, .int p1, .int p2, .int p3] (xPre D dA A e0 h G T F Rr)) (va_Qi (fun r u => (r, u) = x_watch F Rr p1 p2 p3) (xB D dA A e0 h G T) A) 1 64 A := by
  refine va_MetW (cc := cX0_watch) (maxL := 10) (ret := (some .int)) (by decide) rfl ?_
  intro p e s m args below meth c s₁ B hml hv
  obtain ⟨rfl, hC, hP, hD, hI⟩ := hv
  have hx := B.exec
  have hb := B.bytes
  have hr := B.returns
  have hts := atoms_spec (ws := (wsW_ yX0_watch cX0_watch 10 (some .int) [(22, 61, 179, 81), (62, 178, 179, 81)])) B.pre
  have hts : ∀ w ∈ lw_all, w.before _ s = true := fun w h => hts w (List.mem_cons_of_mem _ h)
  have hown : s.vm.findClass RX0 = some m.cls := findClass_of_methodNamed B.named
  have hlocks := B.notSynchronized
  have S : CallFix p m c cX0_watch 10 s ([.ref h, .int p1, .int p2, .int p3] : List Value).toArray lw_all RX0 := ⟨hx, hb, hml, hown, hts⟩
  have X : xX RX0 p s m ([.ref h, .int p1, .int p2, .int p3] : List Value).toArray c cX0_watch 10 D dA A e0 := ⟨S, hC⟩
  have M : xM D dA A e0 h G T s F Rr s.heap [] := ⟨hP, hD, va_S.rf, hI⟩
  have hl := lv_entry ([.ref h, .int p1, .int p2, .int p3]) (n := 10) (Nat.le_of_ble_eq_true rfl)
  rw [lg_entry_eq]
  generalize (lg_sl ([.ref h, .int p1, .int p2, .int p3]) ++ List.replicate (10 - (lg_sl ([.ref h, .int p1, .int p2, .int p3])).length) Slot.unset).toArray = ls at hl ⊢
  have hl : lv_has ls 10 [(0, .ref h), (1, .int p1), (2, .int p2), (3, .int p3)] := hl
  have htab := vx_table (x := yX0_watch) B (hts _ q1284)
  refine lv_iload_n hx hb dX0_watch_0 rfl (lv_at hl 1 rfl) ?_
  refine s_cI (v := b2i (inB 0 7 p1)) (As := [.int p1]) (rest := []) S (metX0_isSheet l p1) (va_cwS 1 hts (lw_S q226 q227 q57 q228) rfl rfl rfl (by decide +kernel) ⟨Nat.le_of_ble_eq_true rfl, Nat.le_of_ble_eq_true rfl⟩) rfl hl.1 rfl (Nat.le_of_ble_eq_true rfl) dX0_watch_1 ⟨Nat.le_of_ble_eq_true rfl, Nat.le_of_ble_eq_true rfl⟩ ?_
  refine lz_if_eq (tgt := 19) hx hb dX0_watch_4 (by decide) (fun c_1 => ?_) (fun c_1 => ?_)
  · -- c_1: inB 0 7 p1 = false
    refine lv_ldc (v := (-1000001)) hx hb hown (hts _ q234) dX0_watch_19 ?_
    refine W.widen (k := 1) (n := 64) (Nat.le_of_ble_eq_true rfl) (Nat.le_of_ble_eq_true rfl) ?_
    exact W.iret (v := (-1000001)) hx hb hr (fun t9 ht9 hW9 => ⟨⟨_, (F, Rr), rfl, (by simp [x_watch, x_fnd, c_1]), ⟨G, (xext.rf _), by rw [ht9]; exact M.1, M.2.1, M.2.2.2⟩⟩, M.2.2.1.F ht9⟩) M.2.2.1.2.2 dX0_watch_21
  · -- c_1: inB 0 7 p1 = true
    obtain ⟨k1, hk1, rfl⟩ := inB_ex c_1 (n := 7) rfl
    have ek1 : (nI k1).toNatClampNeg = k1 := nI_clamp (by omega)
    refine lv_iload_n hx hb dX0_watch_7 rfl (lv_at hl 3 rfl) ?_
    refine lv_i2l (v := p3.toInt64) hx hb dX0_watch_8 rfl ?_
    refine lv_lconst (v := 1) hx hb dX0_watch_9 (by decide) ?_
    refine lv_ldc2 (v := 12) hx hb hown (hts _ q1285) dX0_watch_10 ?_
    refine s_cI (v := b2i (inB 1 12 p3)) (As := [.long p3.toInt64, .long 1, .long 12]) (rest := []) S (metX0_isInI l p3 1 12 p3.toInt64 1 12 rfl rfl rfl) (va_cwS 3 hts (lw_S q230 q231 q57 q232) rfl rfl rfl (by decide +kernel) ⟨Nat.le_of_ble_eq_true rfl, Nat.le_of_ble_eq_true rfl⟩) rfl hl.1 rfl (Nat.le_of_ble_eq_true rfl) dX0_watch_13 ⟨Nat.le_of_ble_eq_true rfl, Nat.le_of_ble_eq_true rfl⟩ ?_
    refine lz_if_ne (tgt := 22) hx hb dX0_watch_16 (by decide) (fun c_2 => ?_) (fun c_2 => ?_)
    · -- c_2: inB 1 12 p3 = true
      obtain ⟨n1, hn1, rfl⟩ := inB_ex (show inB 0 12 p3 = true from inB_t.mpr ⟨Int32.le_trans (by decide) (inB_t.mp c_2).1, (inB_t.mp c_2).2⟩) (n := 12) rfl
      have en1 : (nI n1).toNatClampNeg = n1 := nI_clamp (by omega)
      have hn1p : 1 ≤ n1 := Nat.pos_of_ne_zero (fun q => by rw [q] at c_2; exact absurd (inB_t.mp c_2).1 (by decide))
      refine lv_aload_n hx hb dX0_watch_22 rfl (lv_at hl 0 rfl) ?_
      refine lv_iload_n hx hb dX0_watch_23 rfl (lv_at hl 1 rfl) ?_
      rcases hy_3 : g_rs G k1 with _ | y_4
      · -- a sheet there: False
        have h0_5 : Rr 0 k1 = -1 := x_nosheet M (by omega) hy_3
        refine x_thrownW M (vx_runV (As := [.int (nI k1)]) (rest := []) X.1 (metX0_sheetAt_f l D dA A e0 h G T F Rr k1 (by omega) hy_3) (cwV 1 hts (lw_V q331 q333 qs3 q57 q334) rfl rfl rfl (by decide +kernel) ⟨Nat.le_of_ble_eq_true rfl, Nat.le_of_ble_eq_true rfl⟩) ⟨xPre_blind, x_recv X M, fun U hU hW => ⟨rfl, x_pre X M hU hW⟩⟩ rfl rfl hl.1 rfl (lv_room (Nat.le_of_ble_eq_true rfl)) dX0_watch_24 ⟨Nat.le_of_ble_eq_true rfl, Nat.le_of_ble_eq_true rfl⟩) (fun q9 ce9 H locs M hce9 hcv9 hcl9 => ?_)
        refine x_catch X htab [] { startPc := 22, endPc := 61, handlerPc := 179, catchType := 81 } [{ startPc := 62, endPc := 178, handlerPc := 179, catchType := 81 }] rfl (fun z9 hz9 => by cases hz9) (by decide) (by decide) (X.hts _ q225) hce9 hcv9 hcl9 ?_
        refine W.eq (g2 := F0 m 179 ls [.ref q9]) rfl ?_
        refine W.widen (k := 1) (n := 7) (Nat.le_of_ble_eq_true rfl) (Nat.le_of_ble_eq_true rfl) ?_
        refine lv_astore (lv' := [(4, .ref q9), (0, .ref h), (1, .int (nI k1)), (2, .int p2), (3, .int (nI n1))]) hx hb dX0_watch_179 hl (by decide) rfl (fun ls hl => ?_)
        refine lv_aload_n hx hb dX0_watch_181 rfl (lv_at hl 1 rfl) ?_
        refine lv_aload hx hb dX0_watch_182 (lv_at hl 0 rfl) ?_
        refine x_cU0 (As := [.ref q9]) (rest := []) X M (metX0_found l D dA A e0 h G T F Rr q9 1) (cwV 1 hts (lw_V q322 q324 qs2 q57 q325) rfl rfl rfl (by decide +kernel) ⟨Nat.le_of_ble_eq_true rfl, Nat.le_of_ble_eq_true rfl⟩) rfl hl.1 rfl (Nat.le_of_ble_eq_true rfl) dX0_watch_184 ⟨Nat.le_of_ble_eq_true rfl, Nat.le_of_ble_eq_true rfl⟩ (fun r9 F9 R9 hr9 H locs M => ?_)
        obtain ⟨e91, e92, e93⟩ : r9 = (-1000010) - 1 ∧ F9 = va_up F 23 1 ∧ R9 = Rr := ⟨congrArg Prod.fst hr9, congrArg (fun z => z.2.1) hr9, congrArg (fun z => z.2.2) hr9⟩
        rw [e92, e93] at M; rw [e91]
        clear hr9
        have M := xM_drop M
        refine W.widen (k := 1) (n := 64) (Nat.le_of_ble_eq_true rfl) (Nat.le_of_ble_eq_true rfl) ?_
        exact W.iret (v := (-1000010) - 1) hx hb hr (fun t9 ht9 hW9 => ⟨⟨_, (va_up F 23 1, Rr), rfl, (by simp [x_watch, x_fnd, c_1, ek1, c_2, en1, h0_5]), ⟨G, (xext.rf _), by rw [ht9]; exact M.1, M.2.1, M.2.2.2⟩⟩, M.2.2.1.F ht9⟩) M.2.2.1.2.2 dX0_watch_187
      · -- a sheet there: True
        refine va_csq (W.runV (As := [.int (nI k1)]) (rest := []) X.1 (metX0_sheetAt_t l D dA A e0 h G T F Rr k1 y_4 (by omega) hy_3) (cwV 1 hts (lw_V q331 q333 qs3 q57 q334) rfl rfl rfl (by decide +kernel) ⟨Nat.le_of_ble_eq_true rfl, Nat.le_of_ble_eq_true rfl⟩) ⟨xPre_blind, x_recv X M, fun U hU hW => ⟨rfl, x_pre X M hU hW⟩⟩ rfl rfl hl.1 rfl (lv_room (Nat.le_of_ble_eq_true rfl)) dX0_watch_24 ⟨Nat.le_of_ble_eq_true rfl, Nat.le_of_ble_eq_true rfl⟩) (fun r9 hr9 => ?_)
        subst hr9
        obtain ⟨z_6, n_7, hs_8⟩ := x_sheet M (show k1 < 8 by omega) hy_3
        have h6hs_8 := hs_8.2.2.2.2.2
        have e2hs_8 := hs_8.2.2.2.2.1
        have nehs_8 := hs_8.ne
        have ecn_7 : (nI n_7).toNatClampNeg = n_7 := nI_clamp (by omega)
        refine lv_iload_n hx hb dX0_watch_27 rfl (lv_at hl 2 rfl) ?_
        refine lv_iload_n hx hb dX0_watch_28 rfl (lv_at hl 3 rfl) ?_
        by_cases c_9 : x_rowOk p2 (nI n1) (nI n_7) = true
        · -- the row is in: True
          obtain ⟨i_10, hi_10, rfl⟩ := x_rowOk_ex (n := n1) c_9 (by omega) (by omega)
          have ei_10 : (nI i_10).toNatClampNeg = i_10 := nI_clamp (by omega)
          refine x_rowT (k := k1) (kk := i_10) (n := n1) X M hs_8 (by omega) (cwV 2 hts (lw_V q843 q844 q845 q66 q846) rfl rfl rfl (by decide +kernel) ⟨Nat.le_of_ble_eq_true rfl, Nat.le_of_ble_eq_true rfl⟩) hl.1 (Nat.le_of_ble_eq_true rfl) dX0_watch_29 ⟨Nat.le_of_ble_eq_true rfl, Nat.le_of_ble_eq_true rfl⟩ (fun r_11 H locs M => ?_)
          refine W.widen (k := 1) (n := 64) (Nat.le_of_ble_eq_true rfl) (Nat.le_of_ble_eq_true rfl) ?_
          refine lv_astore (lv' := [(4, .ref r_11), (0, .ref h), (1, .int (nI k1)), (2, .int (nI i_10)), (3, .int (nI n1))]) hx hb dX0_watch_32 hl (by decide) rfl (fun ls hl => ?_)
          refine lv_iconst (v := 0) hx hb dX0_watch_34 (by decide) ?_
          refine lv_istore (lv' := [(5, .int 0), (4, .ref r_11), (0, .ref h), (1, .int (nI k1)), (2, .int (nI i_10)), (3, .int (nI n1))]) hx hb dX0_watch_35 hl (by decide) rfl (fun ls hl => ?_)
          have L_12 : ∀ (fuL_12 : Nat) (j : Nat), (j ≤ n1) → (∀ t, t < j → (x_watBad (x_rowOf Rr k1 i_10 n1)) t = false) → n1 - j < fuL_12 → ∀ (H : Heap) (locs : List Loc), xM D dA A e0 h G (T ++ [(r_11, .inl (dA 0, n1, .inl (x_rowOf Rr k1 i_10 n1)))]) s F Rr H locs → ∀ ls, lv_has ls 10 [(0, .ref h), (1, .int (nI k1)), (2, .int (nI i_10)), (3, .int (nI n1)), (4, .ref r_11), (5, .int (nI j))] → W p l e ({ frames := 6, cells := 1, slots := 64, locals := 153 } : Room) s m ([.ref h, .int (nI k1), .int (nI i_10), .int (nI n1)] : List Value).toArray below meth c H locs 1 64 (MQ below (va_Qi (fun r u => (r, u) = x_watch F Rr (nI k1) (nI i_10) (nI n1)) (xB D dA A e0 h G T) A) ([.ref h, .int (nI k1), .int (nI i_10), .int (nI n1)] : List Value).toArray s 1 64 A) (F0 m 37 ls []) := by
            intro fuL_12
            induction fuL_12 with
            | zero => intro j hj hno hfuL_12; exact absurd hfuL_12 (Nat.not_lt_zero _)
            | succ fuL_12 L_12ih =>
              intro j hj hno hfuL_12 H locs M ls hl
              refine lv_iload hx hb dX0_watch_37 (lv_at hl 5 rfl) ?_
              refine lv_iload_n hx hb dX0_watch_39 rfl (lv_at hl 3 rfl) ?_
              refine ln_icmp_ge (tgt := 68) hx hb (a := j) (b := n1) (by omega) (by omega) dX0_watch_40 (by decide) (fun c_13 => ?_) (fun c_13 => ?_)
              · -- c_13: nI j ≥ nI n1
                have hall : x_any (x_watBad (x_rowOf Rr k1 i_10 n1)) n1 = false := x_any_f _ (fun t ht => hno t (by omega))
                have hpw := pow_le n1 (by omega)
                refine lv_aload_n hx hb dX0_watch_68 rfl (lv_at hl 0 rfl) ?_
                refine x_cQ (v := x_breaches Rr) (As := []) (rest := []) X M (metX0_breaches l D dA A e0 h G _ F Rr ) (cwV 0 hts (lw_V q1287 q1278 q1279 q57 q1280) rfl rfl rfl (by decide +kernel) ⟨Nat.le_of_ble_eq_true rfl, Nat.le_of_ble_eq_true rfl⟩) rfl hl.1 rfl (Nat.le_of_ble_eq_true rfl) dX0_watch_69 ⟨Nat.le_of_ble_eq_true rfl, Nat.le_of_ble_eq_true rfl⟩ ?_
                refine lv_istore (lv' := [(5, .int (x_breaches Rr)), (0, .ref h), (1, .int (nI k1)), (2, .int (nI i_10)), (3, .int (nI n1)), (4, .ref r_11)]) hx hb dX0_watch_72 hl (by decide) rfl (fun ls hl => ?_)
                refine lv_ldc (v := (-1000000)) hx hb hown (hts _ q147) dX0_watch_74 ?_
                refine lv_istore (lv' := [(6, .int (-1000000)), (5, .int (x_breaches Rr)), (0, .ref h), (1, .int (nI k1)), (2, .int (nI i_10)), (3, .int (nI n1)), (4, .ref r_11)]) hx hb dX0_watch_76 hl (by decide) rfl (fun ls hl => ?_)
                refine lv_iconst (v := 0) hx hb dX0_watch_78 (by decide) ?_
                refine lv_istore (lv' := [(7, .int 0), (6, .int (-1000000)), (5, .int (x_breaches Rr)), (0, .ref h), (1, .int (nI k1)), (2, .int (nI i_10)), (3, .int (nI n1)), (4, .ref r_11)]) hx hb dX0_watch_79 hl (by decide) rfl (fun ls hl => ?_)
                have L_14 : ∀ (fuL_14 : Nat) (set : Nat) (x : Int32), (set ≤ 2 ^ n1) → (x = itr (x_watS (x_breaches Rr) (x_rowOf Rr k1 i_10 n1) n1) set (-1000000)) → 2 ^ n1 - set < fuL_14 → ∀ (H : Heap) (locs : List Loc), xM D dA A e0 h G (T ++ [(r_11, .inl (dA 0, n1, .inl (x_rowOf Rr k1 i_10 n1)))]) s F Rr H locs → ∀ ls, lv_has ls 10 [(0, .ref h), (1, .int (nI k1)), (2, .int (nI i_10)), (3, .int (nI n1)), (4, .ref r_11), (5, .int (x_breaches Rr)), (6, .int x), (7, .int (nI set))] → W p l e ({ frames := 6, cells := 1, slots := 64, locals := 153 } : Room) s m ([.ref h, .int (nI k1), .int (nI i_10), .int (nI n1)] : List Value).toArray below meth c H locs 1 64 (MQ below (va_Qi (fun r u => (r, u) = x_watch F Rr (nI k1) (nI i_10) (nI n1)) (xB D dA A e0 h G T) A) ([.ref h, .int (nI k1), .int (nI i_10), .int (nI n1)] : List Value).toArray s 1 64 A) (F0 m 81 ls []) := by
                  intro fuL_14
                  induction fuL_14 with
                  | zero => intro set x hset qx hfuL_14; exact absurd hfuL_14 (Nat.not_lt_zero _)
                  | succ fuL_14 L_14ih =>
                    intro set x hset qx hfuL_14 H locs M ls hl
                    refine lv_iload hx hb dX0_watch_81 (lv_at hl 7 rfl) ?_
                    refine lv_iconst (v := 1) hx hb dX0_watch_83 (by decide) ?_
                    refine lv_iload_n hx hb dX0_watch_84 rfl (lv_at hl 3 rfl) ?_
                    refine lv_ishl hx hb dX0_watch_85 ?_
                    refine lv_asi (y := nI (2 ^ n1)) (shl_pow n1 (by omega)) ?_
                    refine ln_icmp_ge (tgt := 172) hx hb (a := set) (b := 2 ^ n1) (by omega) (by omega) dX0_watch_86 (by decide) (fun c_15 => ?_) (fun c_15 => ?_)
                    · -- c_15: nI set ≥ nI (2 ^ n1)
                      have eset : set = 2 ^ n1 := by omega
                      rw [eset] at qx
                      refine lv_aload_n hx hb dX0_watch_172 rfl (lv_at hl 0 rfl) ?_
                      refine lv_iload hx hb dX0_watch_173 (lv_at hl 6 rfl) ?_
                      refine x_cU0 (As := [.int x]) (rest := []) X M (metX0_well l D dA A e0 h G _ F Rr x) (cwV 1 hts (lw_V q318 q320 qs1 q57 q321) rfl rfl rfl (by decide +kernel) ⟨Nat.le_of_ble_eq_true rfl, Nat.le_of_ble_eq_true rfl⟩) rfl hl.1 rfl (Nat.le_of_ble_eq_true rfl) dX0_watch_175 ⟨Nat.le_of_ble_eq_true rfl, Nat.le_of_ble_eq_true rfl⟩ (fun r9 F9 R9 hr9 H locs M => ?_)
                      obtain ⟨e91, e92, e93⟩ : r9 = x ∧ F9 = va_up F 23 0 ∧ R9 = Rr := ⟨congrArg Prod.fst hr9, congrArg (fun z => z.2.1) hr9, congrArg (fun z => z.2.2) hr9⟩
                      rw [e92, e93] at M; rw [e91]
                      clear hr9
                      have M := xM_drop M
                      exact W.iret (v := x) hx hb hr (fun t9 ht9 hW9 => ⟨⟨_, (va_up F 23 0, Rr), rfl, (by simp [x_watch, x_fnd, c_1, ek1, c_2, en1, e2hs_8, nehs_8, ecn_7, c_9, ei_10, c_13, hall, c_15, ← qx]), ⟨G, (xext.rf _), by rw [ht9]; exact M.1, M.2.1, M.2.2.2⟩⟩, M.2.2.1.F ht9⟩) M.2.2.1.2.2 dX0_watch_178
                    · -- c_15: nI set < nI (2 ^ n1)
                      refine lv_iconst (v := 0) hx hb dX0_watch_89 (by decide) ?_
                      refine lv_istore (lv' := [(8, .int 0), (0, .ref h), (1, .int (nI k1)), (2, .int (nI i_10)), (3, .int (nI n1)), (4, .ref r_11), (5, .int (x_breaches Rr)), (6, .int x), (7, .int (nI set))]) hx hb dX0_watch_90 hl (by decide) rfl (fun ls hl => ?_)
                      refine lv_iconst (v := 0) hx hb dX0_watch_92 (by decide) ?_
                      refine lv_istore (lv' := [(9, .int 0), (8, .int 0), (0, .ref h), (1, .int (nI k1)), (2, .int (nI i_10)), (3, .int (nI n1)), (4, .ref r_11), (5, .int (x_breaches Rr)), (6, .int x), (7, .int (nI set))]) hx hb dX0_watch_93 hl (by decide) rfl (fun ls hl => ?_)
                      have L_16 : ∀ (fuL_16 : Nat) (k : Nat) (a : Int32), (k ≤ n1) → (a = itr (x_hasS (x_rowOf Rr k1 i_10 n1) set) k 0) → n1 - k < fuL_16 → ∀ (H : Heap) (locs : List Loc), xM D dA A e0 h G (T ++ [(r_11, .inl (dA 0, n1, .inl (x_rowOf Rr k1 i_10 n1)))]) s F Rr H locs → ∀ ls, lv_has ls 10 [(0, .ref h), (1, .int (nI k1)), (2, .int (nI i_10)), (3, .int (nI n1)), (4, .ref r_11), (5, .int (x_breaches Rr)), (6, .int x), (7, .int (nI set)), (8, .int a), (9, .int (nI k))] → W p l e ({ frames := 6, cells := 1, slots := 64, locals := 153 } : Room) s m ([.ref h, .int (nI k1), .int (nI i_10), .int (nI n1)] : List Value).toArray below meth c H locs 1 64 (MQ below (va_Qi (fun r u => (r, u) = x_watch F Rr (nI k1) (nI i_10) (nI n1)) (xB D dA A e0 h G T) A) ([.ref h, .int (nI k1), .int (nI i_10), .int (nI n1)] : List Value).toArray s 1 64 A) (F0 m 95 ls []) := by
                        intro fuL_16
                        induction fuL_16 with
                        | zero => intro k a hk qa hfuL_16; exact absurd hfuL_16 (Nat.not_lt_zero _)
                        | succ fuL_16 L_16ih =>
                          intro k a hk qa hfuL_16 H locs M ls hl
                          refine lv_iload hx hb dX0_watch_95 (lv_at hl 9 rfl) ?_
                          refine lv_iload_n hx hb dX0_watch_97 rfl (lv_at hl 3 rfl) ?_
                          refine ln_icmp_ge (tgt := 132) hx hb (a := k) (b := n1) (by omega) (by omega) dX0_watch_98 (by decide) (fun c_17 => ?_) (fun c_17 => ?_)
                          · -- c_17: nI k ≥ nI n1
                            have ek : k = n1 := by omega
                            rw [ek] at qa
                            refine lv_iload hx hb dX0_watch_132 (lv_at hl 5 rfl) ?_
                            refine lv_iload hx hb dX0_watch_134 (lv_at hl 8 rfl) ?_
                            refine lv_iconst (v := (-1)) hx hb dX0_watch_136 (by decide) ?_
                            refine lv_ixor hx hb dX0_watch_137 ?_
                            refine lv_iand hx hb dX0_watch_138 ?_
                            refine lv_if_ne (tgt := 166) hx hb dX0_watch_139 (by decide) (fun c_18 => ?_) (fun c_18 => ?_)
                            · -- c_18: (x_breaches Rr) &&& (a ^^^ (-1)) ≠ 0
                              refine lv_iinc (v := nI (set + 1)) (lv' := [(7, .int (nI (set + 1))), (0, .ref h), (1, .int (nI k1)), (2, .int (nI i_10)), (3, .int (nI n1)), (4, .ref r_11), (5, .int (x_breaches Rr)), (6, .int x), (8, .int a), (9, .int (nI k))]) hx hb dX0_watch_166 hl (k := 7) rfl (mk_inc _) (by decide) rfl (fun ls hl => ?_)
                              refine lv_goto (tgt := 81) hx hb dX0_watch_169 (by decide) ?_
                              exact L_14ih  (set + 1) x (by omega) (by rw [itr_s, ← qx]; unfold x_watS; rw [← qa]; rw [if_neg (fun h => c_18 h.1)]) (by omega) _ _ M ls (lv_sub hl [1, 2, 3, 4, 5, 6, 7, 0] rfl)
                            · -- c_18: (x_breaches Rr) &&& (a ^^^ (-1)) = 0
                              refine lv_iload hx hb dX0_watch_142 (lv_at hl 6 rfl) ?_
                              refine lv_ldc (v := (-1000000)) hx hb hown (hts _ q147) dX0_watch_144 ?_
                              refine lv_icmp_eq (tgt := 162) hx hb dX0_watch_146 (by decide) (fun c_19 => ?_) (fun c_19 => ?_)
                              · -- c_19: x = (-1000000)
                                refine lv_iload hx hb dX0_watch_162 (lv_at hl 7 rfl) ?_
                                refine lv_istore (lv' := [(6, .int (nI set)), (0, .ref h), (1, .int (nI k1)), (2, .int (nI i_10)), (3, .int (nI n1)), (4, .ref r_11), (5, .int (x_breaches Rr)), (7, .int (nI set)), (8, .int a), (9, .int (nI k))]) hx hb dX0_watch_164 hl (by decide) rfl (fun ls hl => ?_)
                                refine lv_iinc (v := nI (set + 1)) (lv' := [(7, .int (nI (set + 1))), (6, .int (nI set)), (0, .ref h), (1, .int (nI k1)), (2, .int (nI i_10)), (3, .int (nI n1)), (4, .ref r_11), (5, .int (x_breaches Rr)), (8, .int a), (9, .int (nI k))]) hx hb dX0_watch_166 hl (k := 7) rfl (mk_inc _) (by decide) rfl (fun ls hl => ?_)
                                refine lv_goto (tgt := 81) hx hb dX0_watch_169 (by decide) ?_
                                exact L_14ih  (set + 1) (nI set) (by omega) (by rw [itr_s, ← qx]; unfold x_watS; rw [← qa]; rw [if_pos ⟨c_18, Or.inl c_19⟩]) (by omega) _ _ M ls (lv_sub hl [2, 3, 4, 5, 6, 7, 1, 0] rfl)
                              · -- c_19: x ≠ (-1000000)
                                refine lv_iload hx hb dX0_watch_149 (lv_at hl 7 rfl) ?_
                                refine s_cI (v := x_bc (nI set)) (As := [.int (nI set)]) (rest := []) S (metJ18_bitCount l (nI set)) (va_cwS 1 hts (lw_S q1256 q1257 q86 q1258) rfl rfl rfl (by decide +kernel) ⟨Nat.le_of_ble_eq_true rfl, Nat.le_of_ble_eq_true rfl⟩) rfl hl.1 rfl (Nat.le_of_ble_eq_true rfl) dX0_watch_151 ⟨Nat.le_of_ble_eq_true rfl, Nat.le_of_ble_eq_true rfl⟩ ?_
                                refine lv_iload hx hb dX0_watch_154 (lv_at hl 6 rfl) ?_
                                refine s_cI (v := x_bc x) (As := [.int x]) (rest := [.int (x_bc (nI set))]) S (metJ18_bitCount l x) (va_cwS 1 hts (lw_S q1256 q1257 q86 q1258) rfl rfl rfl (by decide +kernel) ⟨Nat.le_of_ble_eq_true rfl, Nat.le_of_ble_eq_true rfl⟩) rfl hl.1 rfl (Nat.le_of_ble_eq_true rfl) dX0_watch_156 ⟨Nat.le_of_ble_eq_true rfl, Nat.le_of_ble_eq_true rfl⟩ ?_
                                refine lb_icmp_ge (tgt := 166) hx hb dX0_watch_159 (by decide) (fun c_20 c_20' => ?_) (fun c_20 c_20' => ?_)
                                · -- c_20: x_bc (nI set) ≥ x_bc x
                                  refine lv_iinc (v := nI (set + 1)) (lv' := [(7, .int (nI (set + 1))), (0, .ref h), (1, .int (nI k1)), (2, .int (nI i_10)), (3, .int (nI n1)), (4, .ref r_11), (5, .int (x_breaches Rr)), (6, .int x), (8, .int a), (9, .int (nI k))]) hx hb dX0_watch_166 hl (k := 7) rfl (mk_inc _) (by decide) rfl (fun ls hl => ?_)
                                  refine lv_goto (tgt := 81) hx hb dX0_watch_169 (by decide) ?_
                                  exact L_14ih  (set + 1) x (by omega) (by rw [itr_s, ← qx]; unfold x_watS; rw [← qa]; rw [if_neg (fun h => h.2.elim c_19 c_20')]) (by omega) _ _ M ls (lv_sub hl [1, 2, 3, 4, 5, 6, 7, 0] rfl)
                                · -- c_20: x_bc (nI set) < x_bc x
                                  refine lv_iload hx hb dX0_watch_162 (lv_at hl 7 rfl) ?_
                                  refine lv_istore (lv' := [(6, .int (nI set)), (0, .ref h), (1, .int (nI k1)), (2, .int (nI i_10)), (3, .int (nI n1)), (4, .ref r_11), (5, .int (x_breaches Rr)), (7, .int (nI set)), (8, .int a), (9, .int (nI k))]) hx hb dX0_watch_164 hl (by decide) rfl (fun ls hl => ?_)
                                  refine lv_iinc (v := nI (set + 1)) (lv' := [(7, .int (nI (set + 1))), (6, .int (nI set)), (0, .ref h), (1, .int (nI k1)), (2, .int (nI i_10)), (3, .int (nI n1)), (4, .ref r_11), (5, .int (x_breaches Rr)), (8, .int a), (9, .int (nI k))]) hx hb dX0_watch_166 hl (k := 7) rfl (mk_inc _) (by decide) rfl (fun ls hl => ?_)
                                  refine lv_goto (tgt := 81) hx hb dX0_watch_169 (by decide) ?_
                                  exact L_14ih  (set + 1) (nI set) (by omega) (by rw [itr_s, ← qx]; unfold x_watS; rw [← qa]; rw [if_pos ⟨c_18, Or.inr c_20⟩]) (by omega) _ _ M ls (lv_sub hl [2, 3, 4, 5, 6, 7, 1, 0] rfl)
                          · -- c_17: nI k < nI n1
                            refine lv_iload hx hb dX0_watch_101 (lv_at hl 8 rfl) ?_
                            refine lv_iload hx hb dX0_watch_103 (lv_at hl 7 rfl) ?_
                            refine lv_iload hx hb dX0_watch_105 (lv_at hl 9 rfl) ?_
                            refine lv_ishr hx hb dX0_watch_107 ?_
                            refine lv_iconst (v := 1) hx hb dX0_watch_108 (by decide) ?_
                            refine lv_iand hx hb dX0_watch_109 ?_
                            refine lv_iconst (v := 1) hx hb dX0_watch_110 (by decide) ?_
                            refine lv_icmp_ne (tgt := 122) hx hb dX0_watch_111 (by decide) (fun c_21 => ?_) (fun c_21 => ?_)
                            · -- c_21: ((nI set) >>> ((nI k) &&& 31)) &&& 1 ≠ 1
                              refine lv_iconst (v := 0) hx hb dX0_watch_122 (by decide) ?_
                              refine lv_ior hx hb dX0_watch_123 ?_
                              refine lv_istore (lv' := [(8, .int (a ||| 0)), (0, .ref h), (1, .int (nI k1)), (2, .int (nI i_10)), (3, .int (nI n1)), (4, .ref r_11), (5, .int (x_breaches Rr)), (6, .int x), (7, .int (nI set)), (9, .int (nI k))]) hx hb dX0_watch_124 hl (by decide) rfl (fun ls hl => ?_)
                              refine lv_iinc (v := nI (k + 1)) (lv' := [(9, .int (nI (k + 1))), (8, .int (a ||| 0)), (0, .ref h), (1, .int (nI k1)), (2, .int (nI i_10)), (3, .int (nI n1)), (4, .ref r_11), (5, .int (x_breaches Rr)), (6, .int x), (7, .int (nI set))]) hx hb dX0_watch_126 hl (k := 9) rfl (mk_inc _) (by decide) rfl (fun ls hl => ?_)
                              refine lv_goto (tgt := 95) hx hb dX0_watch_129 (by decide) ?_
                              exact L_16ih  (k + 1) (a ||| 0) (by omega) (by first | (rw [itr_s, ← qa]; done) | (rw [itr_s, ← qa]; first | (simp [x_hasS, c_1, ek1, c_2, en1, e2hs_8, nehs_8, ecn_7, c_9, ei_10, c_13, hall, c_15, c_17, c_21, up_s, up_n, nI_1, b2i]; done) | (simp_all [x_hasS]; done) | grind [x_hasS])) (by omega) _ _ M ls (lv_sub hl [2, 3, 4, 5, 6, 7, 8, 9, 1, 0] rfl)
                            · -- c_21: ((nI set) >>> ((nI k) &&& 31)) &&& 1 = 1
                              refine lv_aload hx hb dX0_watch_114 (lv_at hl 4 rfl) ?_
                              refine lv_iload hx hb dX0_watch_116 (lv_at hl 9 rfl) ?_
                              refine g_iald (n := n1) (f := (x_rowOf Rr k1 i_10 n1)) (j := k) X M.1 (21 + (T.length + 0)) 0 (xT_k (T := T) (j := 0) rfl) rfl (vp_in_nI (by omega) (by omega)) (nI_clamp (by omega)) dX0_watch_118 ?_
                              refine lv_goto (tgt := 123) hx hb dX0_watch_119 (by decide) ?_
                              refine lv_ior hx hb dX0_watch_123 ?_
                              refine lv_istore (lv' := [(8, .int (a ||| ((x_rowOf Rr k1 i_10 n1) k))), (0, .ref h), (1, .int (nI k1)), (2, .int (nI i_10)), (3, .int (nI n1)), (4, .ref r_11), (5, .int (x_breaches Rr)), (6, .int x), (7, .int (nI set)), (9, .int (nI k))]) hx hb dX0_watch_124 hl (by decide) rfl (fun ls hl => ?_)
                              refine lv_iinc (v := nI (k + 1)) (lv' := [(9, .int (nI (k + 1))), (8, .int (a ||| ((x_rowOf Rr k1 i_10 n1) k))), (0, .ref h), (1, .int (nI k1)), (2, .int (nI i_10)), (3, .int (nI n1)), (4, .ref r_11), (5, .int (x_breaches Rr)), (6, .int x), (7, .int (nI set))]) hx hb dX0_watch_126 hl (k := 9) rfl (mk_inc _) (by decide) rfl (fun ls hl => ?_)
                              refine lv_goto (tgt := 95) hx hb dX0_watch_129 (by decide) ?_
                              exact L_16ih  (k + 1) (a ||| ((x_rowOf Rr k1 i_10 n1) k)) (by omega) (by first | (rw [itr_s, ← qa]; done) | (rw [itr_s, ← qa]; first | (simp [x_hasS, c_1, ek1, c_2, en1, e2hs_8, nehs_8, ecn_7, c_9, ei_10, c_13, hall, c_15, c_17, c_21, up_s, up_n, nI_1, b2i]; done) | (simp_all [x_hasS]; done) | grind [x_hasS])) (by omega) _ _ M ls (lv_sub hl [2, 3, 4, 5, 6, 7, 8, 9, 1, 0] rfl)
                      exact L_16 ((n1 - 0) + 1) 0 0 (Nat.zero_le _) (by first | rfl | (simp only [itr]; assumption) | (simp [itr, c_1, ek1, c_2, en1, e2hs_8, nehs_8, ecn_7, c_9, ei_10, c_13, hall, c_15, up_s, up_n, nI_1, b2i]; done)) (Nat.lt_succ_self _) _ _ M ls (lv_sub hl [2, 3, 4, 5, 6, 7, 8, 9, 1, 0] rfl)
                exact L_14 ((2 ^ n1 - 0) + 1) 0 (-1000000) (Nat.zero_le _) (by first | rfl | (simp only [itr]; assumption) | (simp [itr, c_1, ek1, c_2, en1, e2hs_8, nehs_8, ecn_7, c_9, ei_10, c_13, hall, up_s, up_n, nI_1, b2i]; done)) (Nat.lt_succ_self _) _ _ M ls (lv_sub hl [3, 4, 5, 6, 7, 2, 1, 0] rfl)
              · -- c_13: nI j < nI n1
                refine lv_aload hx hb dX0_watch_43 (lv_at hl 4 rfl) ?_
                refine lv_iload hx hb dX0_watch_45 (lv_at hl 5 rfl) ?_
                refine g_iald (n := n1) (f := (x_rowOf Rr k1 i_10 n1)) (j := j) X M.1 (21 + (T.length + 0)) 0 (xT_k (T := T) (j := 0) rfl) rfl (vp_in_nI (by omega) (by omega)) (nI_clamp (by omega)) dX0_watch_47 ?_
                refine lv_i2l (v := ((x_rowOf Rr k1 i_10 n1) j).toInt64) hx hb dX0_watch_48 rfl ?_
                refine lv_lconst (v := 0) hx hb dX0_watch_49 (by decide) ?_
                refine lv_ldc2 (v := 4095) hx hb hown (hts _ q1286) dX0_watch_50 ?_
                refine s_cI (v := b2i (inB 0 4095 ((x_rowOf Rr k1 i_10 n1) j))) (As := [.long (((x_rowOf Rr k1 i_10 n1) j).toInt64), .long 0, .long 4095]) (rest := []) S (metX0_isInI l ((x_rowOf Rr k1 i_10 n1) j) 0 4095 (((x_rowOf Rr k1 i_10 n1) j).toInt64) 0 4095 rfl rfl rfl) (va_cwS 3 hts (lw_S q230 q231 q57 q232) rfl rfl rfl (by decide +kernel) ⟨Nat.le_of_ble_eq_true rfl, Nat.le_of_ble_eq_true rfl⟩) rfl hl.1 rfl (Nat.le_of_ble_eq_true rfl) dX0_watch_53 ⟨Nat.le_of_ble_eq_true rfl, Nat.le_of_ble_eq_true rfl⟩ ?_
                refine lz_if_ne (tgt := 62) hx hb dX0_watch_56 (by decide) (fun c_22 => ?_) (fun c_22 => ?_)
                · -- c_22: inB 0 4095 ((x_rowOf Rr k1 i_10 n1) j) = true
                  refine lv_iinc (v := nI (j + 1)) (lv' := [(5, .int (nI (j + 1))), (0, .ref h), (1, .int (nI k1)), (2, .int (nI i_10)), (3, .int (nI n1)), (4, .ref r_11)]) hx hb dX0_watch_62 hl (k := 5) rfl (mk_inc _) (by decide) rfl (fun ls hl => ?_)
                  refine lv_goto (tgt := 37) hx hb dX0_watch_65 (by decide) ?_
                  exact L_12ih  (j + 1) (by omega) (all_succF hno (by unfold x_watBad; rw [c_22]; rfl)) (by omega) _ _ M ls (lv_sub hl [1, 2, 3, 4, 5, 0] rfl)
                · -- c_22: inB 0 4095 ((x_rowOf Rr k1 i_10 n1) j) = false
                  refine lv_ldc (v := (-1000001)) hx hb hown (hts _ q234) dX0_watch_59 ?_
                  have M := xM_drop M
                  exact W.iret (v := (-1000001)) hx hb hr (fun t9 ht9 hW9 => ⟨⟨_, (F, Rr), rfl, (by have hany : x_any (x_watBad (x_rowOf Rr k1 i_10 n1)) n1 = true := x_any_t (k := j) (by unfold x_watBad; rw [c_22]; rfl) _ (by omega); simp [x_watch, x_fnd, hany, c_1, ek1, c_2, en1, e2hs_8, nehs_8, ecn_7, c_9, ei_10, c_13, c_22]), ⟨G, (xext.rf _), by rw [ht9]; exact M.1, M.2.1, M.2.2.2⟩⟩, M.2.2.1.F ht9⟩) M.2.2.1.2.2 dX0_watch_61
          exact L_12 ((n1 - 0) + 1) 0 (by omega) (fun t ht => absurd ht (Nat.not_lt_zero t)) (Nat.lt_succ_self _) _ _ M ls (lv_sub hl [2, 3, 4, 5, 1, 0] rfl)
        · -- the row is in: False
          have c_9 : x_rowOk p2 (nI n1) (nI n_7) = false := Bool.eq_false_iff.mpr c_9
          obtain ⟨g_24, g_23, hg_24, hg_23, -⟩ := xsht_two M hs_8
          refine x_thrown X M (vx_runV (As := [.int p2, .int (nI n1)]) (rest := []) X.1 (metX4_row_f l D dA (va_A [] _) e0 y_4 (Rr 0 k1) z_6 n_7 (Rr (30 + k1)) p2 n1 (x_rowOk_n c_9)) (cwV 2 hts (lw_V q843 q844 q845 q66 q846) rfl rfl rfl (by decide +kernel) ⟨Nat.le_of_ble_eq_true rfl, Nat.le_of_ble_eq_true rfl⟩) ⟨gPre_blind, va_recv (cl := xCl) X.K M.1 (ci := 4) rfl hg_24, fun U hU hW => ⟨rfl, X.Cn M.2.2.1 (x_F0 X M.2.2.1) hU hW, by rw [hU]; exact va_P2 (M.1 _ _ hg_24) (M.1 _ _ hg_23)⟩⟩ rfl rfl hl.1 rfl (lv_room (Nat.le_of_ble_eq_true rfl)) dX0_watch_29 ⟨Nat.le_of_ble_eq_true rfl, Nat.le_of_ble_eq_true rfl⟩) (fun q9 ce9 H locs M hce9 hcv9 hcl9 => ?_)
          refine x_catch X htab [] { startPc := 22, endPc := 61, handlerPc := 179, catchType := 81 } [{ startPc := 62, endPc := 178, handlerPc := 179, catchType := 81 }] rfl (fun z9 hz9 => by cases hz9) (by decide) (by decide) (X.hts _ q225) hce9 hcv9 hcl9 ?_
          refine W.eq (g2 := F0 m 179 ls [.ref q9]) rfl ?_
          refine W.widen (k := 1) (n := 7) (Nat.le_of_ble_eq_true rfl) (Nat.le_of_ble_eq_true rfl) ?_
          refine lv_astore (lv' := [(4, .ref q9), (0, .ref h), (1, .int (nI k1)), (2, .int p2), (3, .int (nI n1))]) hx hb dX0_watch_179 hl (by decide) rfl (fun ls hl => ?_)
          refine lv_aload_n hx hb dX0_watch_181 rfl (lv_at hl 1 rfl) ?_
          refine lv_aload hx hb dX0_watch_182 (lv_at hl 0 rfl) ?_
          refine x_cU0 (As := [.ref q9]) (rest := []) X M (metX0_found l D dA A e0 h G T F Rr q9 2) (cwV 1 hts (lw_V q322 q324 qs2 q57 q325) rfl rfl rfl (by decide +kernel) ⟨Nat.le_of_ble_eq_true rfl, Nat.le_of_ble_eq_true rfl⟩) rfl hl.1 rfl (Nat.le_of_ble_eq_true rfl) dX0_watch_184 ⟨Nat.le_of_ble_eq_true rfl, Nat.le_of_ble_eq_true rfl⟩ (fun r9 F9 R9 hr9 H locs M => ?_)
          obtain ⟨e91, e92, e93⟩ : r9 = (-1000010) - 2 ∧ F9 = va_up F 23 2 ∧ R9 = Rr := ⟨congrArg Prod.fst hr9, congrArg (fun z => z.2.1) hr9, congrArg (fun z => z.2.2) hr9⟩
          rw [e92, e93] at M; rw [e91]
          clear hr9
          have M := xM_drop M
          refine W.widen (k := 1) (n := 64) (Nat.le_of_ble_eq_true rfl) (Nat.le_of_ble_eq_true rfl) ?_
          exact W.iret (v := (-1000010) - 2) hx hb hr (fun t9 ht9 hW9 => ⟨⟨_, (va_up F 23 2, Rr), rfl, (by simp [x_watch, x_fnd, c_1, ek1, c_2, en1, e2hs_8, nehs_8, ecn_7, c_9]), ⟨G, (xext.rf _), by rw [ht9]; exact M.1, M.2.1, M.2.2.2⟩⟩, M.2.2.1.F ht9⟩) M.2.2.1.2.2 dX0_watch_187
    · -- c_2: inB 1 12 p3 = false
      refine lv_ldc (v := (-1000001)) hx hb hown (hts _ q234) dX0_watch_19 ?_
      refine W.widen (k := 1) (n := 64) (Nat.le_of_ble_eq_true rfl) (Nat.le_of_ble_eq_true rfl) ?_
      exact W.iret (v := (-1000001)) hx hb hr (fun t9 ht9 hW9 => ⟨⟨_, (F, Rr), rfl, (by simp [x_watch, x_fnd, c_1, ek1, c_2]), ⟨G, (xext.rf _), by rw [ht9]; exact M.1, M.2.1, M.2.2.2⟩⟩, M.2.2.1.F ht9⟩) M.2.2.1.2.2 dX0_watch_21

