/-! THE SYSTEM, 5: sick, guest, pass -/
def x_sick (F : Nat → Int32) (Rr : Nat → Nat → Int32) (t a b : Int32) : Int32 × mST := if inB 0 7 t = false ∨ (inB 0 999 a && inB a 999 b) = false then ((-1000001), F, Rr) else if F 13 = 20 then ((-1000003), F, Rr) else (nI ((F 13).toNatClampNeg + 1), va_up F 13 (nI ((F 13).toNatClampNeg + 1)), xrow Rr 130 (F 13).toNatClampNeg [t, 0, a, b])
def x_guest (F : Nat → Int32) (Rr : Nat → Nat → Int32) (t u a b : Int32) : Int32 × mST := if inB 0 11 t = false ∨ inB 0 7 u = false ∨ (inB 0 999 a && inB a 999 b) = false then ((-1000001), F, Rr) else if F 15 = 40 then ((-1000003), F, Rr) else (nI ((F 15).toNatClampNeg + 1), va_up F 15 (nI ((F 15).toNatClampNeg + 1)), xrow Rr 150 (F 15).toNatClampNeg [t, u, a, b])
set_option maxHeartbeats 4000000 in
set_option maxRecDepth 100000 in
theorem metX0_sick (l : Launch) (D : va_G) (dA : Nat → ClassId) (A : Nat → Prop) (e0 h : Nat) (G : xG) (T : va_W) (F : Nat → Int32) (Rr : Nat → Nat → Int32) (p1 : Int32) (p2 : Int32) (p3 : Int32) : Met l yX0_sick (ws_ yX0_sick cX0_sick 4 (some .int)) ({ frames := 7, cells := 2, slots := 204, locals := 191 } : Room) (va_Pc [.ref h, .int p1, .int p2, .int p3] (xPre D dA A e0 h G T F Rr)) (va_Qi (fun r u => (r, u) = x_sick F Rr p1 p2 p3) (xB D dA A e0 h G T) A) 2 204 A := by
  refine Met.ofW (cc := cX0_sick) (maxL := 4) (ret := (some .int)) (by decide) rfl ?_
  intro p e s m args below meth c s₁ B hml hv
  obtain ⟨rfl, hC, hP, hD, hI⟩ := hv
  have hx := B.exec
  have hb := B.bytes
  have hr := B.returns
  have hts := atoms_spec (ws := (ws_ yX0_sick cX0_sick 4 (some .int))) B.pre
  have hts : ∀ w ∈ lw_all, w.before _ s = true := fun w h => hts w (List.mem_cons_of_mem _ h)
  have hown : s.vm.findClass RX0 = some m.cls := findClass_of_methodNamed B.named
  have hlocks := B.notSynchronized
  have S : CallFix p m c cX0_sick 4 s ([.ref h, .int p1, .int p2, .int p3] : List Value).toArray lw_all RX0 := ⟨hx, hb, hml, hown, hts⟩
  have X : xX RX0 p s m ([.ref h, .int p1, .int p2, .int p3] : List Value).toArray c cX0_sick 4 D dA A e0 := ⟨S, hC⟩
  have M : xM D dA A e0 h G T s F Rr s.heap [] := ⟨hP, hD, va_S.rf, hI⟩
  have hl := lv_entry ([.ref h, .int p1, .int p2, .int p3]) (n := 4) (Nat.le_of_ble_eq_true rfl)
  rw [lg_entry_eq]
  generalize (lg_sl ([.ref h, .int p1, .int p2, .int p3]) ++ List.replicate (4 - (lg_sl ([.ref h, .int p1, .int p2, .int p3])).length) Slot.unset).toArray = ls at hl ⊢
  have hl : lv_has ls 4 [(0, .ref h), (1, .int p1), (2, .int p2), (3, .int p3)] := hl
  have h13 : cnB (F 13) 20 := hI.2.2.2.1.1
  obtain ⟨n13, hn13, en13⟩ := cnB_ex h13 (n := 20) rfl
  have em13 : (F 13).toNatClampNeg = n13 := by rw [en13]; exact nI_clamp (by omega)
  have ec13 : (nI n13).toNatClampNeg = n13 := nI_clamp (by omega)
  refine lv_iload_n hx hb dX0_sick_0 rfl (lv_at hl 1 rfl) ?_
  refine s_cI (v := b2i (inB 0 7 p1)) (As := [.int p1]) (rest := []) S (metX0_isTown l p1) (va_cwS 1 hts (lw_S q1034 q1035 q57 q1036) rfl rfl rfl (by decide +kernel) ⟨Nat.le_of_ble_eq_true rfl, Nat.le_of_ble_eq_true rfl⟩) rfl hl.1 rfl (Nat.le_of_ble_eq_true rfl) dX0_sick_1 ⟨Nat.le_of_ble_eq_true rfl, Nat.le_of_ble_eq_true rfl⟩ ?_
  refine lz_if_eq (tgt := 15) hx hb dX0_sick_4 (by decide) (fun c_1 => ?_) (fun c_1 => ?_)
  · -- c_1: inB 0 7 p1 = false
    refine lv_ldc (v := (-1000001)) hx hb hown (hts _ q234) dX0_sick_15 ?_
    refine W.widen (k := 2) (n := 204) (Nat.le_of_ble_eq_true rfl) (Nat.le_of_ble_eq_true rfl) ?_
    exact W.iret (v := (-1000001)) hx hb hr (fun t9 ht9 hW9 => ⟨⟨_, (F, Rr), rfl, (by first | (simp [x_sick, em13, ec13, c_1, up_s, up_n, nI_1, b2i]; done) | (simp_all [x_sick]; done) | grind [x_sick]), ⟨G, (xext.rf _), by rw [ht9]; exact M.1, M.2.1, M.2.2.2⟩⟩, M.2.2.1.F ht9⟩) M.2.2.1.2.2 dX0_sick_17
  · -- c_1: inB 0 7 p1 = true
    refine lv_iload_n hx hb dX0_sick_7 rfl (lv_at hl 2 rfl) ?_
    refine lv_iload_n hx hb dX0_sick_8 rfl (lv_at hl 3 rfl) ?_
    refine s_cI (v := b2i (inB 0 999 p2 && inB p2 999 p3)) (As := [.int p2, .int p3]) (rest := []) S (metX0_areDays l p2 p3) (va_cwS 2 hts (lw_S q1027 q1028 q57 q1029) rfl rfl rfl (by decide +kernel) ⟨Nat.le_of_ble_eq_true rfl, Nat.le_of_ble_eq_true rfl⟩) rfl hl.1 rfl (Nat.le_of_ble_eq_true rfl) dX0_sick_9 ⟨Nat.le_of_ble_eq_true rfl, Nat.le_of_ble_eq_true rfl⟩ ?_
    refine lz_if_ne (tgt := 18) hx hb dX0_sick_12 (by decide) (fun c_2 => ?_) (fun c_2 => ?_)
    · -- c_2: inB 0 999 p2 && inB p2 999 p3 = true
      refine lv_aload_n hx hb dX0_sick_18 rfl (lv_at hl 0 rfl) ?_
      refine xg_13 X M dX0_sick_19 ?_
      refine xl_size_13 X M (v := F 13) rfl hl.1 ⟨Nat.le_of_ble_eq_true rfl, Nat.le_of_ble_eq_true rfl⟩ ⟨Nat.le_of_ble_eq_true rfl, Nat.le_of_ble_eq_true rfl⟩ (Nat.le_of_ble_eq_true rfl) dX0_sick_22 ?_
      refine lv_asi (y := nI n13) en13 ?_
      refine lv_bipush (v := 20) hx hb dX0_sick_27 (by decide) ?_
      refine lv_icmp_ne (tgt := 35) hx hb dX0_sick_29 (by decide) (fun c_3 => ?_) (fun c_3 => ?_)
      · -- c_3: nI n13 ≠ 20
        have hn13N : n13 < 20 := nI_lt_ne (N := 20) c_3 (by omega)
        refine lv_aload_n hx hb dX0_sick_35 rfl (lv_at hl 0 rfl) ?_
        refine xg_13 X M dX0_sick_36 ?_
        refine va_new (ci := 7) (fs := [.int 0, .int 0, .int 0, .int 0]) X.hx X.hb X.hts in_X9 tyX9 tyX9_ok X.ow (X.hts _ q1046) (X.hts _ q1047) (X.hts _ q87) X.K M.1 M.2.1 M.2.2.1 X.hA rfl (fun j hj => by rcases (show j = 0 ∨ j = 1 ∨ j = 2 ∨ j = 3 by omega) with rfl | rfl | rfl | rfl <;> rfl) (Nat.le_of_ble_eq_true rfl) (Nat.le_of_ble_eq_true rfl) dX0_sick_39 (fun q_4 H hP hD hS => ?_)
        have M := xM_push M hP hD hS
        have M : xM D dA A e0 h G (T ++ [(q_4, .inr (7, [.int 0, .int 0, .int 0, .int 0]))]) s F Rr H _ := M
        refine W.widen (k := 1) (n := 4) (Nat.le_of_ble_eq_true rfl) (Nat.le_of_ble_eq_true rfl) ?_
        refine lv_dup hx hb dX0_sick_42 rfl ?_
        refine lv_iload_n hx hb dX0_sick_43 rfl (lv_at hl 1 rfl) ?_
        refine lv_iconst (v := 0) hx hb dX0_sick_44 (by decide) ?_
        refine lv_iload_n hx hb dX0_sick_45 rfl (lv_at hl 2 rfl) ?_
        refine lv_iload_n hx hb dX0_sick_46 rfl (lv_at hl 3 rfl) ?_
        refine x_ini1 (j := 0) (As := [.int p1, .int 0, .int p2, .int p3]) (rest := [.ref q_4, .ref (g_ad G 13)]) X M rfl (fun A9 => metX9_init l D dA A9 e0 q_4 p1 0 p2 p3) (cwI 4 X.hts (lw_meth q1050) rfl rfl rfl (X.hts _ q87) (X.hts _ q1048) (X.hts _ q1049) rfl (by decide +kernel) ⟨Nat.le_of_ble_eq_true rfl, Nat.le_of_ble_eq_true rfl⟩) rfl hl.1 rfl (Nat.le_of_ble_eq_true rfl) dX0_sick_47 ⟨Nat.le_of_ble_eq_true rfl, Nat.le_of_ble_eq_true rfl⟩ (fun H locs M => ?_)
        have M : xM D dA A e0 h G (T ++ [(q_4, .inr (7, [.int p1, .int 0, .int p2, .int p3]))]) s F Rr H locs := M
        refine W.widen (k := 1) (n := 4) (Nat.le_of_ble_eq_true rfl) (Nat.le_of_ble_eq_true rfl) ?_
        refine xl_addT_13 (n := n13) X M en13 (by omega) hl.1 ⟨Nat.le_of_ble_eq_true rfl, Nat.le_of_ble_eq_true rfl⟩ ⟨Nat.le_of_ble_eq_true rfl, Nat.le_of_ble_eq_true rfl⟩ (Nat.le_of_ble_eq_true rfl) dX0_sick_50 (fun G_5 H locs hxG_5 M => ?_)
        have M : xM D dA A e0 h G_5 T s (va_up F 13 (nI (n13 + 1))) (xrow Rr 130 n13 [p1, 0, p2, p3]) H locs := M
        refine W.widen (k := 2) (n := 204) (Nat.le_of_ble_eq_true rfl) (Nat.le_of_ble_eq_true rfl) ?_
        refine lv_pop hx hb dX0_sick_55 rfl ?_
        refine lv_aload_n hx hb dX0_sick_56 rfl (lv_at hl 0 rfl) ?_
        refine xg_13 X M dX0_sick_57 ?_
        refine xl_size_13 X M (v := nI (n13 + 1)) rfl hl.1 ⟨Nat.le_of_ble_eq_true rfl, Nat.le_of_ble_eq_true rfl⟩ ⟨Nat.le_of_ble_eq_true rfl, Nat.le_of_ble_eq_true rfl⟩ (Nat.le_of_ble_eq_true rfl) dX0_sick_60 ?_
        exact W.iret (v := nI (n13 + 1)) hx hb hr (fun t9 ht9 hW9 => ⟨⟨_, (va_up F 13 (nI (n13 + 1)), xrow Rr 130 n13 [p1, 0, p2, p3]), rfl, (by first | (simp [x_sick, em13, ec13, c_1, c_2, c_3, up_s, up_n, nI_1, b2i]; done) | (simp_all [x_sick]; done) | grind [x_sick]), ⟨G_5, ((xext.rf _).tr hxG_5), by rw [ht9]; exact M.1, M.2.1, M.2.2.2⟩⟩, M.2.2.1.F ht9⟩) M.2.2.1.2.2 dX0_sick_65
      · -- c_3: nI n13 = 20
        refine lv_ldc (v := (-1000003)) hx hb hown (hts _ q410) dX0_sick_32 ?_
        refine W.widen (k := 2) (n := 204) (Nat.le_of_ble_eq_true rfl) (Nat.le_of_ble_eq_true rfl) ?_
        exact W.iret (v := (-1000003)) hx hb hr (fun t9 ht9 hW9 => ⟨⟨_, (F, Rr), rfl, (by first | (simp [x_sick, em13, ec13, c_1, c_2, c_3, up_s, up_n, nI_1, b2i]; done) | (simp_all [x_sick]; done) | grind [x_sick]), ⟨G, (xext.rf _), by rw [ht9]; exact M.1, M.2.1, M.2.2.2⟩⟩, M.2.2.1.F ht9⟩) M.2.2.1.2.2 dX0_sick_34
    · -- c_2: inB 0 999 p2 && inB p2 999 p3 = false
      refine lv_ldc (v := (-1000001)) hx hb hown (hts _ q234) dX0_sick_15 ?_
      refine W.widen (k := 2) (n := 204) (Nat.le_of_ble_eq_true rfl) (Nat.le_of_ble_eq_true rfl) ?_
      exact W.iret (v := (-1000001)) hx hb hr (fun t9 ht9 hW9 => ⟨⟨_, (F, Rr), rfl, (by first | (simp [x_sick, em13, ec13, c_1, c_2, up_s, up_n, nI_1, b2i]; done) | (simp_all [x_sick]; done) | grind [x_sick]), ⟨G, (xext.rf _), by rw [ht9]; exact M.1, M.2.1, M.2.2.2⟩⟩, M.2.2.1.F ht9⟩) M.2.2.1.2.2 dX0_sick_17

set_option maxHeartbeats 4000000 in
set_option maxRecDepth 100000 in
theorem metX0_guest (l : Launch) (D : va_G) (dA : Nat → ClassId) (A : Nat → Prop) (e0 h : Nat) (G : xG) (T : va_W) (F : Nat → Int32) (Rr : Nat → Nat → Int32) (p1 : Int32) (p2 : Int32) (p3 : Int32) (p4 : Int32) : Met l yX0_guest (ws_ yX0_guest cX0_guest 5 (some .int)) ({ frames := 7, cells := 2, slots := 204, locals := 191 } : Room) (va_Pc [.ref h, .int p1, .int p2, .int p3, .int p4] (xPre D dA A e0 h G T F Rr)) (va_Qi (fun r u => (r, u) = x_guest F Rr p1 p2 p3 p4) (xB D dA A e0 h G T) A) 2 204 A := by
  refine Met.ofW (cc := cX0_guest) (maxL := 5) (ret := (some .int)) (by decide) rfl ?_
  intro p e s m args below meth c s₁ B hml hv
  obtain ⟨rfl, hC, hP, hD, hI⟩ := hv
  have hx := B.exec
  have hb := B.bytes
  have hr := B.returns
  have hts := atoms_spec (ws := (ws_ yX0_guest cX0_guest 5 (some .int))) B.pre
  have hts : ∀ w ∈ lw_all, w.before _ s = true := fun w h => hts w (List.mem_cons_of_mem _ h)
  have hown : s.vm.findClass RX0 = some m.cls := findClass_of_methodNamed B.named
  have hlocks := B.notSynchronized
  have S : CallFix p m c cX0_guest 5 s ([.ref h, .int p1, .int p2, .int p3, .int p4] : List Value).toArray lw_all RX0 := ⟨hx, hb, hml, hown, hts⟩
  have X : xX RX0 p s m ([.ref h, .int p1, .int p2, .int p3, .int p4] : List Value).toArray c cX0_guest 5 D dA A e0 := ⟨S, hC⟩
  have M : xM D dA A e0 h G T s F Rr s.heap [] := ⟨hP, hD, va_S.rf, hI⟩
  have hl := lv_entry ([.ref h, .int p1, .int p2, .int p3, .int p4]) (n := 5) (Nat.le_of_ble_eq_true rfl)
  rw [lg_entry_eq]
  generalize (lg_sl ([.ref h, .int p1, .int p2, .int p3, .int p4]) ++ List.replicate (5 - (lg_sl ([.ref h, .int p1, .int p2, .int p3, .int p4])).length) Slot.unset).toArray = ls at hl ⊢
  have hl : lv_has ls 5 [(0, .ref h), (1, .int p1), (2, .int p2), (3, .int p3), (4, .int p4)] := hl
  have h15 : cnB (F 15) 40 := hI.2.2.2.2.2.1.1
  obtain ⟨n15, hn15, en15⟩ := cnB_ex h15 (n := 40) rfl
  have em15 : (F 15).toNatClampNeg = n15 := by rw [en15]; exact nI_clamp (by omega)
  have ec15 : (nI n15).toNatClampNeg = n15 := nI_clamp (by omega)
  refine lv_iload_n hx hb dX0_guest_0 rfl (lv_at hl 1 rfl) ?_
  refine s_cI (v := b2i (inB 0 11 p1)) (As := [.int p1]) (rest := []) S (metX0_isPerson l p1) (va_cwS 1 hts (lw_S q1075 q1076 q57 q1077) rfl rfl rfl (by decide +kernel) ⟨Nat.le_of_ble_eq_true rfl, Nat.le_of_ble_eq_true rfl⟩) rfl hl.1 rfl (Nat.le_of_ble_eq_true rfl) dX0_guest_1 ⟨Nat.le_of_ble_eq_true rfl, Nat.le_of_ble_eq_true rfl⟩ ?_
  refine lz_if_eq (tgt := 23) hx hb dX0_guest_4 (by decide) (fun c_1 => ?_) (fun c_1 => ?_)
  · -- c_1: inB 0 11 p1 = false
    refine lv_ldc (v := (-1000001)) hx hb hown (hts _ q234) dX0_guest_23 ?_
    refine W.widen (k := 2) (n := 204) (Nat.le_of_ble_eq_true rfl) (Nat.le_of_ble_eq_true rfl) ?_
    exact W.iret (v := (-1000001)) hx hb hr (fun t9 ht9 hW9 => ⟨⟨_, (F, Rr), rfl, (by first | (simp [x_guest, em15, ec15, c_1, up_s, up_n, nI_1, b2i]; done) | (simp_all [x_guest]; done) | grind [x_guest]), ⟨G, (xext.rf _), by rw [ht9]; exact M.1, M.2.1, M.2.2.2⟩⟩, M.2.2.1.F ht9⟩) M.2.2.1.2.2 dX0_guest_25
  · -- c_1: inB 0 11 p1 = true
    refine lv_iload_n hx hb dX0_guest_7 rfl (lv_at hl 2 rfl) ?_
    refine s_cI (v := b2i (inB 0 7 p2)) (As := [.int p2]) (rest := []) S (metX0_isHouse l p2) (va_cwS 1 hts (lw_S q1241 q1242 q57 q1243) rfl rfl rfl (by decide +kernel) ⟨Nat.le_of_ble_eq_true rfl, Nat.le_of_ble_eq_true rfl⟩) rfl hl.1 rfl (Nat.le_of_ble_eq_true rfl) dX0_guest_8 ⟨Nat.le_of_ble_eq_true rfl, Nat.le_of_ble_eq_true rfl⟩ ?_
    refine lz_if_eq (tgt := 23) hx hb dX0_guest_11 (by decide) (fun c_2 => ?_) (fun c_2 => ?_)
    · -- c_2: inB 0 7 p2 = false
      refine lv_ldc (v := (-1000001)) hx hb hown (hts _ q234) dX0_guest_23 ?_
      refine W.widen (k := 2) (n := 204) (Nat.le_of_ble_eq_true rfl) (Nat.le_of_ble_eq_true rfl) ?_
      exact W.iret (v := (-1000001)) hx hb hr (fun t9 ht9 hW9 => ⟨⟨_, (F, Rr), rfl, (by first | (simp [x_guest, em15, ec15, c_1, c_2, up_s, up_n, nI_1, b2i]; done) | (simp_all [x_guest]; done) | grind [x_guest]), ⟨G, (xext.rf _), by rw [ht9]; exact M.1, M.2.1, M.2.2.2⟩⟩, M.2.2.1.F ht9⟩) M.2.2.1.2.2 dX0_guest_25
    · -- c_2: inB 0 7 p2 = true
      refine lv_iload_n hx hb dX0_guest_14 rfl (lv_at hl 3 rfl) ?_
      refine lv_iload hx hb dX0_guest_15 (lv_at hl 4 rfl) ?_
      refine s_cI (v := b2i (inB 0 999 p3 && inB p3 999 p4)) (As := [.int p3, .int p4]) (rest := []) S (metX0_areDays l p3 p4) (va_cwS 2 hts (lw_S q1027 q1028 q57 q1029) rfl rfl rfl (by decide +kernel) ⟨Nat.le_of_ble_eq_true rfl, Nat.le_of_ble_eq_true rfl⟩) rfl hl.1 rfl (Nat.le_of_ble_eq_true rfl) dX0_guest_17 ⟨Nat.le_of_ble_eq_true rfl, Nat.le_of_ble_eq_true rfl⟩ ?_
      refine lz_if_ne (tgt := 26) hx hb dX0_guest_20 (by decide) (fun c_3 => ?_) (fun c_3 => ?_)
      · -- c_3: inB 0 999 p3 && inB p3 999 p4 = true
        refine lv_aload_n hx hb dX0_guest_26 rfl (lv_at hl 0 rfl) ?_
        refine xg_15 X M dX0_guest_27 ?_
        refine xl_size_15 X M (v := F 15) rfl hl.1 ⟨Nat.le_of_ble_eq_true rfl, Nat.le_of_ble_eq_true rfl⟩ ⟨Nat.le_of_ble_eq_true rfl, Nat.le_of_ble_eq_true rfl⟩ (Nat.le_of_ble_eq_true rfl) dX0_guest_30 ?_
        refine lv_asi (y := nI n15) en15 ?_
        refine lv_bipush (v := 40) hx hb dX0_guest_35 (by decide) ?_
        refine lv_icmp_ne (tgt := 43) hx hb dX0_guest_37 (by decide) (fun c_4 => ?_) (fun c_4 => ?_)
        · -- c_4: nI n15 ≠ 40
          have hn15N : n15 < 40 := nI_lt_ne (N := 40) c_4 (by omega)
          refine lv_aload_n hx hb dX0_guest_43 rfl (lv_at hl 0 rfl) ?_
          refine xg_15 X M dX0_guest_44 ?_
          refine va_new (ci := 7) (fs := [.int 0, .int 0, .int 0, .int 0]) X.hx X.hb X.hts in_X9 tyX9 tyX9_ok X.ow (X.hts _ q1046) (X.hts _ q1047) (X.hts _ q87) X.K M.1 M.2.1 M.2.2.1 X.hA rfl (fun j hj => by rcases (show j = 0 ∨ j = 1 ∨ j = 2 ∨ j = 3 by omega) with rfl | rfl | rfl | rfl <;> rfl) (Nat.le_of_ble_eq_true rfl) (Nat.le_of_ble_eq_true rfl) dX0_guest_47 (fun q_5 H hP hD hS => ?_)
          have M := xM_push M hP hD hS
          have M : xM D dA A e0 h G (T ++ [(q_5, .inr (7, [.int 0, .int 0, .int 0, .int 0]))]) s F Rr H _ := M
          refine W.widen (k := 1) (n := 4) (Nat.le_of_ble_eq_true rfl) (Nat.le_of_ble_eq_true rfl) ?_
          refine lv_dup hx hb dX0_guest_50 rfl ?_
          refine lv_iload_n hx hb dX0_guest_51 rfl (lv_at hl 1 rfl) ?_
          refine lv_iload_n hx hb dX0_guest_52 rfl (lv_at hl 2 rfl) ?_
          refine lv_iload_n hx hb dX0_guest_53 rfl (lv_at hl 3 rfl) ?_
          refine lv_iload hx hb dX0_guest_54 (lv_at hl 4 rfl) ?_
          refine x_ini1 (j := 0) (As := [.int p1, .int p2, .int p3, .int p4]) (rest := [.ref q_5, .ref (g_ad G 15)]) X M rfl (fun A9 => metX9_init l D dA A9 e0 q_5 p1 p2 p3 p4) (cwI 4 X.hts (lw_meth q1050) rfl rfl rfl (X.hts _ q87) (X.hts _ q1048) (X.hts _ q1049) rfl (by decide +kernel) ⟨Nat.le_of_ble_eq_true rfl, Nat.le_of_ble_eq_true rfl⟩) rfl hl.1 rfl (Nat.le_of_ble_eq_true rfl) dX0_guest_56 ⟨Nat.le_of_ble_eq_true rfl, Nat.le_of_ble_eq_true rfl⟩ (fun H locs M => ?_)
          have M : xM D dA A e0 h G (T ++ [(q_5, .inr (7, [.int p1, .int p2, .int p3, .int p4]))]) s F Rr H locs := M
          refine W.widen (k := 1) (n := 4) (Nat.le_of_ble_eq_true rfl) (Nat.le_of_ble_eq_true rfl) ?_
          refine xl_addT_15 (n := n15) X M en15 (by omega) hl.1 ⟨Nat.le_of_ble_eq_true rfl, Nat.le_of_ble_eq_true rfl⟩ ⟨Nat.le_of_ble_eq_true rfl, Nat.le_of_ble_eq_true rfl⟩ (Nat.le_of_ble_eq_true rfl) dX0_guest_59 (fun G_6 H locs hxG_6 M => ?_)
          have M : xM D dA A e0 h G_6 T s (va_up F 15 (nI (n15 + 1))) (xrow Rr 150 n15 [p1, p2, p3, p4]) H locs := M
          refine W.widen (k := 2) (n := 204) (Nat.le_of_ble_eq_true rfl) (Nat.le_of_ble_eq_true rfl) ?_
          refine lv_pop hx hb dX0_guest_64 rfl ?_
          refine lv_aload_n hx hb dX0_guest_65 rfl (lv_at hl 0 rfl) ?_
          refine xg_15 X M dX0_guest_66 ?_
          refine xl_size_15 X M (v := nI (n15 + 1)) rfl hl.1 ⟨Nat.le_of_ble_eq_true rfl, Nat.le_of_ble_eq_true rfl⟩ ⟨Nat.le_of_ble_eq_true rfl, Nat.le_of_ble_eq_true rfl⟩ (Nat.le_of_ble_eq_true rfl) dX0_guest_69 ?_
          exact W.iret (v := nI (n15 + 1)) hx hb hr (fun t9 ht9 hW9 => ⟨⟨_, (va_up F 15 (nI (n15 + 1)), xrow Rr 150 n15 [p1, p2, p3, p4]), rfl, (by first | (simp [x_guest, em15, ec15, c_1, c_2, c_3, c_4, up_s, up_n, nI_1, b2i]; done) | (simp_all [x_guest]; done) | grind [x_guest]), ⟨G_6, ((xext.rf _).tr hxG_6), by rw [ht9]; exact M.1, M.2.1, M.2.2.2⟩⟩, M.2.2.1.F ht9⟩) M.2.2.1.2.2 dX0_guest_74
        · -- c_4: nI n15 = 40
          refine lv_ldc (v := (-1000003)) hx hb hown (hts _ q410) dX0_guest_40 ?_
          refine W.widen (k := 2) (n := 204) (Nat.le_of_ble_eq_true rfl) (Nat.le_of_ble_eq_true rfl) ?_
          exact W.iret (v := (-1000003)) hx hb hr (fun t9 ht9 hW9 => ⟨⟨_, (F, Rr), rfl, (by first | (simp [x_guest, em15, ec15, c_1, c_2, c_3, c_4, up_s, up_n, nI_1, b2i]; done) | (simp_all [x_guest]; done) | grind [x_guest]), ⟨G, (xext.rf _), by rw [ht9]; exact M.1, M.2.1, M.2.2.2⟩⟩, M.2.2.1.F ht9⟩) M.2.2.1.2.2 dX0_guest_42
      · -- c_3: inB 0 999 p3 && inB p3 999 p4 = false
        refine lv_ldc (v := (-1000001)) hx hb hown (hts _ q234) dX0_guest_23 ?_
        refine W.widen (k := 2) (n := 204) (Nat.le_of_ble_eq_true rfl) (Nat.le_of_ble_eq_true rfl) ?_
        exact W.iret (v := (-1000001)) hx hb hr (fun t9 ht9 hW9 => ⟨⟨_, (F, Rr), rfl, (by first | (simp [x_guest, em15, ec15, c_1, c_2, c_3, up_s, up_n, nI_1, b2i]; done) | (simp_all [x_guest]; done) | grind [x_guest]), ⟨G, (xext.rf _), by rw [ht9]; exact M.1, M.2.1, M.2.2.2⟩⟩, M.2.2.1.F ht9⟩) M.2.2.1.2.2 dX0_guest_25

def x_before (d m d2 m2 : Int32) : Bool := if ¬ d = d2 then decide (d < d2) else decide (m < m2)
def x_pos (P : Nat → Bool) : Nat → Nat
  | 0 => 0
  | n + 1 => if P n = true then x_pos P n else n + 1
theorem x_pos_le (P : Nat → Bool) : ∀ n, x_pos P n ≤ n
  | 0 => Nat.le_refl 0
  | n + 1 => by
    unfold x_pos
    split
    · exact Nat.le_succ_of_le (x_pos_le P n)
    · exact Nat.le_refl _
def x_pass (F : Nat → Int32) (Rr : Nat → Nat → Int32) (c i g d mi pd : Int32) : Int32 × mST := if inB 0 (F 10 - 1) c = false ∨ inB 0 1 i = false ∨ inB 0 8 g = false ∨ inB 0 999 d = false ∨ inB 0 1439 mi = false ∨ inB 0 100000 pd = false then ((-1000001), F, Rr) else if F 11 = 60 then ((-1000003), F, Rr) else (nI ((F 11).toNatClampNeg + 1), va_up F 11 (nI ((F 11).toNatClampNeg + 1)), xinsr Rr 110 (x_pos (fun k => x_before d mi (Rr 113 k) (Rr 114 k)) (F 11).toNatClampNeg) [c, if i = 1 then 1 else 0, g, d, mi, pd])
set_option maxHeartbeats 4000000 in
set_option maxRecDepth 100000 in
theorem metX8_isBefore (l : Launch) (D : va_G) (dA : Nat → ClassId) (A : Nat → Prop) (e0 : Nat) (a : Nat) (b : Nat) (v0 : Int32) (v1 : Int32) (v2 : Int32) (v3 : Int32) (v4 : Int32) (v5 : Int32) (w0 : Int32) (w1 : Int32) (w2 : Int32) (w3 : Int32) (w4 : Int32) (w5 : Int32) : Met l yX8_isBefore (ws_ yX8_isBefore cX8_isBefore 2 (some .boolean)) ({ frames := 0, cells := 0, slots := 0, locals := 0 } : Room) (va_Pc [.ref a, .ref b] (fun U => xC D dA A e0 U ∧ va_P D xCl [(a, .inr (6, [.int v0, .int v1, .int v2, .int v3, .int v4, .int v5])), (b, .inr (6, [.int w0, .int w1, .int w2, .int w3, .int w4, .int w5]))] U.heap)) (vp_Si (fun r => r = b2i (x_before v3 v4 w3 w4))) 0 0 (fun _ => False) := by
  refine Met.ofW (cc := cX8_isBefore) (maxL := 2) (ret := (some .boolean)) (by decide) rfl ?_
  intro p e s m args below meth c s₁ B hml hv
  obtain ⟨rfl, hC, hP⟩ := hv
  have hx := B.exec
  have hb := B.bytes
  have hr := B.returns
  have hts := atoms_spec (ws := (ws_ yX8_isBefore cX8_isBefore 2 (some .boolean))) B.pre
  have hts : ∀ w ∈ lw_all, w.before _ s = true := fun w h => hts w (List.mem_cons_of_mem _ h)
  have hown : s.vm.findClass RX8 = some m.cls := findClass_of_methodNamed B.named
  have hlocks := B.notSynchronized
  have S : CallFix p m c cX8_isBefore 2 s ([.ref a, .ref b] : List Value).toArray lw_all RX8 := ⟨hx, hb, hml, hown, hts⟩
  have X : xX RX8 p s m ([.ref a, .ref b] : List Value).toArray c cX8_isBefore 2 D dA A e0 := ⟨S, hC⟩
  have M : gQ D s [(a, .inr (6, [.int v0, .int v1, .int v2, .int v3, .int v4, .int v5])), (b, .inr (6, [.int w0, .int w1, .int w2, .int w3, .int w4, .int w5]))] s.heap [] := ⟨hP, trivial⟩
  have hl := lv_entry ([.ref a, .ref b]) (n := 2) (Nat.le_of_ble_eq_true rfl)
  rw [lg_entry_eq]
  generalize (lg_sl ([.ref a, .ref b]) ++ List.replicate (2 - (lg_sl ([.ref a, .ref b])).length) Slot.unset).toArray = ls at hl ⊢
  have hl : lv_has ls 2 [(0, .ref a), (1, .ref b)] := hl
  refine lv_aload_n hx hb dX8_isBefore_0 rfl (lv_at hl 0 rfl) ?_
  refine va_get (cl := xCl) (ci := 6) (fs := [.int v0, .int v1, .int v2, .int v3, .int v4, .int v5]) X.hx X.hb X.hts in_X8 X.ow X.K M.1 0 rfl rfl 3 (by decide) (X.hts _ q885) (fun _ h9 => h9) rfl dX8_isBefore_1 ?_
  refine lv_aload_n hx hb dX8_isBefore_4 rfl (lv_at hl 1 rfl) ?_
  refine va_get (cl := xCl) (ci := 6) (fs := [.int w0, .int w1, .int w2, .int w3, .int w4, .int w5]) X.hx X.hb X.hts in_X8 X.ow X.K M.1 1 rfl rfl 3 (by decide) (X.hts _ q885) (fun _ h9 => h9) rfl dX8_isBefore_5 ?_
  refine lv_icmp_eq (tgt := 30) hx hb dX8_isBefore_8 (by decide) (fun c_1 => ?_) (fun c_1 => ?_)
  · -- c_1: v3 = w3
    refine lv_aload_n hx hb dX8_isBefore_30 rfl (lv_at hl 0 rfl) ?_
    refine va_get (cl := xCl) (ci := 6) (fs := [.int v0, .int v1, .int v2, .int v3, .int v4, .int v5]) X.hx X.hb X.hts in_X8 X.ow X.K M.1 0 rfl rfl 4 (by decide) (X.hts _ q887) (fun _ h9 => h9) rfl dX8_isBefore_31 ?_
    refine lv_aload_n hx hb dX8_isBefore_34 rfl (lv_at hl 1 rfl) ?_
    refine va_get (cl := xCl) (ci := 6) (fs := [.int w0, .int w1, .int w2, .int w3, .int w4, .int w5]) X.hx X.hb X.hts in_X8 X.ow X.K M.1 1 rfl rfl 4 (by decide) (X.hts _ q887) (fun _ h9 => h9) rfl dX8_isBefore_35 ?_
    refine lb_icmp_ge (tgt := 45) hx hb dX8_isBefore_38 (by decide) (fun c_2 c_2' => ?_) (fun c_2 c_2' => ?_)
    · -- c_2: v4 ≥ w4
      refine lv_iconst (v := 0) hx hb dX8_isBefore_45 (by decide) ?_
      exact W.zret (v := 0) hx hb hr rfl (fun t9 ht9 hW9 => ⟨_, rfl, (by simp [x_before, b2i, c_1, c_2, c_2']), ht9⟩) (fun _ h9 => by cases h9) dX8_isBefore_46
    · -- c_2: v4 < w4
      refine lv_iconst (v := 1) hx hb dX8_isBefore_41 (by decide) ?_
      refine lv_goto (tgt := 46) hx hb dX8_isBefore_42 (by decide) ?_
      exact W.zret (v := 1) hx hb hr rfl (fun t9 ht9 hW9 => ⟨_, rfl, (by simp [x_before, b2i, c_1, c_2, c_2']), ht9⟩) (fun _ h9 => by cases h9) dX8_isBefore_46
  · -- c_1: v3 ≠ w3
    refine lv_aload_n hx hb dX8_isBefore_11 rfl (lv_at hl 0 rfl) ?_
    refine va_get (cl := xCl) (ci := 6) (fs := [.int v0, .int v1, .int v2, .int v3, .int v4, .int v5]) X.hx X.hb X.hts in_X8 X.ow X.K M.1 0 rfl rfl 3 (by decide) (X.hts _ q885) (fun _ h9 => h9) rfl dX8_isBefore_12 ?_
    refine lv_aload_n hx hb dX8_isBefore_15 rfl (lv_at hl 1 rfl) ?_
    refine va_get (cl := xCl) (ci := 6) (fs := [.int w0, .int w1, .int w2, .int w3, .int w4, .int w5]) X.hx X.hb X.hts in_X8 X.ow X.K M.1 1 rfl rfl 3 (by decide) (X.hts _ q885) (fun _ h9 => h9) rfl dX8_isBefore_16 ?_
    refine lb_icmp_ge (tgt := 26) hx hb dX8_isBefore_19 (by decide) (fun c_3 c_3' => ?_) (fun c_3 c_3' => ?_)
    · -- c_3: v3 ≥ w3
      refine lv_iconst (v := 0) hx hb dX8_isBefore_26 (by decide) ?_
      refine lv_goto (tgt := 46) hx hb dX8_isBefore_27 (by decide) ?_
      exact W.zret (v := 0) hx hb hr rfl (fun t9 ht9 hW9 => ⟨_, rfl, (by simp [x_before, b2i, c_1, c_3, c_3']), ht9⟩) (fun _ h9 => by cases h9) dX8_isBefore_46
    · -- c_3: v3 < w3
      refine lv_iconst (v := 1) hx hb dX8_isBefore_22 (by decide) ?_
      refine lv_goto (tgt := 46) hx hb dX8_isBefore_23 (by decide) ?_
      exact W.zret (v := 1) hx hb hr rfl (fun t9 ht9 hW9 => ⟨_, rfl, (by simp [x_before, b2i, c_1, c_3, c_3']), ht9⟩) (fun _ h9 => by cases h9) dX8_isBefore_46

set_option maxHeartbeats 4000000 in
set_option maxRecDepth 100000 in
theorem metX0_pass (l : Launch) (D : va_G) (dA : Nat → ClassId) (A : Nat → Prop) (e0 h : Nat) (G : xG) (T : va_W) (F : Nat → Int32) (Rr : Nat → Nat → Int32) (p1 : Int32) (p2 : Int32) (p3 : Int32) (p4 : Int32) (p5 : Int32) (p6 : Int32) : Met l yX0_pass (ws_ yX0_pass cX0_pass 9 (some .int)) ({ frames := 6, cells := 2, slots := 206, locals := 171 } : Room) (va_Pc [.ref h, .int p1, .int p2, .int p3, .int p4, .int p5, .int p6] (xPre D dA A e0 h G T F Rr)) (va_Qi (fun r u => (r, u) = x_pass F Rr p1 p2 p3 p4 p5 p6) (xB D dA A e0 h G T) A) 2 206 A := by
  refine Met.ofW (cc := cX0_pass) (maxL := 9) (ret := (some .int)) (by decide) rfl ?_
  intro p e s m args below meth c s₁ B hml hv
  obtain ⟨rfl, hC, hP, hD, hI⟩ := hv
  have hx := B.exec
  have hb := B.bytes
  have hr := B.returns
  have hts := atoms_spec (ws := (ws_ yX0_pass cX0_pass 9 (some .int))) B.pre
  have hts : ∀ w ∈ lw_all, w.before _ s = true := fun w h => hts w (List.mem_cons_of_mem _ h)
  have hown : s.vm.findClass RX0 = some m.cls := findClass_of_methodNamed B.named
  have hlocks := B.notSynchronized
  have S : CallFix p m c cX0_pass 9 s ([.ref h, .int p1, .int p2, .int p3, .int p4, .int p5, .int p6] : List Value).toArray lw_all RX0 := ⟨hx, hb, hml, hown, hts⟩
  have X : xX RX0 p s m ([.ref h, .int p1, .int p2, .int p3, .int p4, .int p5, .int p6] : List Value).toArray c cX0_pass 9 D dA A e0 := ⟨S, hC⟩
  have M : xM D dA A e0 h G T s F Rr s.heap [] := ⟨hP, hD, va_S.rf, hI⟩
  have hl := lv_entry ([.ref h, .int p1, .int p2, .int p3, .int p4, .int p5, .int p6]) (n := 9) (Nat.le_of_ble_eq_true rfl)
  rw [lg_entry_eq]
  generalize (lg_sl ([.ref h, .int p1, .int p2, .int p3, .int p4, .int p5, .int p6]) ++ List.replicate (9 - (lg_sl ([.ref h, .int p1, .int p2, .int p3, .int p4, .int p5, .int p6])).length) Slot.unset).toArray = ls at hl ⊢
  have hl : lv_has ls 9 [(0, .ref h), (1, .int p1), (2, .int p2), (3, .int p3), (4, .int p4), (5, .int p5), (6, .int p6)] := hl
  have h10 : cnB (F 10) 16 := hI.2.1.1
  obtain ⟨n10, hn10, en10⟩ := cnB_ex h10 (n := 16) rfl
  have em10 : (F 10).toNatClampNeg = n10 := by rw [en10]; exact nI_clamp (by omega)
  have ec10 : (nI n10).toNatClampNeg = n10 := nI_clamp (by omega)
  have h11 : cnB (F 11) 60 := hI.2.2.1.1
  obtain ⟨n11, hn11, en11⟩ := cnB_ex h11 (n := 60) rfl
  have em11 : (F 11).toNatClampNeg = n11 := by rw [en11]; exact nI_clamp (by omega)
  have ec11 : (nI n11).toNatClampNeg = n11 := nI_clamp (by omega)
  refine lv_aload_n hx hb dX0_pass_0 rfl (lv_at hl 0 rfl) ?_
  refine lv_iload_n hx hb dX0_pass_1 rfl (lv_at hl 1 rfl) ?_
  refine x_cQ (v := b2i (inB 0 ((F 10) - 1) p1)) (As := [.int p1]) (rest := []) X M (metX0_isCart l D dA A e0 h G T F Rr p1) (cwV 1 hts (lw_V q855 q857 qs14 q57 q858) rfl rfl rfl (by decide +kernel) ⟨Nat.le_of_ble_eq_true rfl, Nat.le_of_ble_eq_true rfl⟩) rfl hl.1 rfl (Nat.le_of_ble_eq_true rfl) dX0_pass_2 ⟨Nat.le_of_ble_eq_true rfl, Nat.le_of_ble_eq_true rfl⟩ ?_
  refine lz_if_eq (tgt := 54) hx hb dX0_pass_5 (by decide) (fun c_1 => ?_) (fun c_1 => ?_)
  · -- c_1: inB 0 ((F 10) - 1) p1 = false
    refine lv_ldc (v := (-1000001)) hx hb hown (hts _ q234) dX0_pass_54 ?_
    refine W.widen (k := 2) (n := 206) (Nat.le_of_ble_eq_true rfl) (Nat.le_of_ble_eq_true rfl) ?_
    exact W.iret (v := (-1000001)) hx hb hr (fun t9 ht9 hW9 => ⟨⟨_, (F, Rr), rfl, (by first | (simp [x_pass, em10, ec10, em11, ec11, c_1, up_s, up_n, nI_1, b2i]; done) | (simp_all [x_pass]; done) | grind [x_pass]), ⟨G, (xext.rf _), by rw [ht9]; exact M.1, M.2.1, M.2.2.2⟩⟩, M.2.2.1.F ht9⟩) M.2.2.1.2.2 dX0_pass_56
  · -- c_1: inB 0 ((F 10) - 1) p1 = true
    refine lv_iload_n hx hb dX0_pass_8 rfl (lv_at hl 2 rfl) ?_
    refine lv_i2l (v := p2.toInt64) hx hb dX0_pass_9 rfl ?_
    refine lv_lconst (v := 0) hx hb dX0_pass_10 (by decide) ?_
    refine lv_lconst (v := 1) hx hb dX0_pass_11 (by decide) ?_
    refine s_cI (v := b2i (inB 0 1 p2)) (As := [.long p2.toInt64, .long 0, .long 1]) (rest := []) S (metX0_isInI l p2 0 1 p2.toInt64 0 1 rfl rfl rfl) (va_cwS 3 hts (lw_S q230 q231 q57 q232) rfl rfl rfl (by decide +kernel) ⟨Nat.le_of_ble_eq_true rfl, Nat.le_of_ble_eq_true rfl⟩) rfl hl.1 rfl (Nat.le_of_ble_eq_true rfl) dX0_pass_12 ⟨Nat.le_of_ble_eq_true rfl, Nat.le_of_ble_eq_true rfl⟩ ?_
    refine lz_if_eq (tgt := 54) hx hb dX0_pass_15 (by decide) (fun c_2 => ?_) (fun c_2 => ?_)
    · -- c_2: inB 0 1 p2 = false
      refine lv_ldc (v := (-1000001)) hx hb hown (hts _ q234) dX0_pass_54 ?_
      refine W.widen (k := 2) (n := 206) (Nat.le_of_ble_eq_true rfl) (Nat.le_of_ble_eq_true rfl) ?_
      exact W.iret (v := (-1000001)) hx hb hr (fun t9 ht9 hW9 => ⟨⟨_, (F, Rr), rfl, (by first | (simp [x_pass, em10, ec10, em11, ec11, c_1, c_2, up_s, up_n, nI_1, b2i]; done) | (simp_all [x_pass]; done) | grind [x_pass]), ⟨G, (xext.rf _), by rw [ht9]; exact M.1, M.2.1, M.2.2.2⟩⟩, M.2.2.1.F ht9⟩) M.2.2.1.2.2 dX0_pass_56
    · -- c_2: inB 0 1 p2 = true
      refine lv_iload_n hx hb dX0_pass_18 rfl (lv_at hl 3 rfl) ?_
      refine s_cI (v := b2i (inB 0 8 p3)) (As := [.int p3]) (rest := []) S (metX0_isGate l p3) (va_cwS 1 hts (lw_S q388 q389 q57 q390) rfl rfl rfl (by decide +kernel) ⟨Nat.le_of_ble_eq_true rfl, Nat.le_of_ble_eq_true rfl⟩) rfl hl.1 rfl (Nat.le_of_ble_eq_true rfl) dX0_pass_19 ⟨Nat.le_of_ble_eq_true rfl, Nat.le_of_ble_eq_true rfl⟩ ?_
      refine lz_if_eq (tgt := 54) hx hb dX0_pass_22 (by decide) (fun c_3 => ?_) (fun c_3 => ?_)
      · -- c_3: inB 0 8 p3 = false
        refine lv_ldc (v := (-1000001)) hx hb hown (hts _ q234) dX0_pass_54 ?_
        refine W.widen (k := 2) (n := 206) (Nat.le_of_ble_eq_true rfl) (Nat.le_of_ble_eq_true rfl) ?_
        exact W.iret (v := (-1000001)) hx hb hr (fun t9 ht9 hW9 => ⟨⟨_, (F, Rr), rfl, (by first | (simp [x_pass, em10, ec10, em11, ec11, c_1, c_2, c_3, up_s, up_n, nI_1, b2i]; done) | (simp_all [x_pass]; done) | grind [x_pass]), ⟨G, (xext.rf _), by rw [ht9]; exact M.1, M.2.1, M.2.2.2⟩⟩, M.2.2.1.F ht9⟩) M.2.2.1.2.2 dX0_pass_56
      · -- c_3: inB 0 8 p3 = true
        refine lv_iload hx hb dX0_pass_25 (lv_at hl 4 rfl) ?_
        refine s_cI (v := b2i (inB 0 999 p4)) (As := [.int p4]) (rest := []) S (metX0_isDay l p4) (va_cwS 1 hts (lw_S q824 q825 q57 q826) rfl rfl rfl (by decide +kernel) ⟨Nat.le_of_ble_eq_true rfl, Nat.le_of_ble_eq_true rfl⟩) rfl hl.1 rfl (Nat.le_of_ble_eq_true rfl) dX0_pass_27 ⟨Nat.le_of_ble_eq_true rfl, Nat.le_of_ble_eq_true rfl⟩ ?_
        refine lz_if_eq (tgt := 54) hx hb dX0_pass_30 (by decide) (fun c_4 => ?_) (fun c_4 => ?_)
        · -- c_4: inB 0 999 p4 = false
          refine lv_ldc (v := (-1000001)) hx hb hown (hts _ q234) dX0_pass_54 ?_
          refine W.widen (k := 2) (n := 206) (Nat.le_of_ble_eq_true rfl) (Nat.le_of_ble_eq_true rfl) ?_
          exact W.iret (v := (-1000001)) hx hb hr (fun t9 ht9 hW9 => ⟨⟨_, (F, Rr), rfl, (by first | (simp [x_pass, em10, ec10, em11, ec11, c_1, c_2, c_3, c_4, up_s, up_n, nI_1, b2i]; done) | (simp_all [x_pass]; done) | grind [x_pass]), ⟨G, (xext.rf _), by rw [ht9]; exact M.1, M.2.1, M.2.2.2⟩⟩, M.2.2.1.F ht9⟩) M.2.2.1.2.2 dX0_pass_56
        · -- c_4: inB 0 999 p4 = true
          refine lv_iload hx hb dX0_pass_33 (lv_at hl 5 rfl) ?_
          refine s_cI (v := b2i (inB 0 1439 p5)) (As := [.int p5]) (rest := []) S (metX0_isMinute l p5) (va_cwS 1 hts (lw_S q868 q869 q57 q870) rfl rfl rfl (by decide +kernel) ⟨Nat.le_of_ble_eq_true rfl, Nat.le_of_ble_eq_true rfl⟩) rfl hl.1 rfl (Nat.le_of_ble_eq_true rfl) dX0_pass_35 ⟨Nat.le_of_ble_eq_true rfl, Nat.le_of_ble_eq_true rfl⟩ ?_
          refine lz_if_eq (tgt := 54) hx hb dX0_pass_38 (by decide) (fun c_5 => ?_) (fun c_5 => ?_)
          · -- c_5: inB 0 1439 p5 = false
            refine lv_ldc (v := (-1000001)) hx hb hown (hts _ q234) dX0_pass_54 ?_
            refine W.widen (k := 2) (n := 206) (Nat.le_of_ble_eq_true rfl) (Nat.le_of_ble_eq_true rfl) ?_
            exact W.iret (v := (-1000001)) hx hb hr (fun t9 ht9 hW9 => ⟨⟨_, (F, Rr), rfl, (by first | (simp [x_pass, em10, ec10, em11, ec11, c_1, c_2, c_3, c_4, c_5, up_s, up_n, nI_1, b2i]; done) | (simp_all [x_pass]; done) | grind [x_pass]), ⟨G, (xext.rf _), by rw [ht9]; exact M.1, M.2.1, M.2.2.2⟩⟩, M.2.2.1.F ht9⟩) M.2.2.1.2.2 dX0_pass_56
          · -- c_5: inB 0 1439 p5 = true
            refine lv_iload hx hb dX0_pass_41 (lv_at hl 6 rfl) ?_
            refine lv_i2l (v := p6.toInt64) hx hb dX0_pass_43 rfl ?_
            refine lv_lconst (v := 0) hx hb dX0_pass_44 (by decide) ?_
            refine lv_ldc2 (v := 100000) hx hb hown (hts _ q872) dX0_pass_45 ?_
            refine s_cI (v := b2i (inB 0 100000 p6)) (As := [.long p6.toInt64, .long 0, .long 100000]) (rest := []) S (metX0_isInI l p6 0 100000 p6.toInt64 0 100000 rfl rfl rfl) (va_cwS 3 hts (lw_S q230 q231 q57 q232) rfl rfl rfl (by decide +kernel) ⟨Nat.le_of_ble_eq_true rfl, Nat.le_of_ble_eq_true rfl⟩) rfl hl.1 rfl (Nat.le_of_ble_eq_true rfl) dX0_pass_48 ⟨Nat.le_of_ble_eq_true rfl, Nat.le_of_ble_eq_true rfl⟩ ?_
            refine lz_if_ne (tgt := 57) hx hb dX0_pass_51 (by decide) (fun c_6 => ?_) (fun c_6 => ?_)
            · -- c_6: inB 0 100000 p6 = true
              refine lv_aload_n hx hb dX0_pass_57 rfl (lv_at hl 0 rfl) ?_
              refine xg_11 X M dX0_pass_58 ?_
              refine xl_size_11 X M (v := F 11) rfl hl.1 ⟨Nat.le_of_ble_eq_true rfl, Nat.le_of_ble_eq_true rfl⟩ ⟨Nat.le_of_ble_eq_true rfl, Nat.le_of_ble_eq_true rfl⟩ (Nat.le_of_ble_eq_true rfl) dX0_pass_61 ?_
              refine lv_asi (y := nI n11) en11 ?_
              refine lv_bipush (v := 60) hx hb dX0_pass_66 (by decide) ?_
              refine lv_icmp_ne (tgt := 74) hx hb dX0_pass_68 (by decide) (fun c_7 => ?_) (fun c_7 => ?_)
              · -- c_7: nI n11 ≠ 60
                have hn11N : n11 < 60 := nI_lt_ne (N := 60) c_7 (by omega)
                have hf11 : ¬ F 11 = 60 := by rw [en11]; exact c_7
                refine va_new (ci := 6) (fs := [.int 0, .int 0, .int 0, .int 0, .int 0, .int 0]) X.hx X.hb X.hts in_X8 tyX8 tyX8_ok X.ow (X.hts _ q873) (X.hts _ q874) (X.hts _ q84) X.K M.1 M.2.1 M.2.2.1 X.hA rfl (fun j hj => by rcases (show j = 0 ∨ j = 1 ∨ j = 2 ∨ j = 3 ∨ j = 4 ∨ j = 5 by omega) with rfl | rfl | rfl | rfl | rfl | rfl <;> rfl) (Nat.le_of_ble_eq_true rfl) (Nat.le_of_ble_eq_true rfl) dX0_pass_74 (fun q_8 H hP hD hS => ?_)
                have M := xM_push M hP hD hS
                have M : xM D dA A e0 h G (T ++ [(q_8, .inr (6, [.int 0, .int 0, .int 0, .int 0, .int 0, .int 0]))]) s F Rr H _ := M
                refine W.widen (k := 1) (n := 6) (Nat.le_of_ble_eq_true rfl) (Nat.le_of_ble_eq_true rfl) ?_
                refine lv_dup hx hb dX0_pass_77 rfl ?_
                refine lv_iload_n hx hb dX0_pass_78 rfl (lv_at hl 1 rfl) ?_
                refine lv_iload_n hx hb dX0_pass_79 rfl (lv_at hl 2 rfl) ?_
                refine lv_iconst (v := 1) hx hb dX0_pass_80 (by decide) ?_
                refine lv_icmp_ne (tgt := 88) hx hb dX0_pass_81 (by decide) (fun c_9 => ?_) (fun c_9 => ?_)
                · -- c_9: p2 ≠ 1
                  refine lv_iconst (v := 0) hx hb dX0_pass_88 (by decide) ?_
                  refine lv_iload_n hx hb dX0_pass_89 rfl (lv_at hl 3 rfl) ?_
                  refine lv_iload hx hb dX0_pass_90 (lv_at hl 4 rfl) ?_
                  refine lv_iload hx hb dX0_pass_92 (lv_at hl 5 rfl) ?_
                  refine lv_iload hx hb dX0_pass_94 (lv_at hl 6 rfl) ?_
                  refine x_ini1 (j := 0) (As := [.int p1, .int 0, .int p3, .int p4, .int p5, .int p6]) (rest := [.ref q_8]) X M rfl (fun A9 => metX8_init l D dA A9 e0 q_8 p1 false p3 p4 p5 p6) (cwI 6 X.hts (lw_meth q877) rfl rfl rfl (X.hts _ q84) (X.hts _ q875) (X.hts _ q876) rfl (by decide +kernel) ⟨Nat.le_of_ble_eq_true rfl, Nat.le_of_ble_eq_true rfl⟩) rfl hl.1 rfl (Nat.le_of_ble_eq_true rfl) dX0_pass_96 ⟨Nat.le_of_ble_eq_true rfl, Nat.le_of_ble_eq_true rfl⟩ (fun H locs M => ?_)
                  have M : xM D dA A e0 h G (T ++ [(q_8, .inr (6, [.int p1, .int 0, .int p3, .int p4, .int p5, .int p6]))]) s F Rr H locs := M
                  refine W.widen (k := 1) (n := 6) (Nat.le_of_ble_eq_true rfl) (Nat.le_of_ble_eq_true rfl) ?_
                  refine lv_astore (lv' := [(7, .ref q_8), (0, .ref h), (1, .int p1), (2, .int p2), (3, .int p3), (4, .int p4), (5, .int p5), (6, .int p6)]) hx hb dX0_pass_99 hl (by decide) rfl (fun ls hl => ?_)
                  refine lv_aload_n hx hb dX0_pass_101 rfl (lv_at hl 1 rfl) ?_
                  refine xg_11 X M dX0_pass_102 ?_
                  refine xl_size_11 X M (v := F 11) rfl hl.1 ⟨Nat.le_of_ble_eq_true rfl, Nat.le_of_ble_eq_true rfl⟩ ⟨Nat.le_of_ble_eq_true rfl, Nat.le_of_ble_eq_true rfl⟩ (Nat.le_of_ble_eq_true rfl) dX0_pass_105 ?_
                  refine lv_asi (y := nI n11) en11 ?_
                  refine lv_istore (lv' := [(8, .int (nI n11)), (7, .ref q_8), (0, .ref h), (1, .int p1), (2, .int p2), (3, .int p3), (4, .int p4), (5, .int p5), (6, .int p6)]) hx hb dX0_pass_110 hl (by decide) rfl (fun ls hl => ?_)
                  have L_10 : ∀ (fuL_10 : Nat) (i : Nat), (i ≤ n11) → (x_pos (fun k => x_before p4 p5 (Rr 113 k) (Rr 114 k)) n11 = x_pos (fun k => x_before p4 p5 (Rr 113 k) (Rr 114 k)) i) → i < fuL_10 → ∀ (H : Heap) (locs : List Loc), xM D dA A e0 h G (T ++ [(q_8, .inr (6, [.int p1, .int 0, .int p3, .int p4, .int p5, .int p6]))]) s F Rr H locs → ∀ ls, lv_has ls 9 [(0, .ref h), (1, .int p1), (2, .int p2), (3, .int p3), (4, .int p4), (5, .int p5), (6, .int p6), (7, .ref q_8), (8, .int (nI i))] → W p l e ({ frames := 6, cells := 2, slots := 206, locals := 171 } : Room) s m ([.ref h, .int p1, .int p2, .int p3, .int p4, .int p5, .int p6] : List Value).toArray below meth c H locs 1 6 (MQ below (va_Qi (fun r u => (r, u) = x_pass F Rr p1 p2 p3 p4 p5 p6) (xB D dA A e0 h G T) A) ([.ref h, .int p1, .int p2, .int p3, .int p4, .int p5, .int p6] : List Value).toArray s 2 206 A) (F0 m 112 ls []) := by
                    intro fuL_10
                    induction fuL_10 with
                    | zero => intro i hi hq hfuL_10; exact absurd hfuL_10 (Nat.not_lt_zero _)
                    | succ fuL_10 L_10ih =>
                      intro i hi hq hfuL_10 H locs M ls hl
                      refine lv_iload hx hb dX0_pass_112 (lv_at hl 8 rfl) ?_
                      refine lb_if_le (tgt := 147) hx hb dX0_pass_114 (by decide) (fun c_11 c_11' => ?_) (fun c_11 c_11' => ?_)
                      · -- c_11: nI i ≤ 0
                        have ei : i = 0 := Nat.eq_zero_of_not_pos (fun h9 => c_11' ((nI_ltI (a := 0) (by omega) (by omega)).mpr h9))
                        have hkk : x_pos (fun k => x_before p4 p5 (Rr 113 k) (Rr 114 k)) n11 = i := by rw [hq, ei]; rfl
                        refine lv_aload_n hx hb dX0_pass_147 rfl (lv_at hl 0 rfl) ?_
                        refine xg_11 X M dX0_pass_148 ?_
                        refine lv_iload hx hb dX0_pass_151 (lv_at hl 8 rfl) ?_
                        refine lv_aload hx hb dX0_pass_153 (lv_at hl 7 rfl) ?_
                        refine xl_insT_11 (n := n11) (kk := i) X M en11 (by omega) (by omega) hl.1 ⟨Nat.le_of_ble_eq_true rfl, Nat.le_of_ble_eq_true rfl⟩ ⟨Nat.le_of_ble_eq_true rfl, Nat.le_of_ble_eq_true rfl⟩ (Nat.le_of_ble_eq_true rfl) dX0_pass_155 (fun G_12 H locs hxG_12 M => ?_)
                        have M : xM D dA A e0 h G_12 T s (va_up F 11 (nI (n11 + 1))) (xinsr Rr 110 i [p1, 0, p3, p4, p5, p6]) H locs := M
                        refine W.widen (k := 2) (n := 206) (Nat.le_of_ble_eq_true rfl) (Nat.le_of_ble_eq_true rfl) ?_
                        refine lv_aload_n hx hb dX0_pass_160 rfl (lv_at hl 0 rfl) ?_
                        refine xg_11 X M dX0_pass_161 ?_
                        refine xl_size_11 X M (v := nI (n11 + 1)) rfl hl.1 ⟨Nat.le_of_ble_eq_true rfl, Nat.le_of_ble_eq_true rfl⟩ ⟨Nat.le_of_ble_eq_true rfl, Nat.le_of_ble_eq_true rfl⟩ (Nat.le_of_ble_eq_true rfl) dX0_pass_164 ?_
                        exact W.iret (v := nI (n11 + 1)) hx hb hr (fun t9 ht9 hW9 => ⟨⟨_, (va_up F 11 (nI (n11 + 1)), xinsr Rr 110 i [p1, 0, p3, p4, p5, p6]), rfl, (by simp [x_pass, show inB 0 1 1 = true from rfl, em10, ec10, em11, ec11, c_1, c_2, c_3, c_4, c_5, c_6, c_7, hf11, c_9, c_11, c_11', hkk]), ⟨G_12, ((xext.rf _).tr hxG_12), by rw [ht9]; exact M.1, M.2.1, M.2.2.2⟩⟩, M.2.2.1.F ht9⟩) M.2.2.1.2.2 dX0_pass_169
                      · -- c_11: nI i > 0
                        obtain ⟨i1, rfl⟩ : ∃ i1, i = i1 + 1 := ⟨i - 1, by have h9 := (nI_ltI (a := 0) (by omega) (by omega)).mp c_11; omega⟩
                        refine lv_aload hx hb dX0_pass_117 (lv_at hl 7 rfl) ?_
                        refine lv_aload_n hx hb dX0_pass_119 rfl (lv_at hl 0 rfl) ?_
                        refine xg_11 X M dX0_pass_120 ?_
                        refine lv_iload hx hb dX0_pass_123 (lv_at hl 8 rfl) ?_
                        refine lv_iconst (v := 1) hx hb dX0_pass_125 (by decide) ?_
                        refine lv_isub hx hb dX0_pass_126 ?_
                        refine lv_asi (y := nI i1) (nI_pred _) ?_
                        have k_13 : i1 < (F 11).toNatClampNeg := (by omega)
                        refine xl_get_11 X M (k := i1) rfl k_13 hl.1 ⟨Nat.le_of_ble_eq_true rfl, Nat.le_of_ble_eq_true rfl⟩ ⟨Nat.le_of_ble_eq_true rfl, Nat.le_of_ble_eq_true rfl⟩ (Nat.le_of_ble_eq_true rfl) dX0_pass_127 ?_
                        refine xk_11 X M (k := i1) k_13 dX0_pass_132 ?_
                        refine x_cTE (v := b2i (x_before p4 p5 (Rr 113 i1) (Rr 114 i1))) (ci := 6) (j := 0) (As := [.ref (xea G 11 i1)]) (rest := []) X M rfl (xat_11 M (k := i1) k_13) rfl (metX8_isBefore l D dA A e0 q_8 (xea G 11 i1) p1 0 p3 p4 p5 p6 (Rr 110 i1) (Rr 111 i1) (Rr 112 i1) (Rr 113 i1) (Rr 114 i1) (Rr 115 i1)) (cwV 1 hts (lw_V q904 q905 q906 q84 q907) rfl rfl rfl (by decide +kernel) ⟨Nat.le_of_ble_eq_true rfl, Nat.le_of_ble_eq_true rfl⟩) rfl hl.1 rfl (Nat.le_of_ble_eq_true rfl) dX0_pass_135 ⟨Nat.le_of_ble_eq_true rfl, Nat.le_of_ble_eq_true rfl⟩ ?_
                        refine lz_if_eq (tgt := 147) hx hb dX0_pass_138 (by decide) (fun c_14 => ?_) (fun c_14 => ?_)
                        · -- c_14: x_before p4 p5 (Rr 113 i1) (Rr 114 i1) = false
                          have hkk : x_pos (fun k => x_before p4 p5 (Rr 113 k) (Rr 114 k)) n11 = i1 + 1 := hq.trans (by rw [x_pos]; exact if_neg (by rw [c_14]; decide))
                          refine lv_aload_n hx hb dX0_pass_147 rfl (lv_at hl 0 rfl) ?_
                          refine xg_11 X M dX0_pass_148 ?_
                          refine lv_iload hx hb dX0_pass_151 (lv_at hl 8 rfl) ?_
                          refine lv_aload hx hb dX0_pass_153 (lv_at hl 7 rfl) ?_
                          refine xl_insT_11 (n := n11) (kk := (i1 + 1)) X M en11 (by omega) (by omega) hl.1 ⟨Nat.le_of_ble_eq_true rfl, Nat.le_of_ble_eq_true rfl⟩ ⟨Nat.le_of_ble_eq_true rfl, Nat.le_of_ble_eq_true rfl⟩ (Nat.le_of_ble_eq_true rfl) dX0_pass_155 (fun G_15 H locs hxG_15 M => ?_)
                          have M : xM D dA A e0 h G_15 T s (va_up F 11 (nI (n11 + 1))) (xinsr Rr 110 (i1 + 1) [p1, 0, p3, p4, p5, p6]) H locs := M
                          refine W.widen (k := 2) (n := 206) (Nat.le_of_ble_eq_true rfl) (Nat.le_of_ble_eq_true rfl) ?_
                          refine lv_aload_n hx hb dX0_pass_160 rfl (lv_at hl 0 rfl) ?_
                          refine xg_11 X M dX0_pass_161 ?_
                          refine xl_size_11 X M (v := nI (n11 + 1)) rfl hl.1 ⟨Nat.le_of_ble_eq_true rfl, Nat.le_of_ble_eq_true rfl⟩ ⟨Nat.le_of_ble_eq_true rfl, Nat.le_of_ble_eq_true rfl⟩ (Nat.le_of_ble_eq_true rfl) dX0_pass_164 ?_
                          exact W.iret (v := nI (n11 + 1)) hx hb hr (fun t9 ht9 hW9 => ⟨⟨_, (va_up F 11 (nI (n11 + 1)), xinsr Rr 110 (i1 + 1) [p1, 0, p3, p4, p5, p6]), rfl, (by simp [x_pass, show inB 0 1 1 = true from rfl, em10, ec10, em11, ec11, c_1, c_2, c_3, c_4, c_5, c_6, c_7, hf11, c_9, c_11, c_11', c_14, hkk]), ⟨G_15, ((xext.rf _).tr hxG_15), by rw [ht9]; exact M.1, M.2.1, M.2.2.2⟩⟩, M.2.2.1.F ht9⟩) M.2.2.1.2.2 dX0_pass_169
                        · -- c_14: x_before p4 p5 (Rr 113 i1) (Rr 114 i1) = true
                          refine lv_iinc (v := nI i1) (lv' := [(8, .int (nI i1)), (0, .ref h), (1, .int p1), (2, .int p2), (3, .int p3), (4, .int p4), (5, .int p5), (6, .int p6), (7, .ref q_8)]) hx hb dX0_pass_141 hl (k := 8) rfl ((mk_dec _).trans (nI_pred _)) (by decide) rfl (fun ls hl => ?_)
                          refine lv_goto (tgt := 112) hx hb dX0_pass_144 (by decide) ?_
                          exact L_10ih  i1 (by omega) (hq.trans (by rw [x_pos]; exact if_pos c_14)) (by omega) _ _ M ls (lv_sub hl [1, 2, 3, 4, 5, 6, 7, 8, 0] rfl)
                  exact L_10 (n11 + 1) n11 (Nat.le_refl _) rfl (Nat.lt_succ_self _) _ _ M ls (lv_sub hl [2, 3, 4, 5, 6, 7, 8, 1, 0] rfl)
                · -- c_9: p2 = 1
                  refine lv_iconst (v := 1) hx hb dX0_pass_84 (by decide) ?_
                  refine lv_goto (tgt := 89) hx hb dX0_pass_85 (by decide) ?_
                  refine lv_iload_n hx hb dX0_pass_89 rfl (lv_at hl 3 rfl) ?_
                  refine lv_iload hx hb dX0_pass_90 (lv_at hl 4 rfl) ?_
                  refine lv_iload hx hb dX0_pass_92 (lv_at hl 5 rfl) ?_
                  refine lv_iload hx hb dX0_pass_94 (lv_at hl 6 rfl) ?_
                  refine x_ini1 (j := 0) (As := [.int p1, .int 1, .int p3, .int p4, .int p5, .int p6]) (rest := [.ref q_8]) X M rfl (fun A9 => metX8_init l D dA A9 e0 q_8 p1 true p3 p4 p5 p6) (cwI 6 X.hts (lw_meth q877) rfl rfl rfl (X.hts _ q84) (X.hts _ q875) (X.hts _ q876) rfl (by decide +kernel) ⟨Nat.le_of_ble_eq_true rfl, Nat.le_of_ble_eq_true rfl⟩) rfl hl.1 rfl (Nat.le_of_ble_eq_true rfl) dX0_pass_96 ⟨Nat.le_of_ble_eq_true rfl, Nat.le_of_ble_eq_true rfl⟩ (fun H locs M => ?_)
                  have M : xM D dA A e0 h G (T ++ [(q_8, .inr (6, [.int p1, .int 1, .int p3, .int p4, .int p5, .int p6]))]) s F Rr H locs := M
                  refine W.widen (k := 1) (n := 6) (Nat.le_of_ble_eq_true rfl) (Nat.le_of_ble_eq_true rfl) ?_
                  refine lv_astore (lv' := [(7, .ref q_8), (0, .ref h), (1, .int p1), (2, .int p2), (3, .int p3), (4, .int p4), (5, .int p5), (6, .int p6)]) hx hb dX0_pass_99 hl (by decide) rfl (fun ls hl => ?_)
                  refine lv_aload_n hx hb dX0_pass_101 rfl (lv_at hl 1 rfl) ?_
                  refine xg_11 X M dX0_pass_102 ?_
                  refine xl_size_11 X M (v := F 11) rfl hl.1 ⟨Nat.le_of_ble_eq_true rfl, Nat.le_of_ble_eq_true rfl⟩ ⟨Nat.le_of_ble_eq_true rfl, Nat.le_of_ble_eq_true rfl⟩ (Nat.le_of_ble_eq_true rfl) dX0_pass_105 ?_
                  refine lv_asi (y := nI n11) en11 ?_
                  refine lv_istore (lv' := [(8, .int (nI n11)), (7, .ref q_8), (0, .ref h), (1, .int p1), (2, .int p2), (3, .int p3), (4, .int p4), (5, .int p5), (6, .int p6)]) hx hb dX0_pass_110 hl (by decide) rfl (fun ls hl => ?_)
                  have L_16 : ∀ (fuL_16 : Nat) (i : Nat), (i ≤ n11) → (x_pos (fun k => x_before p4 p5 (Rr 113 k) (Rr 114 k)) n11 = x_pos (fun k => x_before p4 p5 (Rr 113 k) (Rr 114 k)) i) → i < fuL_16 → ∀ (H : Heap) (locs : List Loc), xM D dA A e0 h G (T ++ [(q_8, .inr (6, [.int p1, .int 1, .int p3, .int p4, .int p5, .int p6]))]) s F Rr H locs → ∀ ls, lv_has ls 9 [(0, .ref h), (1, .int p1), (2, .int p2), (3, .int p3), (4, .int p4), (5, .int p5), (6, .int p6), (7, .ref q_8), (8, .int (nI i))] → W p l e ({ frames := 6, cells := 2, slots := 206, locals := 171 } : Room) s m ([.ref h, .int p1, .int p2, .int p3, .int p4, .int p5, .int p6] : List Value).toArray below meth c H locs 1 6 (MQ below (va_Qi (fun r u => (r, u) = x_pass F Rr p1 p2 p3 p4 p5 p6) (xB D dA A e0 h G T) A) ([.ref h, .int p1, .int p2, .int p3, .int p4, .int p5, .int p6] : List Value).toArray s 2 206 A) (F0 m 112 ls []) := by
                    intro fuL_16
                    induction fuL_16 with
                    | zero => intro i hi hq hfuL_16; exact absurd hfuL_16 (Nat.not_lt_zero _)
                    | succ fuL_16 L_16ih =>
                      intro i hi hq hfuL_16 H locs M ls hl
                      refine lv_iload hx hb dX0_pass_112 (lv_at hl 8 rfl) ?_
                      refine lb_if_le (tgt := 147) hx hb dX0_pass_114 (by decide) (fun c_17 c_17' => ?_) (fun c_17 c_17' => ?_)
                      · -- c_17: nI i ≤ 0
                        have ei : i = 0 := Nat.eq_zero_of_not_pos (fun h9 => c_17' ((nI_ltI (a := 0) (by omega) (by omega)).mpr h9))
                        have hkk : x_pos (fun k => x_before p4 p5 (Rr 113 k) (Rr 114 k)) n11 = i := by rw [hq, ei]; rfl
                        refine lv_aload_n hx hb dX0_pass_147 rfl (lv_at hl 0 rfl) ?_
                        refine xg_11 X M dX0_pass_148 ?_
                        refine lv_iload hx hb dX0_pass_151 (lv_at hl 8 rfl) ?_
                        refine lv_aload hx hb dX0_pass_153 (lv_at hl 7 rfl) ?_
                        refine xl_insT_11 (n := n11) (kk := i) X M en11 (by omega) (by omega) hl.1 ⟨Nat.le_of_ble_eq_true rfl, Nat.le_of_ble_eq_true rfl⟩ ⟨Nat.le_of_ble_eq_true rfl, Nat.le_of_ble_eq_true rfl⟩ (Nat.le_of_ble_eq_true rfl) dX0_pass_155 (fun G_18 H locs hxG_18 M => ?_)
                        have M : xM D dA A e0 h G_18 T s (va_up F 11 (nI (n11 + 1))) (xinsr Rr 110 i [p1, 1, p3, p4, p5, p6]) H locs := M
                        refine W.widen (k := 2) (n := 206) (Nat.le_of_ble_eq_true rfl) (Nat.le_of_ble_eq_true rfl) ?_
                        refine lv_aload_n hx hb dX0_pass_160 rfl (lv_at hl 0 rfl) ?_
                        refine xg_11 X M dX0_pass_161 ?_
                        refine xl_size_11 X M (v := nI (n11 + 1)) rfl hl.1 ⟨Nat.le_of_ble_eq_true rfl, Nat.le_of_ble_eq_true rfl⟩ ⟨Nat.le_of_ble_eq_true rfl, Nat.le_of_ble_eq_true rfl⟩ (Nat.le_of_ble_eq_true rfl) dX0_pass_164 ?_
                        exact W.iret (v := nI (n11 + 1)) hx hb hr (fun t9 ht9 hW9 => ⟨⟨_, (va_up F 11 (nI (n11 + 1)), xinsr Rr 110 i [p1, 1, p3, p4, p5, p6]), rfl, (by simp [x_pass, show inB 0 1 1 = true from rfl, em10, ec10, em11, ec11, c_1, c_2, c_3, c_4, c_5, c_6, c_7, hf11, c_9, c_17, c_17', hkk]), ⟨G_18, ((xext.rf _).tr hxG_18), by rw [ht9]; exact M.1, M.2.1, M.2.2.2⟩⟩, M.2.2.1.F ht9⟩) M.2.2.1.2.2 dX0_pass_169
                      · -- c_17: nI i > 0
                        obtain ⟨i1, rfl⟩ : ∃ i1, i = i1 + 1 := ⟨i - 1, by have h9 := (nI_ltI (a := 0) (by omega) (by omega)).mp c_17; omega⟩
                        refine lv_aload hx hb dX0_pass_117 (lv_at hl 7 rfl) ?_
                        refine lv_aload_n hx hb dX0_pass_119 rfl (lv_at hl 0 rfl) ?_
                        refine xg_11 X M dX0_pass_120 ?_
                        refine lv_iload hx hb dX0_pass_123 (lv_at hl 8 rfl) ?_
                        refine lv_iconst (v := 1) hx hb dX0_pass_125 (by decide) ?_
                        refine lv_isub hx hb dX0_pass_126 ?_
                        refine lv_asi (y := nI i1) (nI_pred _) ?_
                        have k_19 : i1 < (F 11).toNatClampNeg := (by omega)
                        refine xl_get_11 X M (k := i1) rfl k_19 hl.1 ⟨Nat.le_of_ble_eq_true rfl, Nat.le_of_ble_eq_true rfl⟩ ⟨Nat.le_of_ble_eq_true rfl, Nat.le_of_ble_eq_true rfl⟩ (Nat.le_of_ble_eq_true rfl) dX0_pass_127 ?_
                        refine xk_11 X M (k := i1) k_19 dX0_pass_132 ?_
                        refine x_cTE (v := b2i (x_before p4 p5 (Rr 113 i1) (Rr 114 i1))) (ci := 6) (j := 0) (As := [.ref (xea G 11 i1)]) (rest := []) X M rfl (xat_11 M (k := i1) k_19) rfl (metX8_isBefore l D dA A e0 q_8 (xea G 11 i1) p1 1 p3 p4 p5 p6 (Rr 110 i1) (Rr 111 i1) (Rr 112 i1) (Rr 113 i1) (Rr 114 i1) (Rr 115 i1)) (cwV 1 hts (lw_V q904 q905 q906 q84 q907) rfl rfl rfl (by decide +kernel) ⟨Nat.le_of_ble_eq_true rfl, Nat.le_of_ble_eq_true rfl⟩) rfl hl.1 rfl (Nat.le_of_ble_eq_true rfl) dX0_pass_135 ⟨Nat.le_of_ble_eq_true rfl, Nat.le_of_ble_eq_true rfl⟩ ?_
                        refine lz_if_eq (tgt := 147) hx hb dX0_pass_138 (by decide) (fun c_20 => ?_) (fun c_20 => ?_)
                        · -- c_20: x_before p4 p5 (Rr 113 i1) (Rr 114 i1) = false
                          have hkk : x_pos (fun k => x_before p4 p5 (Rr 113 k) (Rr 114 k)) n11 = i1 + 1 := hq.trans (by rw [x_pos]; exact if_neg (by rw [c_20]; decide))
                          refine lv_aload_n hx hb dX0_pass_147 rfl (lv_at hl 0 rfl) ?_
                          refine xg_11 X M dX0_pass_148 ?_
                          refine lv_iload hx hb dX0_pass_151 (lv_at hl 8 rfl) ?_
                          refine lv_aload hx hb dX0_pass_153 (lv_at hl 7 rfl) ?_
                          refine xl_insT_11 (n := n11) (kk := (i1 + 1)) X M en11 (by omega) (by omega) hl.1 ⟨Nat.le_of_ble_eq_true rfl, Nat.le_of_ble_eq_true rfl⟩ ⟨Nat.le_of_ble_eq_true rfl, Nat.le_of_ble_eq_true rfl⟩ (Nat.le_of_ble_eq_true rfl) dX0_pass_155 (fun G_21 H locs hxG_21 M => ?_)
                          have M : xM D dA A e0 h G_21 T s (va_up F 11 (nI (n11 + 1))) (xinsr Rr 110 (i1 + 1) [p1, 1, p3, p4, p5, p6]) H locs := M
                          refine W.widen (k := 2) (n := 206) (Nat.le_of_ble_eq_true rfl) (Nat.le_of_ble_eq_true rfl) ?_
                          refine lv_aload_n hx hb dX0_pass_160 rfl (lv_at hl 0 rfl) ?_
                          refine xg_11 X M dX0_pass_161 ?_
                          refine xl_size_11 X M (v := nI (n11 + 1)) rfl hl.1 ⟨Nat.le_of_ble_eq_true rfl, Nat.le_of_ble_eq_true rfl⟩ ⟨Nat.le_of_ble_eq_true rfl, Nat.le_of_ble_eq_true rfl⟩ (Nat.le_of_ble_eq_true rfl) dX0_pass_164 ?_
                          exact W.iret (v := nI (n11 + 1)) hx hb hr (fun t9 ht9 hW9 => ⟨⟨_, (va_up F 11 (nI (n11 + 1)), xinsr Rr 110 (i1 + 1) [p1, 1, p3, p4, p5, p6]), rfl, (by simp [x_pass, show inB 0 1 1 = true from rfl, em10, ec10, em11, ec11, c_1, c_2, c_3, c_4, c_5, c_6, c_7, hf11, c_9, c_17, c_17', c_20, hkk]), ⟨G_21, ((xext.rf _).tr hxG_21), by rw [ht9]; exact M.1, M.2.1, M.2.2.2⟩⟩, M.2.2.1.F ht9⟩) M.2.2.1.2.2 dX0_pass_169
                        · -- c_20: x_before p4 p5 (Rr 113 i1) (Rr 114 i1) = true
                          refine lv_iinc (v := nI i1) (lv' := [(8, .int (nI i1)), (0, .ref h), (1, .int p1), (2, .int p2), (3, .int p3), (4, .int p4), (5, .int p5), (6, .int p6), (7, .ref q_8)]) hx hb dX0_pass_141 hl (k := 8) rfl ((mk_dec _).trans (nI_pred _)) (by decide) rfl (fun ls hl => ?_)
                          refine lv_goto (tgt := 112) hx hb dX0_pass_144 (by decide) ?_
                          exact L_16ih  i1 (by omega) (hq.trans (by rw [x_pos]; exact if_pos c_20)) (by omega) _ _ M ls (lv_sub hl [1, 2, 3, 4, 5, 6, 7, 8, 0] rfl)
                  exact L_16 (n11 + 1) n11 (Nat.le_refl _) rfl (Nat.lt_succ_self _) _ _ M ls (lv_sub hl [2, 3, 4, 5, 6, 7, 8, 1, 0] rfl)
              · -- c_7: nI n11 = 60
                have hf11 : F 11 = 60 := by rw [en11]; exact c_7
                refine lv_ldc (v := (-1000003)) hx hb hown (hts _ q410) dX0_pass_71 ?_
                refine W.widen (k := 2) (n := 206) (Nat.le_of_ble_eq_true rfl) (Nat.le_of_ble_eq_true rfl) ?_
                exact W.iret (v := (-1000003)) hx hb hr (fun t9 ht9 hW9 => ⟨⟨_, (F, Rr), rfl, (by first | (simp [x_pass, em10, ec10, em11, ec11, c_1, c_2, c_3, c_4, c_5, c_6, c_7, hf11, up_s, up_n, nI_1, b2i]; done) | (simp_all [x_pass]; done) | grind [x_pass]), ⟨G, (xext.rf _), by rw [ht9]; exact M.1, M.2.1, M.2.2.2⟩⟩, M.2.2.1.F ht9⟩) M.2.2.1.2.2 dX0_pass_73
            · -- c_6: inB 0 100000 p6 = false
              refine lv_ldc (v := (-1000001)) hx hb hown (hts _ q234) dX0_pass_54 ?_
              refine W.widen (k := 2) (n := 206) (Nat.le_of_ble_eq_true rfl) (Nat.le_of_ble_eq_true rfl) ?_
              exact W.iret (v := (-1000001)) hx hb hr (fun t9 ht9 hW9 => ⟨⟨_, (F, Rr), rfl, (by first | (simp [x_pass, em10, ec10, em11, ec11, c_1, c_2, c_3, c_4, c_5, c_6, up_s, up_n, nI_1, b2i]; done) | (simp_all [x_pass]; done) | grind [x_pass]), ⟨G, (xext.rf _), by rw [ht9]; exact M.1, M.2.1, M.2.2.2⟩⟩, M.2.2.1.F ht9⟩) M.2.2.1.2.2 dX0_pass_56

