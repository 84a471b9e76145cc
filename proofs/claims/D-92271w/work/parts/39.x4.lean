/-! THE SYSTEM, 4: owed, amiss, canbe, brought -/
def x_bc1 (x : Int32) : Int32 := x - ((x.toUInt32 >>> ((1 : Int32).toUInt32 &&& Int32.toUInt32 31)).toInt32 &&& 1431655765)
def x_bc2 (x : Int32) : Int32 := (x &&& 858993459) + ((x.toUInt32 >>> ((2 : Int32).toUInt32 &&& Int32.toUInt32 31)).toInt32 &&& 858993459)
def x_bc3 (x : Int32) : Int32 := (x + (x.toUInt32 >>> ((4 : Int32).toUInt32 &&& Int32.toUInt32 31)).toInt32) &&& 252645135
def x_bc4 (x : Int32) : Int32 := x + (x.toUInt32 >>> ((8 : Int32).toUInt32 &&& Int32.toUInt32 31)).toInt32
def x_bc5 (x : Int32) : Int32 := x + (x.toUInt32 >>> ((16 : Int32).toUInt32 &&& Int32.toUInt32 31)).toInt32
def x_bc (x : Int32) : Int32 := x_bc5 (x_bc4 (x_bc3 (x_bc2 (x_bc1 x)))) &&& 63
set_option maxHeartbeats 4000000 in
set_option maxRecDepth 100000 in
theorem metJ18_bitCount (l : Launch) (p1 : Int32) : Met l yJ18_bitCount (ws_ yJ18_bitCount cJ18_bitCount 1 (some .int)) ({ frames := 0, cells := 0, slots := 0, locals := 0 } : Room) (va_Pc [.int p1] (fun _ => True)) (vp_Si (fun r => r = x_bc p1)) 0 0 (fun _ => False) := by
  refine Met.ofW (cc := cJ18_bitCount) (maxL := 1) (ret := (some .int)) (by decide) rfl ?_
  intro p e s m args below meth c s₁ B hml hv
  obtain ⟨rfl, -⟩ := hv
  have hx := B.exec
  have hb := B.bytes
  have hr := B.returns
  have hts := atoms_spec (ws := (ws_ yJ18_bitCount cJ18_bitCount 1 (some .int))) B.pre
  have hts : ∀ w ∈ lw_all, w.before _ s = true := fun w h => hts w (List.mem_cons_of_mem _ h)
  have hown : s.vm.findClass RJ18 = some m.cls := findClass_of_methodNamed B.named
  have hlocks := B.notSynchronized
  have S : CallFix p m c cJ18_bitCount 1 s ([.int p1] : List Value).toArray lw_all RJ18 := ⟨hx, hb, hml, hown, hts⟩
  have hl := lv_entry ([.int p1]) (n := 1) (Nat.le_of_ble_eq_true rfl)
  rw [lg_entry_eq]
  generalize (lg_sl ([.int p1]) ++ List.replicate (1 - (lg_sl ([.int p1])).length) Slot.unset).toArray = ls at hl ⊢
  have hl : lv_has ls 1 [(0, .int p1)] := hl
  refine lv_iload_n hx hb dJ18_bitCount_0 rfl (lv_at hl 0 rfl) ?_
  refine lv_iload_n hx hb dJ18_bitCount_1 rfl (lv_at hl 0 rfl) ?_
  refine lv_iconst (v := 1) hx hb dJ18_bitCount_2 (by decide) ?_
  refine lv_iushr (v := (p1.toUInt32 >>> ((1 : Int32).toUInt32 &&& Int32.toUInt32 31)).toInt32) hx hb dJ18_bitCount_3 rfl ?_
  refine lv_ldcw (v := 1431655765) hx hb hown (hts _ q1259) dJ18_bitCount_4 ?_
  refine lv_iand hx hb dJ18_bitCount_7 ?_
  refine lv_isub hx hb dJ18_bitCount_8 ?_
  refine lv_asi (y := x_bc1 p1) rfl ?_
  refine lv_istore_n (lv' := [(0, .int (x_bc1 p1))]) hx hb dJ18_bitCount_9 rfl hl (by decide) rfl (fun ls hl => ?_)
  refine lv_iload_n hx hb dJ18_bitCount_10 rfl (lv_at hl 0 rfl) ?_
  refine lv_ldcw (v := 858993459) hx hb hown (hts _ q1260) dJ18_bitCount_11 ?_
  refine lv_iand hx hb dJ18_bitCount_14 ?_
  refine lv_iload_n hx hb dJ18_bitCount_15 rfl (lv_at hl 0 rfl) ?_
  refine lv_iconst (v := 2) hx hb dJ18_bitCount_16 (by decide) ?_
  refine lv_iushr (v := ((x_bc1 p1).toUInt32 >>> ((2 : Int32).toUInt32 &&& Int32.toUInt32 31)).toInt32) hx hb dJ18_bitCount_17 rfl ?_
  refine lv_ldcw (v := 858993459) hx hb hown (hts _ q1260) dJ18_bitCount_18 ?_
  refine lv_iand hx hb dJ18_bitCount_21 ?_
  refine lv_iadd hx hb dJ18_bitCount_22 ?_
  refine lv_asi (y := x_bc2 (x_bc1 p1)) rfl ?_
  refine lv_istore_n (lv' := [(0, .int (x_bc2 (x_bc1 p1)))]) hx hb dJ18_bitCount_23 rfl hl (by decide) rfl (fun ls hl => ?_)
  refine lv_iload_n hx hb dJ18_bitCount_24 rfl (lv_at hl 0 rfl) ?_
  refine lv_iload_n hx hb dJ18_bitCount_25 rfl (lv_at hl 0 rfl) ?_
  refine lv_iconst (v := 4) hx hb dJ18_bitCount_26 (by decide) ?_
  refine lv_iushr (v := ((x_bc2 (x_bc1 p1)).toUInt32 >>> ((4 : Int32).toUInt32 &&& Int32.toUInt32 31)).toInt32) hx hb dJ18_bitCount_27 rfl ?_
  refine lv_iadd hx hb dJ18_bitCount_28 ?_
  refine lv_ldcw (v := 252645135) hx hb hown (hts _ q1261) dJ18_bitCount_29 ?_
  refine lv_iand hx hb dJ18_bitCount_32 ?_
  refine lv_asi (y := x_bc3 (x_bc2 (x_bc1 p1))) rfl ?_
  refine lv_istore_n (lv' := [(0, .int (x_bc3 (x_bc2 (x_bc1 p1))))]) hx hb dJ18_bitCount_33 rfl hl (by decide) rfl (fun ls hl => ?_)
  refine lv_iload_n hx hb dJ18_bitCount_34 rfl (lv_at hl 0 rfl) ?_
  refine lv_iload_n hx hb dJ18_bitCount_35 rfl (lv_at hl 0 rfl) ?_
  refine lv_bipush (v := 8) hx hb dJ18_bitCount_36 (by decide) ?_
  refine lv_iushr (v := ((x_bc3 (x_bc2 (x_bc1 p1))).toUInt32 >>> ((8 : Int32).toUInt32 &&& Int32.toUInt32 31)).toInt32) hx hb dJ18_bitCount_38 rfl ?_
  refine lv_iadd hx hb dJ18_bitCount_39 ?_
  refine lv_asi (y := x_bc4 (x_bc3 (x_bc2 (x_bc1 p1)))) rfl ?_
  refine lv_istore_n (lv' := [(0, .int (x_bc4 (x_bc3 (x_bc2 (x_bc1 p1)))))]) hx hb dJ18_bitCount_40 rfl hl (by decide) rfl (fun ls hl => ?_)
  refine lv_iload_n hx hb dJ18_bitCount_41 rfl (lv_at hl 0 rfl) ?_
  refine lv_iload_n hx hb dJ18_bitCount_42 rfl (lv_at hl 0 rfl) ?_
  refine lv_bipush (v := 16) hx hb dJ18_bitCount_43 (by decide) ?_
  refine lv_iushr (v := ((x_bc4 (x_bc3 (x_bc2 (x_bc1 p1)))).toUInt32 >>> ((16 : Int32).toUInt32 &&& Int32.toUInt32 31)).toInt32) hx hb dJ18_bitCount_45 rfl ?_
  refine lv_iadd hx hb dJ18_bitCount_46 ?_
  refine lv_asi (y := x_bc5 (x_bc4 (x_bc3 (x_bc2 (x_bc1 p1))))) rfl ?_
  refine lv_istore_n (lv' := [(0, .int (x_bc5 (x_bc4 (x_bc3 (x_bc2 (x_bc1 p1))))))]) hx hb dJ18_bitCount_47 rfl hl (by decide) rfl (fun ls hl => ?_)
  refine lv_iload_n hx hb dJ18_bitCount_48 rfl (lv_at hl 0 rfl) ?_
  refine lv_bipush (v := 63) hx hb dJ18_bitCount_49 (by decide) ?_
  refine lv_iand hx hb dJ18_bitCount_51 ?_
  exact W.iret (v := (x_bc5 (x_bc4 (x_bc3 (x_bc2 (x_bc1 p1))))) &&& 63) hx hb hr (fun t9 ht9 hW9 => ⟨_, rfl, rfl, ht9⟩) (fun _ h9 => by cases h9) dJ18_bitCount_52

def x_owedBest (F : Nat → Int32) (Rr : Nat → Nat → Int32) (c : Nat) (day : Int32) (k : Nat) (x : Nat) : Nat := if x_owedBy (F 6) Rr c (k + 1) day < x_owedBy (F 6) Rr c x day then k + 1 else x
def x_owed (F : Nat → Int32) (Rr : Nat → Nat → Int32) (c g day : Int32) : Int32 := if inB 0 (F 10 - 1) c = false ∨ (¬ g = (-1000000) ∧ inB 0 8 g = false) ∨ inB 0 999 day = false then (-1000001) else if ¬ g = (-1000000) then x_owedBy (F 6) Rr c.toNatClampNeg g.toNatClampNeg day else nI (itr (x_owedBest F Rr c.toNatClampNeg day) 8 0)
set_option maxHeartbeats 4000000 in
set_option maxRecDepth 100000 in
theorem metX0_owed (l : Launch) (D : va_G) (dA : Nat → ClassId) (A : Nat → Prop) (e0 h : Nat) (G : xG) (T : va_W) (F : Nat → Int32) (Rr : Nat → Nat → Int32) (p1 : Int32) (p2 : Int32) (p3 : Int32) : Met l yX0_owed (ws_ yX0_owed cX0_owed 6 (some .int)) ({ frames := 5, cells := 0, slots := 0, locals := 117 } : Room) (va_Pc [.ref h, .int p1, .int p2, .int p3] (xPre D dA A e0 h G T F Rr)) (vp_Si (fun r => r = x_owed F Rr p1 p2 p3)) 0 0 (fun _ => False) := by
  refine Met.ofW (cc := cX0_owed) (maxL := 6) (ret := (some .int)) (by decide) rfl ?_
  intro p e s m args below meth c s₁ B hml hv
  obtain ⟨rfl, hC, hP, hD, hI⟩ := hv
  have hx := B.exec
  have hb := B.bytes
  have hr := B.returns
  have hts := atoms_spec (ws := (ws_ yX0_owed cX0_owed 6 (some .int))) B.pre
  have hts : ∀ w ∈ lw_all, w.before _ s = true := fun w h => hts w (List.mem_cons_of_mem _ h)
  have hown : s.vm.findClass RX0 = some m.cls := findClass_of_methodNamed B.named
  have hlocks := B.notSynchronized
  have S : CallFix p m c cX0_owed 6 s ([.ref h, .int p1, .int p2, .int p3] : List Value).toArray lw_all RX0 := ⟨hx, hb, hml, hown, hts⟩
  have X : xX RX0 p s m ([.ref h, .int p1, .int p2, .int p3] : List Value).toArray c cX0_owed 6 D dA A e0 := ⟨S, hC⟩
  have M : xM D dA A e0 h G T s F Rr s.heap [] := ⟨hP, hD, va_S.rf, hI⟩
  have hl := lv_entry ([.ref h, .int p1, .int p2, .int p3]) (n := 6) (Nat.le_of_ble_eq_true rfl)
  rw [lg_entry_eq]
  generalize (lg_sl ([.ref h, .int p1, .int p2, .int p3]) ++ List.replicate (6 - (lg_sl ([.ref h, .int p1, .int p2, .int p3])).length) Slot.unset).toArray = ls at hl ⊢
  have hl : lv_has ls 6 [(0, .ref h), (1, .int p1), (2, .int p2), (3, .int p3)] := hl
  have h10 : cnB (F 10) 16 := hI.2.1.1
  obtain ⟨n10, hn10, en10⟩ := cnB_ex h10 (n := 16) rfl
  have em10 : (F 10).toNatClampNeg = n10 := by rw [en10]; exact nI_clamp (by omega)
  have ec10 : (nI n10).toNatClampNeg = n10 := nI_clamp (by omega)
  refine lv_aload_n hx hb dX0_owed_0 rfl (lv_at hl 0 rfl) ?_
  refine lv_iload_n hx hb dX0_owed_1 rfl (lv_at hl 1 rfl) ?_
  refine x_cQ (v := b2i (inB 0 ((F 10) - 1) p1)) (As := [.int p1]) (rest := []) X M (metX0_isCart l D dA A e0 h G T F Rr p1) (cwV 1 hts (lw_V q855 q857 qs14 q57 q858) rfl rfl rfl (by decide +kernel) ⟨Nat.le_of_ble_eq_true rfl, Nat.le_of_ble_eq_true rfl⟩) rfl hl.1 rfl (Nat.le_of_ble_eq_true rfl) dX0_owed_2 ⟨Nat.le_of_ble_eq_true rfl, Nat.le_of_ble_eq_true rfl⟩ ?_
  refine lz_if_eq (tgt := 28) hx hb dX0_owed_5 (by decide) (fun c_1 => ?_) (fun c_1 => ?_)
  · -- c_1: inB 0 ((F 10) - 1) p1 = false
    refine lv_ldc (v := (-1000001)) hx hb hown (hts _ q234) dX0_owed_28 ?_
    exact W.iret (v := (-1000001)) hx hb hr (fun t9 ht9 hW9 => ⟨_, rfl, (by first | (simp [x_owed, em10, ec10, c_1, up_s, up_n, nI_1, b2i]; done) | (simp_all [x_owed]; done) | grind [x_owed]), ht9⟩) (fun _ h9 => by cases h9) dX0_owed_30
  · -- c_1: inB 0 ((F 10) - 1) p1 = true
    obtain ⟨c1, hc1, rfl⟩ := at_ex c_1 h10 (m := 16) rfl
    have ec1 : (nI c1).toNatClampNeg = c1 := nI_clamp (by omega)
    refine lv_iload_n hx hb dX0_owed_8 rfl (lv_at hl 2 rfl) ?_
    refine lv_ldc (v := (-1000000)) hx hb hown (hts _ q147) dX0_owed_9 ?_
    refine lv_icmp_eq (tgt := 21) hx hb dX0_owed_11 (by decide) (fun c_2 => ?_) (fun c_2 => ?_)
    · -- c_2: p2 = (-1000000)
      refine lv_iload_n hx hb dX0_owed_21 rfl (lv_at hl 3 rfl) ?_
      refine s_cI (v := b2i (inB 0 999 p3)) (As := [.int p3]) (rest := []) S (metX0_isDay l p3) (va_cwS 1 hts (lw_S q824 q825 q57 q826) rfl rfl rfl (by decide +kernel) ⟨Nat.le_of_ble_eq_true rfl, Nat.le_of_ble_eq_true rfl⟩) rfl hl.1 rfl (Nat.le_of_ble_eq_true rfl) dX0_owed_22 ⟨Nat.le_of_ble_eq_true rfl, Nat.le_of_ble_eq_true rfl⟩ ?_
      refine lz_if_ne (tgt := 31) hx hb dX0_owed_25 (by decide) (fun c_3 => ?_) (fun c_3 => ?_)
      · -- c_3: inB 0 999 p3 = true
        refine lv_iload_n hx hb dX0_owed_31 rfl (lv_at hl 2 rfl) ?_
        refine lv_ldc (v := (-1000000)) hx hb hown (hts _ q147) dX0_owed_32 ?_
        refine lv_icmp_eq (tgt := 45) hx hb dX0_owed_34 (by decide) (fun c_4 => ?_) (fun c_4 => absurd c_2 c_4)
        refine lv_iconst (v := 0) hx hb dX0_owed_45 (by decide) ?_
        refine lv_istore (lv' := [(4, .int 0), (0, .ref h), (1, .int (nI c1)), (2, .int p2), (3, .int p3)]) hx hb dX0_owed_46 hl (by decide) rfl (fun ls hl => ?_)
        refine lv_iconst (v := 1) hx hb dX0_owed_48 (by decide) ?_
        refine lv_istore (lv' := [(5, .int 1), (4, .int 0), (0, .ref h), (1, .int (nI c1)), (2, .int p2), (3, .int p3)]) hx hb dX0_owed_49 hl (by decide) rfl (fun ls hl => ?_)
        have L_5 : ∀ (fuL_5 : Nat) (i : Nat) (x : Nat), (i ≤ 8) → (x = itr (x_owedBest F Rr c1 p3) i 0) → (x < 9) → 8 - i < fuL_5 → ∀ ls, lv_has ls 6 [(0, .ref h), (1, .int (nI c1)), (2, .int p2), (3, .int p3), (4, .int (nI x)), (5, .int (nI (i + 1)))] → W p l e ({ frames := 5, cells := 0, slots := 0, locals := 117 } : Room) s m ([.ref h, .int (nI c1), .int p2, .int p3] : List Value).toArray below meth c s.heap [] 0 0 (MQ below (vp_Si (fun r => r = x_owed F Rr (nI c1) p2 p3)) ([.ref h, .int (nI c1), .int p2, .int p3] : List Value).toArray s 0 0 (fun _ => False)) (F0 m 51 ls []) := by
          intro fuL_5
          induction fuL_5 with
          | zero => intro i x hi qx hx8 hfuL_5; exact absurd hfuL_5 (Nat.not_lt_zero _)
          | succ fuL_5 L_5ih =>
            intro i x hi qx hx8 hfuL_5 ls hl
            refine lv_iload hx hb dX0_owed_51 (lv_at hl 5 rfl) ?_
            refine lv_bipush (v := 9) hx hb dX0_owed_53 (by decide) ?_
            refine ln_icmp_ge (tgt := 92) hx hb (a := i + 1) (b := 9) (by omega) (by omega) dX0_owed_55 (by decide) (fun c_6 => ?_) (fun c_6 => ?_)
            · -- c_6: nI (i + 1) ≥ 9
              have ei : i = 8 := by omega
              rw [ei] at qx
              refine lv_iload hx hb dX0_owed_92 (lv_at hl 4 rfl) ?_
              exact W.iret (v := nI x) hx hb hr (fun t9 ht9 hW9 => ⟨_, rfl, (by simp [x_owed, em10, ec10, c_1, ec1, c_2, c_3, c_6, ← qx]), ht9⟩) (fun _ h9 => by cases h9) dX0_owed_94
            · -- c_6: nI (i + 1) < 9
              refine lv_aload_n hx hb dX0_owed_58 rfl (lv_at hl 0 rfl) ?_
              refine lv_iload_n hx hb dX0_owed_59 rfl (lv_at hl 1 rfl) ?_
              refine lv_iload hx hb dX0_owed_60 (lv_at hl 5 rfl) ?_
              refine lv_iload_n hx hb dX0_owed_62 rfl (lv_at hl 3 rfl) ?_
              refine x_cQ (v := x_owedBy (F 6) Rr c1 (i + 1) p3) (As := [.int (nI c1), .int (nI (i + 1)), .int p3]) (rest := []) X M (metX0_owedBy l D dA A e0 h G T F Rr c1 (i + 1) p3 (by omega) (by omega)) (cwV 3 hts (lw_V q859 q861 qs15 q57 q862) rfl rfl rfl (by decide +kernel) ⟨Nat.le_of_ble_eq_true rfl, Nat.le_of_ble_eq_true rfl⟩) rfl hl.1 rfl (Nat.le_of_ble_eq_true rfl) dX0_owed_63 ⟨Nat.le_of_ble_eq_true rfl, Nat.le_of_ble_eq_true rfl⟩ ?_
              refine lv_aload_n hx hb dX0_owed_66 rfl (lv_at hl 0 rfl) ?_
              refine lv_iload_n hx hb dX0_owed_67 rfl (lv_at hl 1 rfl) ?_
              refine lv_iload hx hb dX0_owed_68 (lv_at hl 4 rfl) ?_
              refine lv_iload_n hx hb dX0_owed_70 rfl (lv_at hl 3 rfl) ?_
              refine x_cQ (v := x_owedBy (F 6) Rr c1 x p3) (As := [.int (nI c1), .int (nI x), .int p3]) (rest := [.int (x_owedBy (F 6) Rr c1 (i + 1) p3)]) X M (metX0_owedBy l D dA A e0 h G T F Rr c1 x p3 (by omega) (by omega)) (cwV 3 hts (lw_V q859 q861 qs15 q57 q862) rfl rfl rfl (by decide +kernel) ⟨Nat.le_of_ble_eq_true rfl, Nat.le_of_ble_eq_true rfl⟩) rfl hl.1 rfl (Nat.le_of_ble_eq_true rfl) dX0_owed_71 ⟨Nat.le_of_ble_eq_true rfl, Nat.le_of_ble_eq_true rfl⟩ ?_
              refine lb_icmp_ge (tgt := 82) hx hb dX0_owed_74 (by decide) (fun c_7 c_7' => ?_) (fun c_7 c_7' => ?_)
              · -- c_7: x_owedBy (F 6) Rr c1 (i + 1) p3 ≥ x_owedBy (F 6) Rr c1 x p3
                refine lv_iload hx hb dX0_owed_82 (lv_at hl 4 rfl) ?_
                refine lv_istore (lv' := [(4, .int (nI x)), (0, .ref h), (1, .int (nI c1)), (2, .int p2), (3, .int p3), (5, .int (nI (i + 1)))]) hx hb dX0_owed_84 hl (by decide) rfl (fun ls hl => ?_)
                refine lv_iinc (v := nI (i + 1 + 1)) (lv' := [(5, .int (nI (i + 1 + 1))), (4, .int (nI x)), (0, .ref h), (1, .int (nI c1)), (2, .int p2), (3, .int p3)]) hx hb dX0_owed_86 hl (k := 5) rfl (mk_inc _) (by decide) rfl (fun ls hl => ?_)
                refine lv_goto (tgt := 51) hx hb dX0_owed_89 (by decide) ?_
                exact L_5ih  (i + 1) x (by omega) (by first | (rw [itr_s, ← qx]; done) | (rw [itr_s, ← qx]; first | (simp [x_owedBest, em10, ec10, c_1, ec1, c_2, c_3, c_6, c_7, c_7', up_s, up_n, nI_1, b2i]; done) | (simp_all [x_owedBest]; done) | grind [x_owedBest])) (by omega) (by omega) ls (lv_sub hl [2, 3, 4, 5, 1, 0] rfl)
              · -- c_7: x_owedBy (F 6) Rr c1 (i + 1) p3 < x_owedBy (F 6) Rr c1 x p3
                refine lv_iload hx hb dX0_owed_77 (lv_at hl 5 rfl) ?_
                refine lv_goto (tgt := 84) hx hb dX0_owed_79 (by decide) ?_
                refine lv_istore (lv' := [(4, .int (nI (i + 1))), (0, .ref h), (1, .int (nI c1)), (2, .int p2), (3, .int p3), (5, .int (nI (i + 1)))]) hx hb dX0_owed_84 hl (by decide) rfl (fun ls hl => ?_)
                refine lv_iinc (v := nI (i + 1 + 1)) (lv' := [(5, .int (nI (i + 1 + 1))), (4, .int (nI (i + 1))), (0, .ref h), (1, .int (nI c1)), (2, .int p2), (3, .int p3)]) hx hb dX0_owed_86 hl (k := 5) rfl (mk_inc _) (by decide) rfl (fun ls hl => ?_)
                refine lv_goto (tgt := 51) hx hb dX0_owed_89 (by decide) ?_
                exact L_5ih  (i + 1) (i + 1) (by omega) (by first | (rw [itr_s, ← qx]; done) | (rw [itr_s, ← qx]; first | (simp [x_owedBest, em10, ec10, c_1, ec1, c_2, c_3, c_6, c_7, c_7', up_s, up_n, nI_1, b2i]; done) | (simp_all [x_owedBest]; done) | grind [x_owedBest])) (by omega) (by omega) ls (lv_sub hl [2, 3, 4, 5, 1, 0] rfl)
        exact L_5 ((8 - 0) + 1) 0 0 (Nat.zero_le _) (by first | rfl | (simp only [itr]; assumption) | (simp [itr, em10, ec10, c_1, ec1, c_2, c_3, up_s, up_n, nI_1, b2i]; done)) (by omega) (Nat.lt_succ_self _) ls (lv_sub hl [2, 3, 4, 5, 1, 0] rfl)
      · -- c_3: inB 0 999 p3 = false
        refine lv_ldc (v := (-1000001)) hx hb hown (hts _ q234) dX0_owed_28 ?_
        exact W.iret (v := (-1000001)) hx hb hr (fun t9 ht9 hW9 => ⟨_, rfl, (by first | (simp [x_owed, em10, ec10, c_1, ec1, c_2, c_3, up_s, up_n, nI_1, b2i]; done) | (simp_all [x_owed]; done) | grind [x_owed]), ht9⟩) (fun _ h9 => by cases h9) dX0_owed_30
    · -- c_2: p2 ≠ (-1000000)
      refine lv_iload_n hx hb dX0_owed_14 rfl (lv_at hl 2 rfl) ?_
      refine s_cI (v := b2i (inB 0 8 p2)) (As := [.int p2]) (rest := []) S (metX0_isGate l p2) (va_cwS 1 hts (lw_S q388 q389 q57 q390) rfl rfl rfl (by decide +kernel) ⟨Nat.le_of_ble_eq_true rfl, Nat.le_of_ble_eq_true rfl⟩) rfl hl.1 rfl (Nat.le_of_ble_eq_true rfl) dX0_owed_15 ⟨Nat.le_of_ble_eq_true rfl, Nat.le_of_ble_eq_true rfl⟩ ?_
      refine lz_if_eq (tgt := 28) hx hb dX0_owed_18 (by decide) (fun c_8 => ?_) (fun c_8 => ?_)
      · -- c_8: inB 0 8 p2 = false
        refine lv_ldc (v := (-1000001)) hx hb hown (hts _ q234) dX0_owed_28 ?_
        exact W.iret (v := (-1000001)) hx hb hr (fun t9 ht9 hW9 => ⟨_, rfl, (by first | (simp [x_owed, em10, ec10, c_1, ec1, c_2, c_8, up_s, up_n, nI_1, b2i]; done) | (simp_all [x_owed]; done) | grind [x_owed]), ht9⟩) (fun _ h9 => by cases h9) dX0_owed_30
      · -- c_8: inB 0 8 p2 = true
        obtain ⟨g1, hg1, rfl⟩ := inB_ex c_8 (n := 8) rfl
        have eg1 : (nI g1).toNatClampNeg = g1 := nI_clamp (by omega)
        refine lv_iload_n hx hb dX0_owed_21 rfl (lv_at hl 3 rfl) ?_
        refine s_cI (v := b2i (inB 0 999 p3)) (As := [.int p3]) (rest := []) S (metX0_isDay l p3) (va_cwS 1 hts (lw_S q824 q825 q57 q826) rfl rfl rfl (by decide +kernel) ⟨Nat.le_of_ble_eq_true rfl, Nat.le_of_ble_eq_true rfl⟩) rfl hl.1 rfl (Nat.le_of_ble_eq_true rfl) dX0_owed_22 ⟨Nat.le_of_ble_eq_true rfl, Nat.le_of_ble_eq_true rfl⟩ ?_
        refine lz_if_ne (tgt := 31) hx hb dX0_owed_25 (by decide) (fun c_9 => ?_) (fun c_9 => ?_)
        · -- c_9: inB 0 999 p3 = true
          refine lv_iload_n hx hb dX0_owed_31 rfl (lv_at hl 2 rfl) ?_
          refine lv_ldc (v := (-1000000)) hx hb hown (hts _ q147) dX0_owed_32 ?_
          refine lv_icmp_eq (tgt := 45) hx hb dX0_owed_34 (by decide) (fun c_10 => absurd c_10 c_2) (fun c_10 => ?_)
          refine lv_aload_n hx hb dX0_owed_37 rfl (lv_at hl 0 rfl) ?_
          refine lv_iload_n hx hb dX0_owed_38 rfl (lv_at hl 1 rfl) ?_
          refine lv_iload_n hx hb dX0_owed_39 rfl (lv_at hl 2 rfl) ?_
          refine lv_iload_n hx hb dX0_owed_40 rfl (lv_at hl 3 rfl) ?_
          refine x_cQ (v := x_owedBy (F 6) Rr c1 g1 p3) (As := [.int (nI c1), .int (nI g1), .int p3]) (rest := []) X M (metX0_owedBy l D dA A e0 h G T F Rr c1 g1 p3 (by omega) (by omega)) (cwV 3 hts (lw_V q859 q861 qs15 q57 q862) rfl rfl rfl (by decide +kernel) ⟨Nat.le_of_ble_eq_true rfl, Nat.le_of_ble_eq_true rfl⟩) rfl hl.1 rfl (Nat.le_of_ble_eq_true rfl) dX0_owed_41 ⟨Nat.le_of_ble_eq_true rfl, Nat.le_of_ble_eq_true rfl⟩ ?_
          exact W.iret (v := x_owedBy (F 6) Rr c1 g1 p3) hx hb hr (fun t9 ht9 hW9 => ⟨_, rfl, (by first | (simp [x_owed, em10, ec10, c_1, ec1, c_2, c_8, eg1, c_9, up_s, up_n, nI_1, b2i]; done) | (simp_all [x_owed]; done) | grind [x_owed]), ht9⟩) (fun _ h9 => by cases h9) dX0_owed_44
        · -- c_9: inB 0 999 p3 = false
          refine lv_ldc (v := (-1000001)) hx hb hown (hts _ q234) dX0_owed_28 ?_
          exact W.iret (v := (-1000001)) hx hb hr (fun t9 ht9 hW9 => ⟨_, rfl, (by first | (simp [x_owed, em10, ec10, c_1, ec1, c_2, c_8, eg1, c_9, up_s, up_n, nI_1, b2i]; done) | (simp_all [x_owed]; done) | grind [x_owed]), ht9⟩) (fun _ h9 => by cases h9) dX0_owed_30

def x_amissStep (F : Nat → Int32) (Rr : Nat → Nat → Int32) (g one fin : Int32) (k : Nat) (sum : Int32) : Int32 := sum + (if ¬ Rr 111 k = 0 ∧ (g = (-1000000) ∨ Rr 112 k = g) ∧ inB one fin (Rr 113 k) = true then x_owedBy (F 6) Rr (Rr 110 k).toNatClampNeg (Rr 112 k).toNatClampNeg (Rr 113 k) - Rr 115 k else 0)
def x_amiss (F : Nat → Int32) (Rr : Nat → Nat → Int32) (g one fin : Int32) : Int32 := if (¬ g = (-1000000) ∧ inB 0 8 g = false) ∨ (inB 0 999 one && inB one 999 fin) = false then (-1000001) else itr (x_amissStep F Rr g one fin) (F 11).toNatClampNeg 0
set_option maxHeartbeats 4000000 in
set_option maxRecDepth 100000 in
theorem metX0_amiss (l : Launch) (D : va_G) (dA : Nat → ClassId) (A : Nat → Prop) (e0 h : Nat) (G : xG) (T : va_W) (F : Nat → Int32) (Rr : Nat → Nat → Int32) (p1 : Int32) (p2 : Int32) (p3 : Int32) (h11p : ∀ k, k < (F 11).toNatClampNeg → cnB (Rr 110 k) 15 ∧ cnB (Rr 112 k) 8 ∧ (Rr 110 k).toNatClampNeg < (F 10).toNatClampNeg ∧ (Rr 111 k = 0 ∨ Rr 111 k = 1)) : Met l yX0_amiss (ws_ yX0_amiss cX0_amiss 7 (some .int)) ({ frames := 5, cells := 0, slots := 0, locals := 117 } : Room) (va_Pc [.ref h, .int p1, .int p2, .int p3] (xPre D dA A e0 h G T F Rr)) (vp_Si (fun r => r = x_amiss F Rr p1 p2 p3)) 0 0 (fun _ => False) := by
  refine Met.ofW (cc := cX0_amiss) (maxL := 7) (ret := (some .int)) (by decide) rfl ?_
  intro p e s m args below meth c s₁ B hml hv
  obtain ⟨rfl, hC, hP, hD, hI⟩ := hv
  have hx := B.exec
  have hb := B.bytes
  have hr := B.returns
  have hts := atoms_spec (ws := (ws_ yX0_amiss cX0_amiss 7 (some .int))) B.pre
  have hts : ∀ w ∈ lw_all, w.before _ s = true := fun w h => hts w (List.mem_cons_of_mem _ h)
  have hown : s.vm.findClass RX0 = some m.cls := findClass_of_methodNamed B.named
  have hlocks := B.notSynchronized
  have S : CallFix p m c cX0_amiss 7 s ([.ref h, .int p1, .int p2, .int p3] : List Value).toArray lw_all RX0 := ⟨hx, hb, hml, hown, hts⟩
  have X : xX RX0 p s m ([.ref h, .int p1, .int p2, .int p3] : List Value).toArray c cX0_amiss 7 D dA A e0 := ⟨S, hC⟩
  have M : xM D dA A e0 h G T s F Rr s.heap [] := ⟨hP, hD, va_S.rf, hI⟩
  have hl := lv_entry ([.ref h, .int p1, .int p2, .int p3]) (n := 7) (Nat.le_of_ble_eq_true rfl)
  rw [lg_entry_eq]
  generalize (lg_sl ([.ref h, .int p1, .int p2, .int p3]) ++ List.replicate (7 - (lg_sl ([.ref h, .int p1, .int p2, .int p3])).length) Slot.unset).toArray = ls at hl ⊢
  have hl : lv_has ls 7 [(0, .ref h), (1, .int p1), (2, .int p2), (3, .int p3)] := hl
  have h11 : cnB (F 11) 60 := hI.2.2.1.1
  obtain ⟨n11, hn11, en11⟩ := cnB_ex h11 (n := 60) rfl
  have em11 : (F 11).toNatClampNeg = n11 := by rw [en11]; exact nI_clamp (by omega)
  have ec11 : (nI n11).toNatClampNeg = n11 := nI_clamp (by omega)
  refine lv_iload_n hx hb dX0_amiss_0 rfl (lv_at hl 1 rfl) ?_
  refine lv_ldc (v := (-1000000)) hx hb hown (hts _ q147) dX0_amiss_1 ?_
  refine lv_icmp_eq (tgt := 13) hx hb dX0_amiss_3 (by decide) (fun c_1 => ?_) (fun c_1 => ?_)
  · -- c_1: p1 = (-1000000)
    refine lv_iload_n hx hb dX0_amiss_13 rfl (lv_at hl 2 rfl) ?_
    refine lv_iload_n hx hb dX0_amiss_14 rfl (lv_at hl 3 rfl) ?_
    refine s_cI (v := b2i (inB 0 999 p2 && inB p2 999 p3)) (As := [.int p2, .int p3]) (rest := []) S (metX0_areDays l p2 p3) (va_cwS 2 hts (lw_S q1027 q1028 q57 q1029) rfl rfl rfl (by decide +kernel) ⟨Nat.le_of_ble_eq_true rfl, Nat.le_of_ble_eq_true rfl⟩) rfl hl.1 rfl (Nat.le_of_ble_eq_true rfl) dX0_amiss_15 ⟨Nat.le_of_ble_eq_true rfl, Nat.le_of_ble_eq_true rfl⟩ ?_
    refine lz_if_ne (tgt := 24) hx hb dX0_amiss_18 (by decide) (fun c_2 => ?_) (fun c_2 => ?_)
    · -- c_2: inB 0 999 p2 && inB p2 999 p3 = true
      refine lv_iconst (v := 0) hx hb dX0_amiss_24 (by decide) ?_
      refine lv_istore (lv' := [(4, .int 0), (0, .ref h), (1, .int p1), (2, .int p2), (3, .int p3)]) hx hb dX0_amiss_25 hl (by decide) rfl (fun ls hl => ?_)
      refine lv_iconst (v := 0) hx hb dX0_amiss_27 (by decide) ?_
      refine lv_istore (lv' := [(5, .int 0), (4, .int 0), (0, .ref h), (1, .int p1), (2, .int p2), (3, .int p3)]) hx hb dX0_amiss_28 hl (by decide) rfl (fun ls hl => ?_)
      have L_3 : ∀ (fuL_3 : Nat) (i : Nat) (x : Int32), (i ≤ n11) → (x = itr (x_amissStep F Rr p1 p2 p3) i 0) → n11 - i < fuL_3 → ∀ ls, lv_has ls 7 [(0, .ref h), (1, .int p1), (2, .int p2), (3, .int p3), (4, .int x), (5, .int (nI i))] → W p l e ({ frames := 5, cells := 0, slots := 0, locals := 117 } : Room) s m ([.ref h, .int p1, .int p2, .int p3] : List Value).toArray below meth c s.heap [] 0 0 (MQ below (vp_Si (fun r => r = x_amiss F Rr p1 p2 p3)) ([.ref h, .int p1, .int p2, .int p3] : List Value).toArray s 0 0 (fun _ => False)) (F0 m 30 ls []) := by
        intro fuL_3
        induction fuL_3 with
        | zero => intro i x hi qx hfuL_3; exact absurd hfuL_3 (Nat.not_lt_zero _)
        | succ fuL_3 L_3ih =>
          intro i x hi qx hfuL_3 ls hl
          refine lv_iload hx hb dX0_amiss_30 (lv_at hl 5 rfl) ?_
          refine lv_aload_n hx hb dX0_amiss_32 rfl (lv_at hl 0 rfl) ?_
          refine xg_11 X M dX0_amiss_33 ?_
          refine xl_size_11 X M (v := F 11) rfl hl.1 ⟨Nat.le_of_ble_eq_true rfl, Nat.le_of_ble_eq_true rfl⟩ ⟨Nat.le_of_ble_eq_true rfl, Nat.le_of_ble_eq_true rfl⟩ (Nat.le_of_ble_eq_true rfl) dX0_amiss_36 ?_
          refine lv_asi (y := nI n11) en11 ?_
          refine ln_icmp_ge (tgt := 139) hx hb (a := i) (b := n11) (by omega) (by omega) dX0_amiss_41 (by decide) (fun c_4 => ?_) (fun c_4 => ?_)
          · -- c_4: nI i ≥ nI n11
            have ei : i = n11 := by omega
            rw [ei] at qx
            refine lv_iload hx hb dX0_amiss_139 (lv_at hl 4 rfl) ?_
            exact W.iret (v := x) hx hb hr (fun t9 ht9 hW9 => ⟨_, rfl, (by unfold x_amiss; rw [if_neg (by simp [em11, ec11, c_1, c_2, c_4]), em11]; exact qx), ht9⟩) (fun _ h9 => by cases h9) dX0_amiss_141
          · -- c_4: nI i < nI n11
            refine lv_aload_n hx hb dX0_amiss_44 rfl (lv_at hl 0 rfl) ?_
            refine xg_11 X M dX0_amiss_45 ?_
            refine lv_iload hx hb dX0_amiss_48 (lv_at hl 5 rfl) ?_
            have k_5 : i < (F 11).toNatClampNeg := (by omega)
            refine xl_get_11 X M (k := i) rfl k_5 hl.1 ⟨Nat.le_of_ble_eq_true rfl, Nat.le_of_ble_eq_true rfl⟩ ⟨Nat.le_of_ble_eq_true rfl, Nat.le_of_ble_eq_true rfl⟩ (Nat.le_of_ble_eq_true rfl) dX0_amiss_50 ?_
            refine xk_11 X M (k := i) k_5 dX0_amiss_55 ?_
            refine lv_astore (lv' := [(6, .ref (xea G 11 i)), (0, .ref h), (1, .int p1), (2, .int p2), (3, .int p3), (4, .int x), (5, .int (nI i))]) hx hb dX0_amiss_58 hl (by decide) rfl (fun ls hl => ?_)
            refine lv_iload hx hb dX0_amiss_60 (lv_at hl 5 rfl) ?_
            refine lv_aload hx hb dX0_amiss_62 (lv_at hl 0 rfl) ?_
            refine xo_11_1 X M (k := i) k_5 dX0_amiss_64 ?_
            refine lv_if_eq (tgt := 129) hx hb dX0_amiss_67 (by decide) (fun c_6 => ?_) (fun c_6 => ?_)
            · -- c_6: Rr 111 i = 0
              refine lv_iconst (v := 0) hx hb dX0_amiss_129 (by decide) ?_
              refine lv_iadd hx hb dX0_amiss_130 ?_
              refine lv_istore (lv' := [(4, .int (x + 0)), (6, .ref (xea G 11 i)), (0, .ref h), (1, .int p1), (2, .int p2), (3, .int p3), (5, .int (nI i))]) hx hb dX0_amiss_131 hl (by decide) rfl (fun ls hl => ?_)
              refine lv_iinc (v := nI (i + 1)) (lv' := [(5, .int (nI (i + 1))), (4, .int (x + 0)), (6, .ref (xea G 11 i)), (0, .ref h), (1, .int p1), (2, .int p2), (3, .int p3)]) hx hb dX0_amiss_133 hl (k := 6) rfl (mk_inc _) (by decide) rfl (fun ls hl => ?_)
              refine lv_goto (tgt := 30) hx hb dX0_amiss_136 (by decide) ?_
              exact L_3ih  (i + 1) (x + 0) (by omega) (by first | (rw [itr_s, ← qx]; done) | (rw [itr_s, ← qx]; first | (simp [x_amissStep, em11, ec11, c_1, c_2, c_4, c_6, up_s, up_n, nI_1, b2i]; done) | (simp_all [x_amissStep]; done) | grind [x_amissStep])) (by omega) ls (lv_sub hl [3, 4, 5, 6, 1, 0] rfl)
            · -- c_6: Rr 111 i ≠ 0
              refine lv_iload_n hx hb dX0_amiss_70 rfl (lv_at hl 2 rfl) ?_
              refine lv_ldc (v := (-1000000)) hx hb hown (hts _ q147) dX0_amiss_71 ?_
              refine lv_icmp_eq (tgt := 85) hx hb dX0_amiss_73 (by decide) (fun c_7 => ?_) (fun c_7 => absurd c_1 c_7)
              refine lv_aload hx hb dX0_amiss_85 (lv_at hl 0 rfl) ?_
              refine xo_11_3 X M (k := i) k_5 dX0_amiss_87 ?_
              refine lv_i2l (v := (Rr 113 i).toInt64) hx hb dX0_amiss_90 rfl ?_
              refine lv_iload_n hx hb dX0_amiss_91 rfl (lv_at hl 3 rfl) ?_
              refine lv_i2l (v := p2.toInt64) hx hb dX0_amiss_92 rfl ?_
              refine lv_iload_n hx hb dX0_amiss_93 rfl (lv_at hl 4 rfl) ?_
              refine lv_i2l (v := p3.toInt64) hx hb dX0_amiss_94 rfl ?_
              refine s_cI (v := b2i (inB p2 p3 (Rr 113 i))) (As := [.long ((Rr 113 i).toInt64), .long p2.toInt64, .long p3.toInt64]) (rest := [.int x]) S (metX0_isInI l (Rr 113 i) p2 p3 ((Rr 113 i).toInt64) p2.toInt64 p3.toInt64 rfl rfl rfl) (va_cwS 3 hts (lw_S q230 q231 q57 q232) rfl rfl rfl (by decide +kernel) ⟨Nat.le_of_ble_eq_true rfl, Nat.le_of_ble_eq_true rfl⟩) rfl hl.1 rfl (Nat.le_of_ble_eq_true rfl) dX0_amiss_95 ⟨Nat.le_of_ble_eq_true rfl, Nat.le_of_ble_eq_true rfl⟩ ?_
              refine lz_if_eq (tgt := 129) hx hb dX0_amiss_98 (by decide) (fun c_8 => ?_) (fun c_8 => ?_)
              · -- c_8: inB p2 p3 (Rr 113 i) = false
                refine lv_iconst (v := 0) hx hb dX0_amiss_129 (by decide) ?_
                refine lv_iadd hx hb dX0_amiss_130 ?_
                refine lv_istore (lv' := [(4, .int (x + 0)), (6, .ref (xea G 11 i)), (0, .ref h), (1, .int p1), (2, .int p2), (3, .int p3), (5, .int (nI i))]) hx hb dX0_amiss_131 hl (by decide) rfl (fun ls hl => ?_)
                refine lv_iinc (v := nI (i + 1)) (lv' := [(5, .int (nI (i + 1))), (4, .int (x + 0)), (6, .ref (xea G 11 i)), (0, .ref h), (1, .int p1), (2, .int p2), (3, .int p3)]) hx hb dX0_amiss_133 hl (k := 6) rfl (mk_inc _) (by decide) rfl (fun ls hl => ?_)
                refine lv_goto (tgt := 30) hx hb dX0_amiss_136 (by decide) ?_
                exact L_3ih  (i + 1) (x + 0) (by omega) (by first | (rw [itr_s, ← qx]; done) | (rw [itr_s, ← qx]; first | (simp [x_amissStep, em11, ec11, c_1, c_2, c_4, c_6, c_8, up_s, up_n, nI_1, b2i]; done) | (simp_all [x_amissStep]; done) | grind [x_amissStep])) (by omega) ls (lv_sub hl [3, 4, 5, 6, 1, 0] rfl)
              · -- c_8: inB p2 p3 (Rr 113 i) = true
                refine lv_aload_n hx hb dX0_amiss_101 rfl (lv_at hl 1 rfl) ?_
                refine lv_aload hx hb dX0_amiss_102 (lv_at hl 0 rfl) ?_
                refine xo_11_0 X M (k := i) k_5 dX0_amiss_104 ?_
                have b_9 : (Rr 110 i).toNatClampNeg ≤ 15 := cnB_le (h11p i (by omega)).1 rfl
                refine lv_asi (y := nI (Rr 110 i).toNatClampNeg) (nJ_of ((h11p i (by omega)).1).1) ?_
                refine lv_aload hx hb dX0_amiss_107 (lv_at hl 0 rfl) ?_
                refine xo_11_2 X M (k := i) k_5 dX0_amiss_109 ?_
                have b_10 : (Rr 112 i).toNatClampNeg ≤ 8 := cnB_le (h11p i (by omega)).2.1 rfl
                refine lv_asi (y := nI (Rr 112 i).toNatClampNeg) (nJ_of ((h11p i (by omega)).2.1).1) ?_
                refine lv_aload hx hb dX0_amiss_112 (lv_at hl 0 rfl) ?_
                refine xo_11_3 X M (k := i) k_5 dX0_amiss_114 ?_
                refine x_cQ (v := x_owedBy (F 6) Rr ((Rr 110 i).toNatClampNeg) ((Rr 112 i).toNatClampNeg) (Rr 113 i)) (As := [.int (nI ((Rr 110 i).toNatClampNeg)), .int (nI ((Rr 112 i).toNatClampNeg)), .int (Rr 113 i)]) (rest := [.int x]) X M (metX0_owedBy l D dA A e0 h G T F Rr ((Rr 110 i).toNatClampNeg) ((Rr 112 i).toNatClampNeg) (Rr 113 i) ((h11p i (by omega)).2.2.1) (by omega)) (cwV 3 hts (lw_V q859 q861 qs15 q57 q862) rfl rfl rfl (by decide +kernel) ⟨Nat.le_of_ble_eq_true rfl, Nat.le_of_ble_eq_true rfl⟩) rfl hl.1 rfl (Nat.le_of_ble_eq_true rfl) dX0_amiss_117 ⟨Nat.le_of_ble_eq_true rfl, Nat.le_of_ble_eq_true rfl⟩ ?_
                refine lv_aload hx hb dX0_amiss_120 (lv_at hl 0 rfl) ?_
                refine xo_11_5 X M (k := i) k_5 dX0_amiss_122 ?_
                refine lv_isub hx hb dX0_amiss_125 ?_
                refine lv_goto (tgt := 130) hx hb dX0_amiss_126 (by decide) ?_
                refine lv_iadd hx hb dX0_amiss_130 ?_
                refine lv_istore (lv' := [(4, .int (x + ((x_owedBy (F 6) Rr ((Rr 110 i).toNatClampNeg) ((Rr 112 i).toNatClampNeg) (Rr 113 i)) - (Rr 115 i)))), (6, .ref (xea G 11 i)), (0, .ref h), (1, .int p1), (2, .int p2), (3, .int p3), (5, .int (nI i))]) hx hb dX0_amiss_131 hl (by decide) rfl (fun ls hl => ?_)
                refine lv_iinc (v := nI (i + 1)) (lv' := [(5, .int (nI (i + 1))), (4, .int (x + ((x_owedBy (F 6) Rr ((Rr 110 i).toNatClampNeg) ((Rr 112 i).toNatClampNeg) (Rr 113 i)) - (Rr 115 i)))), (6, .ref (xea G 11 i)), (0, .ref h), (1, .int p1), (2, .int p2), (3, .int p3)]) hx hb dX0_amiss_133 hl (k := 6) rfl (mk_inc _) (by decide) rfl (fun ls hl => ?_)
                refine lv_goto (tgt := 30) hx hb dX0_amiss_136 (by decide) ?_
                exact L_3ih  (i + 1) (x + ((x_owedBy (F 6) Rr ((Rr 110 i).toNatClampNeg) ((Rr 112 i).toNatClampNeg) (Rr 113 i)) - (Rr 115 i))) (by omega) (by first | (rw [itr_s, ← qx]; done) | (rw [itr_s, ← qx]; first | (simp [x_amissStep, em11, ec11, c_1, c_2, c_4, c_6, c_8, up_s, up_n, nI_1, b2i]; done) | (simp_all [x_amissStep]; done) | grind [x_amissStep])) (by omega) ls (lv_sub hl [3, 4, 5, 6, 1, 0] rfl)
      exact L_3 ((n11 - 0) + 1) 0 0 (Nat.zero_le _) (by first | rfl | (simp only [itr]; assumption) | (simp [itr, em11, ec11, c_1, c_2, up_s, up_n, nI_1, b2i]; done)) (Nat.lt_succ_self _) ls (lv_sub hl [2, 3, 4, 5, 1, 0] rfl)
    · -- c_2: inB 0 999 p2 && inB p2 999 p3 = false
      refine lv_ldc (v := (-1000001)) hx hb hown (hts _ q234) dX0_amiss_21 ?_
      exact W.iret (v := (-1000001)) hx hb hr (fun t9 ht9 hW9 => ⟨_, rfl, (by simp [x_amiss, em11, ec11, c_1, c_2]), ht9⟩) (fun _ h9 => by cases h9) dX0_amiss_23
  · -- c_1: p1 ≠ (-1000000)
    refine lv_iload_n hx hb dX0_amiss_6 rfl (lv_at hl 1 rfl) ?_
    refine s_cI (v := b2i (inB 0 8 p1)) (As := [.int p1]) (rest := []) S (metX0_isGate l p1) (va_cwS 1 hts (lw_S q388 q389 q57 q390) rfl rfl rfl (by decide +kernel) ⟨Nat.le_of_ble_eq_true rfl, Nat.le_of_ble_eq_true rfl⟩) rfl hl.1 rfl (Nat.le_of_ble_eq_true rfl) dX0_amiss_7 ⟨Nat.le_of_ble_eq_true rfl, Nat.le_of_ble_eq_true rfl⟩ ?_
    refine lz_if_eq (tgt := 21) hx hb dX0_amiss_10 (by decide) (fun c_11 => ?_) (fun c_11 => ?_)
    · -- c_11: inB 0 8 p1 = false
      refine lv_ldc (v := (-1000001)) hx hb hown (hts _ q234) dX0_amiss_21 ?_
      exact W.iret (v := (-1000001)) hx hb hr (fun t9 ht9 hW9 => ⟨_, rfl, (by simp [x_amiss, em11, ec11, c_1, c_11]), ht9⟩) (fun _ h9 => by cases h9) dX0_amiss_23
    · -- c_11: inB 0 8 p1 = true
      refine lv_iload_n hx hb dX0_amiss_13 rfl (lv_at hl 2 rfl) ?_
      refine lv_iload_n hx hb dX0_amiss_14 rfl (lv_at hl 3 rfl) ?_
      refine s_cI (v := b2i (inB 0 999 p2 && inB p2 999 p3)) (As := [.int p2, .int p3]) (rest := []) S (metX0_areDays l p2 p3) (va_cwS 2 hts (lw_S q1027 q1028 q57 q1029) rfl rfl rfl (by decide +kernel) ⟨Nat.le_of_ble_eq_true rfl, Nat.le_of_ble_eq_true rfl⟩) rfl hl.1 rfl (Nat.le_of_ble_eq_true rfl) dX0_amiss_15 ⟨Nat.le_of_ble_eq_true rfl, Nat.le_of_ble_eq_true rfl⟩ ?_
      refine lz_if_ne (tgt := 24) hx hb dX0_amiss_18 (by decide) (fun c_12 => ?_) (fun c_12 => ?_)
      · -- c_12: inB 0 999 p2 && inB p2 999 p3 = true
        refine lv_iconst (v := 0) hx hb dX0_amiss_24 (by decide) ?_
        refine lv_istore (lv' := [(4, .int 0), (0, .ref h), (1, .int p1), (2, .int p2), (3, .int p3)]) hx hb dX0_amiss_25 hl (by decide) rfl (fun ls hl => ?_)
        refine lv_iconst (v := 0) hx hb dX0_amiss_27 (by decide) ?_
        refine lv_istore (lv' := [(5, .int 0), (4, .int 0), (0, .ref h), (1, .int p1), (2, .int p2), (3, .int p3)]) hx hb dX0_amiss_28 hl (by decide) rfl (fun ls hl => ?_)
        have L_13 : ∀ (fuL_13 : Nat) (i : Nat) (x : Int32), (i ≤ n11) → (x = itr (x_amissStep F Rr p1 p2 p3) i 0) → n11 - i < fuL_13 → ∀ ls, lv_has ls 7 [(0, .ref h), (1, .int p1), (2, .int p2), (3, .int p3), (4, .int x), (5, .int (nI i))] → W p l e ({ frames := 5, cells := 0, slots := 0, locals := 117 } : Room) s m ([.ref h, .int p1, .int p2, .int p3] : List Value).toArray below meth c s.heap [] 0 0 (MQ below (vp_Si (fun r => r = x_amiss F Rr p1 p2 p3)) ([.ref h, .int p1, .int p2, .int p3] : List Value).toArray s 0 0 (fun _ => False)) (F0 m 30 ls []) := by
          intro fuL_13
          induction fuL_13 with
          | zero => intro i x hi qx hfuL_13; exact absurd hfuL_13 (Nat.not_lt_zero _)
          | succ fuL_13 L_13ih =>
            intro i x hi qx hfuL_13 ls hl
            refine lv_iload hx hb dX0_amiss_30 (lv_at hl 5 rfl) ?_
            refine lv_aload_n hx hb dX0_amiss_32 rfl (lv_at hl 0 rfl) ?_
            refine xg_11 X M dX0_amiss_33 ?_
            refine xl_size_11 X M (v := F 11) rfl hl.1 ⟨Nat.le_of_ble_eq_true rfl, Nat.le_of_ble_eq_true rfl⟩ ⟨Nat.le_of_ble_eq_true rfl, Nat.le_of_ble_eq_true rfl⟩ (Nat.le_of_ble_eq_true rfl) dX0_amiss_36 ?_
            refine lv_asi (y := nI n11) en11 ?_
            refine ln_icmp_ge (tgt := 139) hx hb (a := i) (b := n11) (by omega) (by omega) dX0_amiss_41 (by decide) (fun c_14 => ?_) (fun c_14 => ?_)
            · -- c_14: nI i ≥ nI n11
              have ei : i = n11 := by omega
              rw [ei] at qx
              refine lv_iload hx hb dX0_amiss_139 (lv_at hl 4 rfl) ?_
              exact W.iret (v := x) hx hb hr (fun t9 ht9 hW9 => ⟨_, rfl, (by unfold x_amiss; rw [if_neg (by simp [em11, ec11, c_1, c_11, c_12, c_14]), em11]; exact qx), ht9⟩) (fun _ h9 => by cases h9) dX0_amiss_141
            · -- c_14: nI i < nI n11
              refine lv_aload_n hx hb dX0_amiss_44 rfl (lv_at hl 0 rfl) ?_
              refine xg_11 X M dX0_amiss_45 ?_
              refine lv_iload hx hb dX0_amiss_48 (lv_at hl 5 rfl) ?_
              have k_15 : i < (F 11).toNatClampNeg := (by omega)
              refine xl_get_11 X M (k := i) rfl k_15 hl.1 ⟨Nat.le_of_ble_eq_true rfl, Nat.le_of_ble_eq_true rfl⟩ ⟨Nat.le_of_ble_eq_true rfl, Nat.le_of_ble_eq_true rfl⟩ (Nat.le_of_ble_eq_true rfl) dX0_amiss_50 ?_
              refine xk_11 X M (k := i) k_15 dX0_amiss_55 ?_
              refine lv_astore (lv' := [(6, .ref (xea G 11 i)), (0, .ref h), (1, .int p1), (2, .int p2), (3, .int p3), (4, .int x), (5, .int (nI i))]) hx hb dX0_amiss_58 hl (by decide) rfl (fun ls hl => ?_)
              refine lv_iload hx hb dX0_amiss_60 (lv_at hl 5 rfl) ?_
              refine lv_aload hx hb dX0_amiss_62 (lv_at hl 0 rfl) ?_
              refine xo_11_1 X M (k := i) k_15 dX0_amiss_64 ?_
              refine lv_if_eq (tgt := 129) hx hb dX0_amiss_67 (by decide) (fun c_16 => ?_) (fun c_16 => ?_)
              · -- c_16: Rr 111 i = 0
                refine lv_iconst (v := 0) hx hb dX0_amiss_129 (by decide) ?_
                refine lv_iadd hx hb dX0_amiss_130 ?_
                refine lv_istore (lv' := [(4, .int (x + 0)), (6, .ref (xea G 11 i)), (0, .ref h), (1, .int p1), (2, .int p2), (3, .int p3), (5, .int (nI i))]) hx hb dX0_amiss_131 hl (by decide) rfl (fun ls hl => ?_)
                refine lv_iinc (v := nI (i + 1)) (lv' := [(5, .int (nI (i + 1))), (4, .int (x + 0)), (6, .ref (xea G 11 i)), (0, .ref h), (1, .int p1), (2, .int p2), (3, .int p3)]) hx hb dX0_amiss_133 hl (k := 6) rfl (mk_inc _) (by decide) rfl (fun ls hl => ?_)
                refine lv_goto (tgt := 30) hx hb dX0_amiss_136 (by decide) ?_
                exact L_13ih  (i + 1) (x + 0) (by omega) (by first | (rw [itr_s, ← qx]; done) | (rw [itr_s, ← qx]; first | (simp [x_amissStep, em11, ec11, c_1, c_11, c_12, c_14, c_16, up_s, up_n, nI_1, b2i]; done) | (simp_all [x_amissStep]; done) | grind [x_amissStep])) (by omega) ls (lv_sub hl [3, 4, 5, 6, 1, 0] rfl)
              · -- c_16: Rr 111 i ≠ 0
                refine lv_iload_n hx hb dX0_amiss_70 rfl (lv_at hl 2 rfl) ?_
                refine lv_ldc (v := (-1000000)) hx hb hown (hts _ q147) dX0_amiss_71 ?_
                refine lv_icmp_eq (tgt := 85) hx hb dX0_amiss_73 (by decide) (fun c_17 => absurd c_17 c_1) (fun c_17 => ?_)
                refine lv_aload hx hb dX0_amiss_76 (lv_at hl 0 rfl) ?_
                refine xo_11_2 X M (k := i) k_15 dX0_amiss_78 ?_
                refine lv_iload_n hx hb dX0_amiss_81 rfl (lv_at hl 2 rfl) ?_
                refine lv_icmp_ne (tgt := 129) hx hb dX0_amiss_82 (by decide) (fun c_18 => ?_) (fun c_18 => ?_)
                · -- c_18: Rr 112 i ≠ p1
                  refine lv_iconst (v := 0) hx hb dX0_amiss_129 (by decide) ?_
                  refine lv_iadd hx hb dX0_amiss_130 ?_
                  refine lv_istore (lv' := [(4, .int (x + 0)), (6, .ref (xea G 11 i)), (0, .ref h), (1, .int p1), (2, .int p2), (3, .int p3), (5, .int (nI i))]) hx hb dX0_amiss_131 hl (by decide) rfl (fun ls hl => ?_)
                  refine lv_iinc (v := nI (i + 1)) (lv' := [(5, .int (nI (i + 1))), (4, .int (x + 0)), (6, .ref (xea G 11 i)), (0, .ref h), (1, .int p1), (2, .int p2), (3, .int p3)]) hx hb dX0_amiss_133 hl (k := 6) rfl (mk_inc _) (by decide) rfl (fun ls hl => ?_)
                  refine lv_goto (tgt := 30) hx hb dX0_amiss_136 (by decide) ?_
                  exact L_13ih  (i + 1) (x + 0) (by omega) (by first | (rw [itr_s, ← qx]; done) | (rw [itr_s, ← qx]; first | (simp [x_amissStep, em11, ec11, c_1, c_11, c_12, c_14, c_16, c_18, up_s, up_n, nI_1, b2i]; done) | (simp_all [x_amissStep]; done) | grind [x_amissStep])) (by omega) ls (lv_sub hl [3, 4, 5, 6, 1, 0] rfl)
                · -- c_18: Rr 112 i = p1
                  refine lv_aload hx hb dX0_amiss_85 (lv_at hl 0 rfl) ?_
                  refine xo_11_3 X M (k := i) k_15 dX0_amiss_87 ?_
                  refine lv_i2l (v := (Rr 113 i).toInt64) hx hb dX0_amiss_90 rfl ?_
                  refine lv_iload_n hx hb dX0_amiss_91 rfl (lv_at hl 3 rfl) ?_
                  refine lv_i2l (v := p2.toInt64) hx hb dX0_amiss_92 rfl ?_
                  refine lv_iload_n hx hb dX0_amiss_93 rfl (lv_at hl 4 rfl) ?_
                  refine lv_i2l (v := p3.toInt64) hx hb dX0_amiss_94 rfl ?_
                  refine s_cI (v := b2i (inB p2 p3 (Rr 113 i))) (As := [.long ((Rr 113 i).toInt64), .long p2.toInt64, .long p3.toInt64]) (rest := [.int x]) S (metX0_isInI l (Rr 113 i) p2 p3 ((Rr 113 i).toInt64) p2.toInt64 p3.toInt64 rfl rfl rfl) (va_cwS 3 hts (lw_S q230 q231 q57 q232) rfl rfl rfl (by decide +kernel) ⟨Nat.le_of_ble_eq_true rfl, Nat.le_of_ble_eq_true rfl⟩) rfl hl.1 rfl (Nat.le_of_ble_eq_true rfl) dX0_amiss_95 ⟨Nat.le_of_ble_eq_true rfl, Nat.le_of_ble_eq_true rfl⟩ ?_
                  refine lz_if_eq (tgt := 129) hx hb dX0_amiss_98 (by decide) (fun c_19 => ?_) (fun c_19 => ?_)
                  · -- c_19: inB p2 p3 (Rr 113 i) = false
                    refine lv_iconst (v := 0) hx hb dX0_amiss_129 (by decide) ?_
                    refine lv_iadd hx hb dX0_amiss_130 ?_
                    refine lv_istore (lv' := [(4, .int (x + 0)), (6, .ref (xea G 11 i)), (0, .ref h), (1, .int p1), (2, .int p2), (3, .int p3), (5, .int (nI i))]) hx hb dX0_amiss_131 hl (by decide) rfl (fun ls hl => ?_)
                    refine lv_iinc (v := nI (i + 1)) (lv' := [(5, .int (nI (i + 1))), (4, .int (x + 0)), (6, .ref (xea G 11 i)), (0, .ref h), (1, .int p1), (2, .int p2), (3, .int p3)]) hx hb dX0_amiss_133 hl (k := 6) rfl (mk_inc _) (by decide) rfl (fun ls hl => ?_)
                    refine lv_goto (tgt := 30) hx hb dX0_amiss_136 (by decide) ?_
                    exact L_13ih  (i + 1) (x + 0) (by omega) (by first | (rw [itr_s, ← qx]; done) | (rw [itr_s, ← qx]; first | (simp [x_amissStep, em11, ec11, c_1, c_11, c_12, c_14, c_16, c_18, c_19, up_s, up_n, nI_1, b2i]; done) | (simp_all [x_amissStep]; done) | grind [x_amissStep])) (by omega) ls (lv_sub hl [3, 4, 5, 6, 1, 0] rfl)
                  · -- c_19: inB p2 p3 (Rr 113 i) = true
                    refine lv_aload_n hx hb dX0_amiss_101 rfl (lv_at hl 1 rfl) ?_
                    refine lv_aload hx hb dX0_amiss_102 (lv_at hl 0 rfl) ?_
                    refine xo_11_0 X M (k := i) k_15 dX0_amiss_104 ?_
                    have b_20 : (Rr 110 i).toNatClampNeg ≤ 15 := cnB_le (h11p i (by omega)).1 rfl
                    refine lv_asi (y := nI (Rr 110 i).toNatClampNeg) (nJ_of ((h11p i (by omega)).1).1) ?_
                    refine lv_aload hx hb dX0_amiss_107 (lv_at hl 0 rfl) ?_
                    refine xo_11_2 X M (k := i) k_15 dX0_amiss_109 ?_
                    have b_21 : (Rr 112 i).toNatClampNeg ≤ 8 := cnB_le (h11p i (by omega)).2.1 rfl
                    refine lv_asi (y := nI (Rr 112 i).toNatClampNeg) (nJ_of ((h11p i (by omega)).2.1).1) ?_
                    refine lv_aload hx hb dX0_amiss_112 (lv_at hl 0 rfl) ?_
                    refine xo_11_3 X M (k := i) k_15 dX0_amiss_114 ?_
                    refine x_cQ (v := x_owedBy (F 6) Rr ((Rr 110 i).toNatClampNeg) ((Rr 112 i).toNatClampNeg) (Rr 113 i)) (As := [.int (nI ((Rr 110 i).toNatClampNeg)), .int (nI ((Rr 112 i).toNatClampNeg)), .int (Rr 113 i)]) (rest := [.int x]) X M (metX0_owedBy l D dA A e0 h G T F Rr ((Rr 110 i).toNatClampNeg) ((Rr 112 i).toNatClampNeg) (Rr 113 i) ((h11p i (by omega)).2.2.1) (by omega)) (cwV 3 hts (lw_V q859 q861 qs15 q57 q862) rfl rfl rfl (by decide +kernel) ⟨Nat.le_of_ble_eq_true rfl, Nat.le_of_ble_eq_true rfl⟩) rfl hl.1 rfl (Nat.le_of_ble_eq_true rfl) dX0_amiss_117 ⟨Nat.le_of_ble_eq_true rfl, Nat.le_of_ble_eq_true rfl⟩ ?_
                    refine lv_aload hx hb dX0_amiss_120 (lv_at hl 0 rfl) ?_
                    refine xo_11_5 X M (k := i) k_15 dX0_amiss_122 ?_
                    refine lv_isub hx hb dX0_amiss_125 ?_
                    refine lv_goto (tgt := 130) hx hb dX0_amiss_126 (by decide) ?_
                    refine lv_iadd hx hb dX0_amiss_130 ?_
                    refine lv_istore (lv' := [(4, .int (x + ((x_owedBy (F 6) Rr ((Rr 110 i).toNatClampNeg) ((Rr 112 i).toNatClampNeg) (Rr 113 i)) - (Rr 115 i)))), (6, .ref (xea G 11 i)), (0, .ref h), (1, .int p1), (2, .int p2), (3, .int p3), (5, .int (nI i))]) hx hb dX0_amiss_131 hl (by decide) rfl (fun ls hl => ?_)
                    refine lv_iinc (v := nI (i + 1)) (lv' := [(5, .int (nI (i + 1))), (4, .int (x + ((x_owedBy (F 6) Rr ((Rr 110 i).toNatClampNeg) ((Rr 112 i).toNatClampNeg) (Rr 113 i)) - (Rr 115 i)))), (6, .ref (xea G 11 i)), (0, .ref h), (1, .int p1), (2, .int p2), (3, .int p3)]) hx hb dX0_amiss_133 hl (k := 6) rfl (mk_inc _) (by decide) rfl (fun ls hl => ?_)
                    refine lv_goto (tgt := 30) hx hb dX0_amiss_136 (by decide) ?_
                    exact L_13ih  (i + 1) (x + ((x_owedBy (F 6) Rr ((Rr 110 i).toNatClampNeg) ((Rr 112 i).toNatClampNeg) (Rr 113 i)) - (Rr 115 i))) (by omega) (by first | (rw [itr_s, ← qx]; done) | (rw [itr_s, ← qx]; first | (simp [x_amissStep, em11, ec11, c_1, c_11, c_12, c_14, c_16, c_18, c_19, up_s, up_n, nI_1, b2i]; done) | (simp_all [x_amissStep]; done) | grind [x_amissStep])) (by omega) ls (lv_sub hl [3, 4, 5, 6, 1, 0] rfl)
        exact L_13 ((n11 - 0) + 1) 0 0 (Nat.zero_le _) (by first | rfl | (simp only [itr]; assumption) | (simp [itr, em11, ec11, c_1, c_11, c_12, up_s, up_n, nI_1, b2i]; done)) (Nat.lt_succ_self _) ls (lv_sub hl [2, 3, 4, 5, 1, 0] rfl)
      · -- c_12: inB 0 999 p2 && inB p2 999 p3 = false
        refine lv_ldc (v := (-1000001)) hx hb hown (hts _ q234) dX0_amiss_21 ?_
        exact W.iret (v := (-1000001)) hx hb hr (fun t9 ht9 hW9 => ⟨_, rfl, (by simp [x_amiss, em11, ec11, c_1, c_11, c_12]), ht9⟩) (fun _ h9 => by cases h9) dX0_amiss_23

def x_cbB (Rr : Nat → Nat → Int32) (p : Int32) (a b : Nat) : Bool := decide (Rr 140 a = p) && decide (Rr 140 b = p) && decide (x_abs (Rr 144 a - Rr 144 b) < x_roadOf Rr (Rr 143 a).toNatClampNeg (Rr 143 b))
def x_canbe (F : Nat → Int32) (Rr : Nat → Nat → Int32) (p : Int32) : Int32 := if inB 0 11 p = false then (-1000001) else b2i (!x_any (fun a => x_any (fun k => x_cbB Rr p a (a + 1 + k)) ((F 14).toNatClampNeg - (a + 1))) (F 14).toNatClampNeg)
set_option maxHeartbeats 4000000 in
set_option maxRecDepth 100000 in
theorem metX0_canbe (l : Launch) (D : va_G) (dA : Nat → ClassId) (A : Nat → Prop) (e0 h : Nat) (G : xG) (T : va_W) (F : Nat → Int32) (Rr : Nat → Nat → Int32) (p1 : Int32) (h14p : ∀ k, k < (F 14).toNatClampNeg → cnB (Rr 143 k) 7) : Met l yX0_canbe (ws_ yX0_canbe cX0_canbe 6 (some .int)) ({ frames := 3, cells := 0, slots := 0, locals := 64 } : Room) (va_Pc [.ref h, .int p1] (xPre D dA A e0 h G T F Rr)) (vp_Si (fun r => r = x_canbe F Rr p1)) 0 0 (fun _ => False) := by
  refine Met.ofW (cc := cX0_canbe) (maxL := 6) (ret := (some .int)) (by decide) rfl ?_
  intro p e s m args below meth c s₁ B hml hv
  obtain ⟨rfl, hC, hP, hD, hI⟩ := hv
  have hx := B.exec
  have hb := B.bytes
  have hr := B.returns
  have hts := atoms_spec (ws := (ws_ yX0_canbe cX0_canbe 6 (some .int))) B.pre
  have hts : ∀ w ∈ lw_all, w.before _ s = true := fun w h => hts w (List.mem_cons_of_mem _ h)
  have hown : s.vm.findClass RX0 = some m.cls := findClass_of_methodNamed B.named
  have hlocks := B.notSynchronized
  have S : CallFix p m c cX0_canbe 6 s ([.ref h, .int p1] : List Value).toArray lw_all RX0 := ⟨hx, hb, hml, hown, hts⟩
  have X : xX RX0 p s m ([.ref h, .int p1] : List Value).toArray c cX0_canbe 6 D dA A e0 := ⟨S, hC⟩
  have M : xM D dA A e0 h G T s F Rr s.heap [] := ⟨hP, hD, va_S.rf, hI⟩
  have hl := lv_entry ([.ref h, .int p1]) (n := 6) (Nat.le_of_ble_eq_true rfl)
  rw [lg_entry_eq]
  generalize (lg_sl ([.ref h, .int p1]) ++ List.replicate (6 - (lg_sl ([.ref h, .int p1])).length) Slot.unset).toArray = ls at hl ⊢
  have hl : lv_has ls 6 [(0, .ref h), (1, .int p1)] := hl
  have h14 : cnB (F 14) 16 := hI.2.2.2.2.1.1
  obtain ⟨n14, hn14, en14⟩ := cnB_ex h14 (n := 16) rfl
  have em14 : (F 14).toNatClampNeg = n14 := by rw [en14]; exact nI_clamp (by omega)
  have ec14 : (nI n14).toNatClampNeg = n14 := nI_clamp (by omega)
  refine lv_iload_n hx hb dX0_canbe_0 rfl (lv_at hl 1 rfl) ?_
  refine s_cI (v := b2i (inB 0 11 p1)) (As := [.int p1]) (rest := []) S (metX0_isPerson l p1) (va_cwS 1 hts (lw_S q1075 q1076 q57 q1077) rfl rfl rfl (by decide +kernel) ⟨Nat.le_of_ble_eq_true rfl, Nat.le_of_ble_eq_true rfl⟩) rfl hl.1 rfl (Nat.le_of_ble_eq_true rfl) dX0_canbe_1 ⟨Nat.le_of_ble_eq_true rfl, Nat.le_of_ble_eq_true rfl⟩ ?_
  refine lz_if_ne (tgt := 10) hx hb dX0_canbe_4 (by decide) (fun c_1 => ?_) (fun c_1 => ?_)
  · -- c_1: inB 0 11 p1 = true
    refine lv_iconst (v := 0) hx hb dX0_canbe_10 (by decide) ?_
    refine lv_istore_n (lv' := [(2, .int 0), (0, .ref h), (1, .int p1)]) hx hb dX0_canbe_11 rfl hl (by decide) rfl (fun ls hl => ?_)
    have L_2 : ∀ (fuL_2 : Nat) (i : Nat), (i ≤ n14) → (∀ j, j < i → (fun a => x_any (fun k => x_cbB Rr p1 a (a + 1 + k)) (n14 - (a + 1))) j = false) → n14 - i < fuL_2 → ∀ ls, lv_has ls 6 [(0, .ref h), (1, .int p1), (2, .int (nI i))] → W p l e ({ frames := 3, cells := 0, slots := 0, locals := 64 } : Room) s m ([.ref h, .int p1] : List Value).toArray below meth c s.heap [] 0 0 (MQ below (vp_Si (fun r => r = x_canbe F Rr p1)) ([.ref h, .int p1] : List Value).toArray s 0 0 (fun _ => False)) (F0 m 12 ls []) := by
      intro fuL_2
      induction fuL_2 with
      | zero => intro i hi ho hfuL_2; exact absurd hfuL_2 (Nat.not_lt_zero _)
      | succ fuL_2 L_2ih =>
        intro i hi ho hfuL_2 ls hl
        refine lv_iload_n hx hb dX0_canbe_12 rfl (lv_at hl 2 rfl) ?_
        refine lv_aload_n hx hb dX0_canbe_13 rfl (lv_at hl 0 rfl) ?_
        refine xg_14 X M dX0_canbe_14 ?_
        refine xl_size_14 X M (v := F 14) rfl hl.1 ⟨Nat.le_of_ble_eq_true rfl, Nat.le_of_ble_eq_true rfl⟩ ⟨Nat.le_of_ble_eq_true rfl, Nat.le_of_ble_eq_true rfl⟩ (Nat.le_of_ble_eq_true rfl) dX0_canbe_17 ?_
        refine lv_asi (y := nI n14) en14 ?_
        refine ln_icmp_ge (tgt := 135) hx hb (a := i) (b := n14) (by omega) (by omega) dX0_canbe_22 (by decide) (fun c_3 => ?_) (fun c_3 => ?_)
        · -- c_3: nI i ≥ nI n14
          have ei : i = n14 := by omega
          refine lv_iconst (v := 1) hx hb dX0_canbe_135 (by decide) ?_
          exact W.iret (v := 1) hx hb hr (fun t9 ht9 hW9 => ⟨_, rfl, (by unfold x_canbe; rw [em14, x_any_f _ (fun k hk => ho k (by omega))]; simp [b2i, em14, ec14, c_1, c_3]), ht9⟩) (fun _ h9 => by cases h9) dX0_canbe_136
        · -- c_3: nI i < nI n14
          refine lv_iload_n hx hb dX0_canbe_25 rfl (lv_at hl 2 rfl) ?_
          refine lv_iconst (v := 1) hx hb dX0_canbe_26 (by decide) ?_
          refine lv_iadd hx hb dX0_canbe_27 ?_
          refine lv_asi (y := nI (i + 1)) (nI_add i 1) ?_
          refine lv_istore_n (lv' := [(3, .int (nI (i + 1))), (0, .ref h), (1, .int p1), (2, .int (nI i))]) hx hb dX0_canbe_28 rfl hl (by decide) rfl (fun ls hl => ?_)
          have L_4 : ∀ (fuL_4 : Nat) (j : Nat), (i + 1 ≤ j ∧ j ≤ n14) → (∀ k, i + 1 + k < j → x_cbB Rr p1 i (i + 1 + k) = false) → n14 - j < fuL_4 → ∀ ls, lv_has ls 6 [(0, .ref h), (1, .int p1), (2, .int (nI i)), (3, .int (nI j))] → W p l e ({ frames := 3, cells := 0, slots := 0, locals := 64 } : Room) s m ([.ref h, .int p1] : List Value).toArray below meth c s.heap [] 0 0 (MQ below (vp_Si (fun r => r = x_canbe F Rr p1)) ([.ref h, .int p1] : List Value).toArray s 0 0 (fun _ => False)) (F0 m 29 ls []) := by
            intro fuL_4
            induction fuL_4 with
            | zero => intro j hj hno hfuL_4; exact absurd hfuL_4 (Nat.not_lt_zero _)
            | succ fuL_4 L_4ih =>
              intro j hj hno hfuL_4 ls hl
              refine lv_iload_n hx hb dX0_canbe_29 rfl (lv_at hl 3 rfl) ?_
              refine lv_aload_n hx hb dX0_canbe_30 rfl (lv_at hl 0 rfl) ?_
              refine xg_14 X M dX0_canbe_31 ?_
              refine xl_size_14 X M (v := F 14) rfl hl.1 ⟨Nat.le_of_ble_eq_true rfl, Nat.le_of_ble_eq_true rfl⟩ ⟨Nat.le_of_ble_eq_true rfl, Nat.le_of_ble_eq_true rfl⟩ (Nat.le_of_ble_eq_true rfl) dX0_canbe_34 ?_
              refine lv_asi (y := nI n14) en14 ?_
              refine ln_icmp_ge (tgt := 129) hx hb (a := j) (b := n14) (by omega) (by omega) dX0_canbe_39 (by decide) (fun c_5 => ?_) (fun c_5 => ?_)
              · -- c_5: nI j ≥ nI n14
                have ej : j = n14 := by omega
                refine lv_iinc (v := nI (i + 1)) (lv' := [(2, .int (nI (i + 1))), (0, .ref h), (1, .int p1), (3, .int (nI j))]) hx hb dX0_canbe_129 hl (k := 2) rfl (mk_inc _) (by decide) rfl (fun ls hl => ?_)
                refine lv_goto (tgt := 12) hx hb dX0_canbe_132 (by decide) ?_
                exact L_2ih  (i + 1) (by omega) (all_succF ho (x_any_f _ (fun k hk => hno k (by omega)))) (by omega) ls (lv_sub hl [1, 2, 0] rfl)
              · -- c_5: nI j < nI n14
                refine lv_aload_n hx hb dX0_canbe_42 rfl (lv_at hl 0 rfl) ?_
                refine xg_14 X M dX0_canbe_43 ?_
                refine lv_iload_n hx hb dX0_canbe_46 rfl (lv_at hl 2 rfl) ?_
                have k_6 : i < (F 14).toNatClampNeg := (by omega)
                refine xl_get_14 X M (k := i) rfl k_6 hl.1 ⟨Nat.le_of_ble_eq_true rfl, Nat.le_of_ble_eq_true rfl⟩ ⟨Nat.le_of_ble_eq_true rfl, Nat.le_of_ble_eq_true rfl⟩ (Nat.le_of_ble_eq_true rfl) dX0_canbe_47 ?_
                refine xk_14 X M (k := i) k_6 dX0_canbe_52 ?_
                refine lv_astore (lv' := [(4, .ref (xea G 14 i)), (0, .ref h), (1, .int p1), (2, .int (nI i)), (3, .int (nI j))]) hx hb dX0_canbe_55 hl (by decide) rfl (fun ls hl => ?_)
                refine lv_aload_n hx hb dX0_canbe_57 rfl (lv_at hl 1 rfl) ?_
                refine xg_14 X M dX0_canbe_58 ?_
                refine lv_iload_n hx hb dX0_canbe_61 rfl (lv_at hl 4 rfl) ?_
                have k_7 : j < (F 14).toNatClampNeg := (by omega)
                refine xl_get_14 X M (k := j) rfl k_7 hl.1 ⟨Nat.le_of_ble_eq_true rfl, Nat.le_of_ble_eq_true rfl⟩ ⟨Nat.le_of_ble_eq_true rfl, Nat.le_of_ble_eq_true rfl⟩ (Nat.le_of_ble_eq_true rfl) dX0_canbe_62 ?_
                refine xk_14 X M (k := j) k_7 dX0_canbe_67 ?_
                refine lv_astore (lv' := [(5, .ref (xea G 14 j)), (4, .ref (xea G 14 i)), (0, .ref h), (1, .int p1), (2, .int (nI i)), (3, .int (nI j))]) hx hb dX0_canbe_70 hl (by decide) rfl (fun ls hl => ?_)
                refine lv_aload hx hb dX0_canbe_72 (lv_at hl 1 rfl) ?_
                refine xo_14_0 X M (k := i) k_6 dX0_canbe_74 ?_
                refine lv_iload_n hx hb dX0_canbe_77 rfl (lv_at hl 3 rfl) ?_
                refine lv_icmp_ne (tgt := 123) hx hb dX0_canbe_78 (by decide) (fun c_8 => ?_) (fun c_8 => ?_)
                · -- c_8: Rr 140 i ≠ p1
                  refine lv_iinc (v := nI (j + 1)) (lv' := [(3, .int (nI (j + 1))), (5, .ref (xea G 14 j)), (4, .ref (xea G 14 i)), (0, .ref h), (1, .int p1), (2, .int (nI i))]) hx hb dX0_canbe_123 hl (k := 5) rfl (mk_inc _) (by decide) rfl (fun ls hl => ?_)
                  refine lv_goto (tgt := 29) hx hb dX0_canbe_126 (by decide) ?_
                  exact L_4ih  (j + 1) (⟨by omega, by omega⟩) (fun k hk => by rcases Nat.lt_or_ge (i + 1 + k) j with q | q; exact hno k q; rw [show i + 1 + k = j by omega]; simp [x_cbB, em14, ec14, c_1, c_3, c_5, c_8]) (by omega) ls (lv_sub hl [3, 4, 5, 0] rfl)
                · -- c_8: Rr 140 i = p1
                  refine lv_aload hx hb dX0_canbe_81 (lv_at hl 0 rfl) ?_
                  refine xo_14_0 X M (k := j) k_7 dX0_canbe_83 ?_
                  refine lv_iload_n hx hb dX0_canbe_86 rfl (lv_at hl 3 rfl) ?_
                  refine lv_icmp_ne (tgt := 123) hx hb dX0_canbe_87 (by decide) (fun c_9 => ?_) (fun c_9 => ?_)
                  · -- c_9: Rr 140 j ≠ p1
                    refine lv_iinc (v := nI (j + 1)) (lv' := [(3, .int (nI (j + 1))), (5, .ref (xea G 14 j)), (4, .ref (xea G 14 i)), (0, .ref h), (1, .int p1), (2, .int (nI i))]) hx hb dX0_canbe_123 hl (k := 5) rfl (mk_inc _) (by decide) rfl (fun ls hl => ?_)
                    refine lv_goto (tgt := 29) hx hb dX0_canbe_126 (by decide) ?_
                    exact L_4ih  (j + 1) (⟨by omega, by omega⟩) (fun k hk => by rcases Nat.lt_or_ge (i + 1 + k) j with q | q; exact hno k q; rw [show i + 1 + k = j by omega]; simp [x_cbB, em14, ec14, c_1, c_3, c_5, c_8, c_9]) (by omega) ls (lv_sub hl [3, 4, 5, 0] rfl)
                  · -- c_9: Rr 140 j = p1
                    refine lv_aload hx hb dX0_canbe_90 (lv_at hl 1 rfl) ?_
                    refine xo_14_4 X M (k := i) k_6 dX0_canbe_92 ?_
                    refine lv_aload hx hb dX0_canbe_95 (lv_at hl 0 rfl) ?_
                    refine xo_14_4 X M (k := j) k_7 dX0_canbe_97 ?_
                    refine lv_isub hx hb dX0_canbe_100 ?_
                    refine va_mabs (x := (Rr 144 i) - (Rr 144 j)) (rest := []) hx hb (by rw [hml]; exact hl.1.symm) hown (hts _ q1160) (hts _ q1161) (hts _ q77) (hts _ q1162) (Nat.le_of_ble_eq_true rfl) (Nat.le_of_ble_eq_true rfl) (Nat.le_of_ble_eq_true rfl) (Nat.le_of_ble_eq_true rfl) dX0_canbe_101 ?_
                    refine lv_asi (y := x_abs ((Rr 144 i) - (Rr 144 j))) rfl ?_
                    refine lv_aload_n hx hb dX0_canbe_104 rfl (lv_at hl 2 rfl) ?_
                    refine lv_aload hx hb dX0_canbe_105 (lv_at hl 1 rfl) ?_
                    refine xo_14_3 X M (k := i) k_6 dX0_canbe_107 ?_
                    have b_10 : (Rr 143 i).toNatClampNeg ≤ 7 := cnB_le (h14p i (by omega)) rfl
                    refine lv_asi (y := nI (Rr 143 i).toNatClampNeg) (nJ_of ((h14p i (by omega))).1) ?_
                    refine lv_aload hx hb dX0_canbe_110 (lv_at hl 0 rfl) ?_
                    refine xo_14_3 X M (k := j) k_7 dX0_canbe_112 ?_
                    refine x_cQ (v := x_roadOf Rr ((Rr 143 i).toNatClampNeg) (Rr 143 j)) (As := [.int (nI ((Rr 143 i).toNatClampNeg)), .int (Rr 143 j)]) (rest := [.int (x_abs ((Rr 144 i) - (Rr 144 j)))]) X M (metX0_roadOf l D dA A e0 h G T F Rr ((Rr 143 i).toNatClampNeg) (Rr 143 j) (by omega) (Or.inr (inB_t.mpr (h14p j (by omega))))) (cwV 2 hts (lw_V q1038 q1040 qs19 q57 q1041) rfl rfl rfl (by decide +kernel) ⟨Nat.le_of_ble_eq_true rfl, Nat.le_of_ble_eq_true rfl⟩) rfl hl.1 rfl (Nat.le_of_ble_eq_true rfl) dX0_canbe_115 ⟨Nat.le_of_ble_eq_true rfl, Nat.le_of_ble_eq_true rfl⟩ ?_
                    refine lb_icmp_ge (tgt := 123) hx hb dX0_canbe_118 (by decide) (fun c_11 c_11' => ?_) (fun c_11 c_11' => ?_)
                    · -- c_11: x_abs ((Rr 144 i) - (Rr 144 j)) ≥ x_roadOf Rr ((Rr 143 i).toNatClampNeg) (Rr 143 j)
                      refine lv_iinc (v := nI (j + 1)) (lv' := [(3, .int (nI (j + 1))), (5, .ref (xea G 14 j)), (4, .ref (xea G 14 i)), (0, .ref h), (1, .int p1), (2, .int (nI i))]) hx hb dX0_canbe_123 hl (k := 5) rfl (mk_inc _) (by decide) rfl (fun ls hl => ?_)
                      refine lv_goto (tgt := 29) hx hb dX0_canbe_126 (by decide) ?_
                      exact L_4ih  (j + 1) (⟨by omega, by omega⟩) (fun k hk => by rcases Nat.lt_or_ge (i + 1 + k) j with q | q; exact hno k q; rw [show i + 1 + k = j by omega]; simp [x_cbB, em14, ec14, c_1, c_3, c_5, c_8, c_9, c_11, c_11']) (by omega) ls (lv_sub hl [3, 4, 5, 0] rfl)
                    · -- c_11: x_abs ((Rr 144 i) - (Rr 144 j)) < x_roadOf Rr ((Rr 143 i).toNatClampNeg) (Rr 143 j)
                      refine lv_iconst (v := 0) hx hb dX0_canbe_121 (by decide) ?_
                      exact W.iret (v := 0) hx hb hr (fun t9 ht9 hW9 => ⟨_, rfl, (by unfold x_canbe; rw [em14, x_any_t (p := fun a => x_any (fun k => x_cbB Rr p1 a (a + 1 + k)) (n14 - (a + 1))) (k := i) (show x_any (fun k => x_cbB Rr p1 i (i + 1 + k)) (n14 - (i + 1)) = true from x_any_t (k := j - (i + 1)) (by rw [show i + 1 + (j - (i + 1)) = j by omega]; simp [x_cbB, em14, ec14, c_1, c_3, c_5, c_8, c_9, c_11, c_11']) _ (by omega)) _ (by omega)]; simp [b2i, em14, ec14, c_1, c_3, c_5, c_8, c_9, c_11, c_11']), ht9⟩) (fun _ h9 => by cases h9) dX0_canbe_122
          exact L_4 ((n14 - (i + 1)) + 1) (i + 1) (⟨Nat.le_refl _, by omega⟩) (fun k hk => absurd hk (by omega)) (Nat.lt_succ_self _) ls (lv_sub hl [1, 2, 3, 0] rfl)
    exact L_2 ((n14 - 0) + 1) 0 (by omega) (fun j hj => absurd hj (Nat.not_lt_zero j)) (Nat.lt_succ_self _) ls (lv_sub hl [1, 2, 0] rfl)
  · -- c_1: inB 0 11 p1 = false
    refine lv_ldc (v := (-1000001)) hx hb hown (hts _ q234) dX0_canbe_7 ?_
    exact W.iret (v := (-1000001)) hx hb hr (fun t9 ht9 hW9 => ⟨_, rfl, (by first | (simp [x_canbe, em14, ec14, c_1, up_s, up_n, nI_1, b2i]; done) | (simp_all [x_canbe]; done) | grind [x_canbe]), ht9⟩) (fun _ h9 => by cases h9) dX0_canbe_9

def x_anyM (n15 : Int32) (Rr : Nat → Nat → Int32) : Int32 := itr (fun k a => a ||| (if Rr 16 k = (-1000000) then 0 else x_may n15 Rr k)) 8 0
def x_brS (n15 : Int32) (Rr : Nat → Nat → Int32) (k : Nat) (b : Int32 × Int32) : Int32 × Int32 := if ¬ (nI k &&& (x_anyM n15 Rr ^^^ (-1))) = 0 ∨ (¬ b.1 = (-1000000) ∧ x_bc b.1 < x_bc (nI k)) ∨ x_isAll n15 Rr (nI k) = false then b else if b.1 = (-1000000) ∨ x_bc (nI k) < x_bc b.1 then (nI k, nI k) else (b.1, b.2 &&& nI k)
def x_brought (F : Nat → Int32) (Rr : Nat → Nat → Int32) (what : Int32) : Int32 := if inB 0 2 what = false then (-1000001) else if what = 2 then x_anyM (F 15) Rr else if what = 0 then (itr (x_brS (F 15) Rr) 4096 ((-1000000), 0)).1 else (itr (x_brS (F 15) Rr) 4096 ((-1000000), 0)).2
set_option maxHeartbeats 4000000 in
set_option maxRecDepth 100000 in
theorem metX0_brought (l : Launch) (D : va_G) (dA : Nat → ClassId) (A : Nat → Prop) (e0 h : Nat) (G : xG) (T : va_W) (F : Nat → Int32) (Rr : Nat → Nat → Int32) (p1 : Int32) : Met l yX0_brought (ws_ yX0_brought cX0_brought 7 (some .int)) ({ frames := 5, cells := 0, slots := 0, locals := 110 } : Room) (va_Pc [.ref h, .int p1] (xPre D dA A e0 h G T F Rr)) (vp_Si (fun r => r = x_brought F Rr p1)) 0 0 (fun _ => False) := by
  refine Met.ofW (cc := cX0_brought) (maxL := 7) (ret := (some .int)) (by decide) rfl ?_
  intro p e s m args below meth c s₁ B hml hv
  obtain ⟨rfl, hC, hP, hD, hI⟩ := hv
  have hx := B.exec
  have hb := B.bytes
  have hr := B.returns
  have hts := atoms_spec (ws := (ws_ yX0_brought cX0_brought 7 (some .int))) B.pre
  have hts : ∀ w ∈ lw_all, w.before _ s = true := fun w h => hts w (List.mem_cons_of_mem _ h)
  have hown : s.vm.findClass RX0 = some m.cls := findClass_of_methodNamed B.named
  have hlocks := B.notSynchronized
  have S : CallFix p m c cX0_brought 7 s ([.ref h, .int p1] : List Value).toArray lw_all RX0 := ⟨hx, hb, hml, hown, hts⟩
  have X : xX RX0 p s m ([.ref h, .int p1] : List Value).toArray c cX0_brought 7 D dA A e0 := ⟨S, hC⟩
  have M : xM D dA A e0 h G T s F Rr s.heap [] := ⟨hP, hD, va_S.rf, hI⟩
  have hl := lv_entry ([.ref h, .int p1]) (n := 7) (Nat.le_of_ble_eq_true rfl)
  rw [lg_entry_eq]
  generalize (lg_sl ([.ref h, .int p1]) ++ List.replicate (7 - (lg_sl ([.ref h, .int p1])).length) Slot.unset).toArray = ls at hl ⊢
  have hl : lv_has ls 7 [(0, .ref h), (1, .int p1)] := hl
  refine lv_iload_n hx hb dX0_brought_0 rfl (lv_at hl 1 rfl) ?_
  refine lv_i2l (v := p1.toInt64) hx hb dX0_brought_1 rfl ?_
  refine lv_lconst (v := 0) hx hb dX0_brought_2 (by decide) ?_
  refine lv_ldc2 (v := 2) hx hb hown (hts _ q233) dX0_brought_3 ?_
  refine s_cI (v := b2i (inB 0 2 p1)) (As := [.long p1.toInt64, .long 0, .long 2]) (rest := []) S (metX0_isInI l p1 0 2 p1.toInt64 0 2 rfl rfl rfl) (va_cwS 3 hts (lw_S q230 q231 q57 q232) rfl rfl rfl (by decide +kernel) ⟨Nat.le_of_ble_eq_true rfl, Nat.le_of_ble_eq_true rfl⟩) rfl hl.1 rfl (Nat.le_of_ble_eq_true rfl) dX0_brought_6 ⟨Nat.le_of_ble_eq_true rfl, Nat.le_of_ble_eq_true rfl⟩ ?_
  refine lz_if_ne (tgt := 15) hx hb dX0_brought_9 (by decide) (fun c_1 => ?_) (fun c_1 => ?_)
  · -- c_1: inB 0 2 p1 = true
    refine lv_iconst (v := 0) hx hb dX0_brought_15 (by decide) ?_
    refine lv_istore_n (lv' := [(2, .int 0), (0, .ref h), (1, .int p1)]) hx hb dX0_brought_16 rfl hl (by decide) rfl (fun ls hl => ?_)
    refine lv_iconst (v := 0) hx hb dX0_brought_17 (by decide) ?_
    refine lv_istore_n (lv' := [(3, .int 0), (2, .int 0), (0, .ref h), (1, .int p1)]) hx hb dX0_brought_18 rfl hl (by decide) rfl (fun ls hl => ?_)
    have L_2 : ∀ (fuL_2 : Nat) (i : Nat) (a : Int32), (i ≤ 8) → (a = itr (fun k a => a ||| (if Rr 16 k = (-1000000) then 0 else x_may (F 15) Rr k)) i 0) → 8 - i < fuL_2 → ∀ ls, lv_has ls 7 [(0, .ref h), (1, .int p1), (2, .int a), (3, .int (nI i))] → W p l e ({ frames := 5, cells := 0, slots := 0, locals := 110 } : Room) s m ([.ref h, .int p1] : List Value).toArray below meth c s.heap [] 0 0 (MQ below (vp_Si (fun r => r = x_brought F Rr p1)) ([.ref h, .int p1] : List Value).toArray s 0 0 (fun _ => False)) (F0 m 19 ls []) := by
      intro fuL_2
      induction fuL_2 with
      | zero => intro i a hi qa hfuL_2; exact absurd hfuL_2 (Nat.not_lt_zero _)
      | succ fuL_2 L_2ih =>
        intro i a hi qa hfuL_2 ls hl
        refine lv_iload_n hx hb dX0_brought_19 rfl (lv_at hl 3 rfl) ?_
        refine lv_bipush (v := 8) hx hb dX0_brought_20 (by decide) ?_
        refine ln_icmp_ge (tgt := 54) hx hb (a := i) (b := 8) (by omega) (by omega) dX0_brought_22 (by decide) (fun c_3 => ?_) (fun c_3 => ?_)
        · -- c_3: nI i ≥ 8
          have ei : i = 8 := by omega
          rw [ei] at qa
          have eany : a = x_anyM (F 15) Rr := qa
          refine lv_iload_n hx hb dX0_brought_54 rfl (lv_at hl 1 rfl) ?_
          refine lv_iconst (v := 2) hx hb dX0_brought_55 (by decide) ?_
          refine lv_icmp_ne (tgt := 61) hx hb dX0_brought_56 (by decide) (fun c_4 => ?_) (fun c_4 => ?_)
          · -- c_4: p1 ≠ 2
            refine lv_ldc (v := (-1000000)) hx hb hown (hts _ q147) dX0_brought_61 ?_
            refine lv_istore_n (lv' := [(3, .int (-1000000)), (0, .ref h), (1, .int p1), (2, .int a)]) hx hb dX0_brought_63 rfl hl (by decide) rfl (fun ls hl => ?_)
            refine lv_iconst (v := 0) hx hb dX0_brought_64 (by decide) ?_
            refine lv_istore (lv' := [(4, .int 0), (3, .int (-1000000)), (0, .ref h), (1, .int p1), (2, .int a)]) hx hb dX0_brought_65 hl (by decide) rfl (fun ls hl => ?_)
            refine lv_iconst (v := 0) hx hb dX0_brought_67 (by decide) ?_
            refine lv_istore (lv' := [(5, .int 0), (4, .int 0), (3, .int (-1000000)), (0, .ref h), (1, .int p1), (2, .int a)]) hx hb dX0_brought_68 hl (by decide) rfl (fun ls hl => ?_)
            have L_5 : ∀ (fuL_5 : Nat) (j : Nat) (x : Int32) (y : Int32), (j ≤ 4096) → ((x, y) = itr (x_brS (F 15) Rr) j (-1000000, 0)) → 4096 - j < fuL_5 → ∀ ls, lv_has ls 7 [(0, .ref h), (1, .int p1), (2, .int a), (3, .int x), (4, .int y), (5, .int (nI j))] → W p l e ({ frames := 5, cells := 0, slots := 0, locals := 110 } : Room) s m ([.ref h, .int p1] : List Value).toArray below meth c s.heap [] 0 0 (MQ below (vp_Si (fun r => r = x_brought F Rr p1)) ([.ref h, .int p1] : List Value).toArray s 0 0 (fun _ => False)) (F0 m 70 ls []) := by
              intro fuL_5
              induction fuL_5 with
              | zero => intro j x y hj qxy hfuL_5; exact absurd hfuL_5 (Nat.not_lt_zero _)
              | succ fuL_5 L_5ih =>
                intro j x y hj qxy hfuL_5 ls hl
                refine lv_iload hx hb dX0_brought_70 (lv_at hl 5 rfl) ?_
                refine lv_sipush (v := 4096) hx hb dX0_brought_72 (by decide) ?_
                refine ln_icmp_ge (tgt := 177) hx hb (a := j) (b := 4096) (by omega) (by omega) dX0_brought_75 (by decide) (fun c_6 => ?_) (fun c_6 => ?_)
                · -- c_6: nI j ≥ 4096
                  have ej : j = 4096 := by omega
                  rw [ej] at qxy
                  refine lv_iload_n hx hb dX0_brought_177 rfl (lv_at hl 1 rfl) ?_
                  refine lv_if_ne (tgt := 185) hx hb dX0_brought_178 (by decide) (fun c_7 => ?_) (fun c_7 => ?_)
                  · -- c_7: p1 ≠ 0
                    refine lv_iload hx hb dX0_brought_185 (lv_at hl 4 rfl) ?_
                    exact W.iret (v := y) hx hb hr (fun t9 ht9 hW9 => ⟨_, rfl, (by simp [x_brought, c_1, c_3, c_4, c_6, c_7, ← qxy, show inB 0 2 0 = true from rfl]), ht9⟩) (fun _ h9 => by cases h9) dX0_brought_187
                  · -- c_7: p1 = 0
                    refine lv_iload_n hx hb dX0_brought_181 rfl (lv_at hl 3 rfl) ?_
                    refine lv_goto (tgt := 187) hx hb dX0_brought_182 (by decide) ?_
                    exact W.iret (v := x) hx hb hr (fun t9 ht9 hW9 => ⟨_, rfl, (by simp [x_brought, c_1, c_3, c_4, c_6, c_7, ← qxy, show inB 0 2 0 = true from rfl]), ht9⟩) (fun _ h9 => by cases h9) dX0_brought_187
                · -- c_6: nI j < 4096
                  refine lv_iload hx hb dX0_brought_78 (lv_at hl 5 rfl) ?_
                  refine lv_iload_n hx hb dX0_brought_80 rfl (lv_at hl 2 rfl) ?_
                  refine lv_iconst (v := (-1)) hx hb dX0_brought_81 (by decide) ?_
                  refine lv_ixor hx hb dX0_brought_82 ?_
                  refine lv_iand hx hb dX0_brought_83 ?_
                  refine lv_if_ne (tgt := 171) hx hb dX0_brought_84 (by decide) (fun c_8 => ?_) (fun c_8 => ?_)
                  · -- c_8: (nI j) &&& (a ^^^ (-1)) ≠ 0
                    refine lv_iinc (v := nI (j + 1)) (lv' := [(5, .int (nI (j + 1))), (0, .ref h), (1, .int p1), (2, .int a), (3, .int x), (4, .int y)]) hx hb dX0_brought_171 hl (k := 5) rfl (mk_inc _) (by decide) rfl (fun ls hl => ?_)
                    refine lv_goto (tgt := 70) hx hb dX0_brought_174 (by decide) ?_
                    exact L_5ih  (j + 1) x y (by omega) (by first | (rw [itr_s, ← qxy]; done) | (rw [itr_s, ← qxy]; first | (simp [x_brS, c_1, c_3, ← qa, eany, c_4, c_6, c_8, up_s, up_n, nI_1, b2i]; done) | (simp_all [x_brS]; done) | grind [x_brS])) (by omega) ls (lv_sub hl [1, 2, 3, 4, 5, 0] rfl)
                  · -- c_8: (nI j) &&& (a ^^^ (-1)) = 0
                    refine lv_iload_n hx hb dX0_brought_87 rfl (lv_at hl 3 rfl) ?_
                    refine lv_ldc (v := (-1000000)) hx hb hown (hts _ q147) dX0_brought_88 ?_
                    refine lv_icmp_eq (tgt := 105) hx hb dX0_brought_90 (by decide) (fun c_9 => ?_) (fun c_9 => ?_)
                    · -- c_9: x = (-1000000)
                      refine lv_aload_n hx hb dX0_brought_105 rfl (lv_at hl 0 rfl) ?_
                      refine lv_iload hx hb dX0_brought_106 (lv_at hl 5 rfl) ?_
                      refine x_cQ (v := b2i (x_isAll (F 15) Rr (nI j))) (As := [.int (nI j)]) (rest := []) X M (metX0_isAll l D dA A e0 h G T F Rr (nI j)) (cwV 1 hts (lw_V q1262 q1264 qs25 q57 q1265) rfl rfl rfl (by decide +kernel) ⟨Nat.le_of_ble_eq_true rfl, Nat.le_of_ble_eq_true rfl⟩) rfl hl.1 rfl (Nat.le_of_ble_eq_true rfl) dX0_brought_108 ⟨Nat.le_of_ble_eq_true rfl, Nat.le_of_ble_eq_true rfl⟩ ?_
                      refine lz_if_ne (tgt := 117) hx hb dX0_brought_111 (by decide) (fun c_10 => ?_) (fun c_10 => ?_)
                      · -- c_10: x_isAll (F 15) Rr (nI j) = true
                        refine lv_iload_n hx hb dX0_brought_117 rfl (lv_at hl 3 rfl) ?_
                        refine lv_ldc (v := (-1000000)) hx hb hown (hts _ q147) dX0_brought_118 ?_
                        refine lv_icmp_eq (tgt := 135) hx hb dX0_brought_120 (by decide) (fun c_11 => ?_) (fun c_11 => absurd c_9 c_11)
                        refine lv_iconst (v := 1) hx hb dX0_brought_135 (by decide) ?_
                        refine lv_goto (tgt := 140) hx hb dX0_brought_136 (by decide) ?_
                        refine lv_istore (lv' := [(6, .int 1), (0, .ref h), (1, .int p1), (2, .int a), (3, .int x), (4, .int y), (5, .int (nI j))]) hx hb dX0_brought_140 hl (by decide) rfl (fun ls hl => ?_)
                        refine lv_iload hx hb dX0_brought_142 (lv_at hl 0 rfl) ?_
                        refine lv_if_eq (tgt := 152) hx hb dX0_brought_144 (by decide) (fun c_12 => absurd c_12 (by decide)) (fun c_12 => ?_)
                        refine lv_iload hx hb dX0_brought_147 (lv_at hl 6 rfl) ?_
                        refine lv_goto (tgt := 157) hx hb dX0_brought_149 (by decide) ?_
                        refine lv_istore (lv' := [(4, .int (nI j)), (6, .int 1), (0, .ref h), (1, .int p1), (2, .int a), (3, .int x), (5, .int (nI j))]) hx hb dX0_brought_157 hl (by decide) rfl (fun ls hl => ?_)
                        refine lv_iload hx hb dX0_brought_159 (lv_at hl 1 rfl) ?_
                        refine lv_if_eq (tgt := 169) hx hb dX0_brought_161 (by decide) (fun c_13 => absurd c_13 (by decide)) (fun c_13 => ?_)
                        refine lv_iload hx hb dX0_brought_164 (lv_at hl 6 rfl) ?_
                        refine lv_goto (tgt := 170) hx hb dX0_brought_166 (by decide) ?_
                        refine lv_istore_n (lv' := [(3, .int (nI j)), (4, .int (nI j)), (6, .int 1), (0, .ref h), (1, .int p1), (2, .int a), (5, .int (nI j))]) hx hb dX0_brought_170 rfl hl (by decide) rfl (fun ls hl => ?_)
                        refine lv_iinc (v := nI (j + 1)) (lv' := [(5, .int (nI (j + 1))), (3, .int (nI j)), (4, .int (nI j)), (6, .int 1), (0, .ref h), (1, .int p1), (2, .int a)]) hx hb dX0_brought_171 hl (k := 6) rfl (mk_inc _) (by decide) rfl (fun ls hl => ?_)
                        refine lv_goto (tgt := 70) hx hb dX0_brought_174 (by decide) ?_
                        exact L_5ih  (j + 1) (nI j) (nI j) (by omega) (by first | (rw [itr_s, ← qxy]; done) | (rw [itr_s, ← qxy]; first | (simp [x_brS, c_1, c_3, ← qa, eany, c_4, c_6, c_8, c_9, c_10, up_s, up_n, nI_1, b2i]; done) | (simp_all [x_brS]; done) | grind [x_brS])) (by omega) ls (lv_sub hl [4, 5, 6, 1, 2, 0] rfl)
                      · -- c_10: x_isAll (F 15) Rr (nI j) = false
                        refine lv_goto (tgt := 171) hx hb dX0_brought_114 (by decide) ?_
                        refine lv_iinc (v := nI (j + 1)) (lv' := [(5, .int (nI (j + 1))), (0, .ref h), (1, .int p1), (2, .int a), (3, .int x), (4, .int y)]) hx hb dX0_brought_171 hl (k := 5) rfl (mk_inc _) (by decide) rfl (fun ls hl => ?_)
                        refine lv_goto (tgt := 70) hx hb dX0_brought_174 (by decide) ?_
                        exact L_5ih  (j + 1) x y (by omega) (by first | (rw [itr_s, ← qxy]; done) | (rw [itr_s, ← qxy]; first | (simp [x_brS, c_1, c_3, ← qa, eany, c_4, c_6, c_8, c_9, c_10, up_s, up_n, nI_1, b2i]; done) | (simp_all [x_brS]; done) | grind [x_brS])) (by omega) ls (lv_sub hl [1, 2, 3, 4, 5, 0] rfl)
                    · -- c_9: x ≠ (-1000000)
                      refine lv_iload hx hb dX0_brought_93 (lv_at hl 5 rfl) ?_
                      refine s_cI (v := x_bc (nI j)) (As := [.int (nI j)]) (rest := []) S (metJ18_bitCount l (nI j)) (va_cwS 1 hts (lw_S q1256 q1257 q86 q1258) rfl rfl rfl (by decide +kernel) ⟨Nat.le_of_ble_eq_true rfl, Nat.le_of_ble_eq_true rfl⟩) rfl hl.1 rfl (Nat.le_of_ble_eq_true rfl) dX0_brought_95 ⟨Nat.le_of_ble_eq_true rfl, Nat.le_of_ble_eq_true rfl⟩ ?_
                      refine lv_iload_n hx hb dX0_brought_98 rfl (lv_at hl 3 rfl) ?_
                      refine s_cI (v := x_bc x) (As := [.int x]) (rest := [.int (x_bc (nI j))]) S (metJ18_bitCount l x) (va_cwS 1 hts (lw_S q1256 q1257 q86 q1258) rfl rfl rfl (by decide +kernel) ⟨Nat.le_of_ble_eq_true rfl, Nat.le_of_ble_eq_true rfl⟩) rfl hl.1 rfl (Nat.le_of_ble_eq_true rfl) dX0_brought_99 ⟨Nat.le_of_ble_eq_true rfl, Nat.le_of_ble_eq_true rfl⟩ ?_
                      refine lb_icmp_gt (tgt := 171) hx hb dX0_brought_102 (by decide) (fun c_14 c_14' => ?_) (fun c_14 c_14' => ?_)
                      · -- c_14: x_bc (nI j) > x_bc x
                        refine lv_iinc (v := nI (j + 1)) (lv' := [(5, .int (nI (j + 1))), (0, .ref h), (1, .int p1), (2, .int a), (3, .int x), (4, .int y)]) hx hb dX0_brought_171 hl (k := 5) rfl (mk_inc _) (by decide) rfl (fun ls hl => ?_)
                        refine lv_goto (tgt := 70) hx hb dX0_brought_174 (by decide) ?_
                        exact L_5ih  (j + 1) x y (by omega) (by first | (rw [itr_s, ← qxy]; done) | (rw [itr_s, ← qxy]; first | (simp [x_brS, c_1, c_3, ← qa, eany, c_4, c_6, c_8, c_9, c_14, c_14', up_s, up_n, nI_1, b2i]; done) | (simp_all [x_brS]; done) | grind [x_brS])) (by omega) ls (lv_sub hl [1, 2, 3, 4, 5, 0] rfl)
                      · -- c_14: x_bc (nI j) ≤ x_bc x
                        refine lv_aload_n hx hb dX0_brought_105 rfl (lv_at hl 0 rfl) ?_
                        refine lv_iload hx hb dX0_brought_106 (lv_at hl 5 rfl) ?_
                        refine x_cQ (v := b2i (x_isAll (F 15) Rr (nI j))) (As := [.int (nI j)]) (rest := []) X M (metX0_isAll l D dA A e0 h G T F Rr (nI j)) (cwV 1 hts (lw_V q1262 q1264 qs25 q57 q1265) rfl rfl rfl (by decide +kernel) ⟨Nat.le_of_ble_eq_true rfl, Nat.le_of_ble_eq_true rfl⟩) rfl hl.1 rfl (Nat.le_of_ble_eq_true rfl) dX0_brought_108 ⟨Nat.le_of_ble_eq_true rfl, Nat.le_of_ble_eq_true rfl⟩ ?_
                        refine lz_if_ne (tgt := 117) hx hb dX0_brought_111 (by decide) (fun c_15 => ?_) (fun c_15 => ?_)
                        · -- c_15: x_isAll (F 15) Rr (nI j) = true
                          refine lv_iload_n hx hb dX0_brought_117 rfl (lv_at hl 3 rfl) ?_
                          refine lv_ldc (v := (-1000000)) hx hb hown (hts _ q147) dX0_brought_118 ?_
                          refine lv_icmp_eq (tgt := 135) hx hb dX0_brought_120 (by decide) (fun c_16 => absurd c_16 c_9) (fun c_16 => ?_)
                          refine lv_iload hx hb dX0_brought_123 (lv_at hl 5 rfl) ?_
                          refine s_cI (v := x_bc (nI j)) (As := [.int (nI j)]) (rest := []) S (metJ18_bitCount l (nI j)) (va_cwS 1 hts (lw_S q1256 q1257 q86 q1258) rfl rfl rfl (by decide +kernel) ⟨Nat.le_of_ble_eq_true rfl, Nat.le_of_ble_eq_true rfl⟩) rfl hl.1 rfl (Nat.le_of_ble_eq_true rfl) dX0_brought_125 ⟨Nat.le_of_ble_eq_true rfl, Nat.le_of_ble_eq_true rfl⟩ ?_
                          refine lv_iload_n hx hb dX0_brought_128 rfl (lv_at hl 3 rfl) ?_
                          refine s_cI (v := x_bc x) (As := [.int x]) (rest := [.int (x_bc (nI j))]) S (metJ18_bitCount l x) (va_cwS 1 hts (lw_S q1256 q1257 q86 q1258) rfl rfl rfl (by decide +kernel) ⟨Nat.le_of_ble_eq_true rfl, Nat.le_of_ble_eq_true rfl⟩) rfl hl.1 rfl (Nat.le_of_ble_eq_true rfl) dX0_brought_129 ⟨Nat.le_of_ble_eq_true rfl, Nat.le_of_ble_eq_true rfl⟩ ?_
                          refine lb_icmp_ge (tgt := 139) hx hb dX0_brought_132 (by decide) (fun c_17 c_17' => ?_) (fun c_17 c_17' => ?_)
                          · -- c_17: x_bc (nI j) ≥ x_bc x
                            refine lv_iconst (v := 0) hx hb dX0_brought_139 (by decide) ?_
                            refine lv_istore (lv' := [(6, .int 0), (0, .ref h), (1, .int p1), (2, .int a), (3, .int x), (4, .int y), (5, .int (nI j))]) hx hb dX0_brought_140 hl (by decide) rfl (fun ls hl => ?_)
                            refine lv_iload hx hb dX0_brought_142 (lv_at hl 0 rfl) ?_
                            refine lv_if_eq (tgt := 152) hx hb dX0_brought_144 (by decide) (fun c_18 => ?_) (fun c_18 => absurd c_18 (by decide))
                            refine lv_iload hx hb dX0_brought_152 (lv_at hl 5 rfl) ?_
                            refine lv_iload hx hb dX0_brought_154 (lv_at hl 6 rfl) ?_
                            refine lv_iand hx hb dX0_brought_156 ?_
                            refine lv_istore (lv' := [(4, .int (y &&& (nI j))), (6, .int 0), (0, .ref h), (1, .int p1), (2, .int a), (3, .int x), (5, .int (nI j))]) hx hb dX0_brought_157 hl (by decide) rfl (fun ls hl => ?_)
                            refine lv_iload hx hb dX0_brought_159 (lv_at hl 1 rfl) ?_
                            refine lv_if_eq (tgt := 169) hx hb dX0_brought_161 (by decide) (fun c_19 => ?_) (fun c_19 => absurd c_19 (by decide))
                            refine lv_iload_n hx hb dX0_brought_169 rfl (lv_at hl 5 rfl) ?_
                            refine lv_istore_n (lv' := [(3, .int x), (4, .int (y &&& (nI j))), (6, .int 0), (0, .ref h), (1, .int p1), (2, .int a), (5, .int (nI j))]) hx hb dX0_brought_170 rfl hl (by decide) rfl (fun ls hl => ?_)
                            refine lv_iinc (v := nI (j + 1)) (lv' := [(5, .int (nI (j + 1))), (3, .int x), (4, .int (y &&& (nI j))), (6, .int 0), (0, .ref h), (1, .int p1), (2, .int a)]) hx hb dX0_brought_171 hl (k := 6) rfl (mk_inc _) (by decide) rfl (fun ls hl => ?_)
                            refine lv_goto (tgt := 70) hx hb dX0_brought_174 (by decide) ?_
                            exact L_5ih  (j + 1) x (y &&& (nI j)) (by omega) (by first | (rw [itr_s, ← qxy]; done) | (rw [itr_s, ← qxy]; first | (simp [x_brS, c_1, c_3, ← qa, eany, c_4, c_6, c_8, c_9, c_14, c_14', c_15, c_17, c_17', up_s, up_n, nI_1, b2i]; done) | (simp_all [x_brS]; done) | grind [x_brS])) (by omega) ls (lv_sub hl [4, 5, 6, 1, 2, 0] rfl)
                          · -- c_17: x_bc (nI j) < x_bc x
                            refine lv_iconst (v := 1) hx hb dX0_brought_135 (by decide) ?_
                            refine lv_goto (tgt := 140) hx hb dX0_brought_136 (by decide) ?_
                            refine lv_istore (lv' := [(6, .int 1), (0, .ref h), (1, .int p1), (2, .int a), (3, .int x), (4, .int y), (5, .int (nI j))]) hx hb dX0_brought_140 hl (by decide) rfl (fun ls hl => ?_)
                            refine lv_iload hx hb dX0_brought_142 (lv_at hl 0 rfl) ?_
                            refine lv_if_eq (tgt := 152) hx hb dX0_brought_144 (by decide) (fun c_20 => absurd c_20 (by decide)) (fun c_20 => ?_)
                            refine lv_iload hx hb dX0_brought_147 (lv_at hl 6 rfl) ?_
                            refine lv_goto (tgt := 157) hx hb dX0_brought_149 (by decide) ?_
                            refine lv_istore (lv' := [(4, .int (nI j)), (6, .int 1), (0, .ref h), (1, .int p1), (2, .int a), (3, .int x), (5, .int (nI j))]) hx hb dX0_brought_157 hl (by decide) rfl (fun ls hl => ?_)
                            refine lv_iload hx hb dX0_brought_159 (lv_at hl 1 rfl) ?_
                            refine lv_if_eq (tgt := 169) hx hb dX0_brought_161 (by decide) (fun c_21 => absurd c_21 (by decide)) (fun c_21 => ?_)
                            refine lv_iload hx hb dX0_brought_164 (lv_at hl 6 rfl) ?_
                            refine lv_goto (tgt := 170) hx hb dX0_brought_166 (by decide) ?_
                            refine lv_istore_n (lv' := [(3, .int (nI j)), (4, .int (nI j)), (6, .int 1), (0, .ref h), (1, .int p1), (2, .int a), (5, .int (nI j))]) hx hb dX0_brought_170 rfl hl (by decide) rfl (fun ls hl => ?_)
                            refine lv_iinc (v := nI (j + 1)) (lv' := [(5, .int (nI (j + 1))), (3, .int (nI j)), (4, .int (nI j)), (6, .int 1), (0, .ref h), (1, .int p1), (2, .int a)]) hx hb dX0_brought_171 hl (k := 6) rfl (mk_inc _) (by decide) rfl (fun ls hl => ?_)
                            refine lv_goto (tgt := 70) hx hb dX0_brought_174 (by decide) ?_
                            exact L_5ih  (j + 1) (nI j) (nI j) (by omega) (by first | (rw [itr_s, ← qxy]; done) | (rw [itr_s, ← qxy]; first | (simp [x_brS, c_1, c_3, ← qa, eany, c_4, c_6, c_8, c_9, c_14, c_14', c_15, c_17, c_17', up_s, up_n, nI_1, b2i]; done) | (simp_all [x_brS]; done) | grind [x_brS])) (by omega) ls (lv_sub hl [4, 5, 6, 1, 2, 0] rfl)
                        · -- c_15: x_isAll (F 15) Rr (nI j) = false
                          refine lv_goto (tgt := 171) hx hb dX0_brought_114 (by decide) ?_
                          refine lv_iinc (v := nI (j + 1)) (lv' := [(5, .int (nI (j + 1))), (0, .ref h), (1, .int p1), (2, .int a), (3, .int x), (4, .int y)]) hx hb dX0_brought_171 hl (k := 5) rfl (mk_inc _) (by decide) rfl (fun ls hl => ?_)
                          refine lv_goto (tgt := 70) hx hb dX0_brought_174 (by decide) ?_
                          exact L_5ih  (j + 1) x y (by omega) (by first | (rw [itr_s, ← qxy]; done) | (rw [itr_s, ← qxy]; first | (simp [x_brS, c_1, c_3, ← qa, eany, c_4, c_6, c_8, c_9, c_14, c_14', c_15, up_s, up_n, nI_1, b2i]; done) | (simp_all [x_brS]; done) | grind [x_brS])) (by omega) ls (lv_sub hl [1, 2, 3, 4, 5, 0] rfl)
            exact L_5 ((4096 - 0) + 1) 0 (-1000000) 0 (Nat.zero_le _) (by first | rfl | (simp only [itr]; assumption) | (simp [itr, c_1, c_3, ← qa, eany, c_4, up_s, up_n, nI_1, b2i]; done)) (Nat.lt_succ_self _) ls (lv_sub hl [3, 4, 5, 2, 1, 0] rfl)
          · -- c_4: p1 = 2
            refine lv_iload_n hx hb dX0_brought_59 rfl (lv_at hl 2 rfl) ?_
            exact W.iret (v := a) hx hb hr (fun t9 ht9 hW9 => ⟨_, rfl, (by simp [x_brought, c_1, c_3, eany, c_4, show inB 0 2 2 = true from rfl]), ht9⟩) (fun _ h9 => by cases h9) dX0_brought_60
        · -- c_3: nI i < 8
          refine lv_iload_n hx hb dX0_brought_25 rfl (lv_at hl 2 rfl) ?_
          refine lv_aload_n hx hb dX0_brought_26 rfl (lv_at hl 0 rfl) ?_
          refine xg_16 X M dX0_brought_27 ?_
          refine lv_iload_n hx hb dX0_brought_30 rfl (lv_at hl 3 rfl) ?_
          refine xr_16 X M (f := Rr 16) rfl (j := i) (vp_in_nI (by omega) (by omega)) (nI_clamp (by omega)) dX0_brought_31 ?_
          refine lv_ldc (v := (-1000000)) hx hb hown (hts _ q147) dX0_brought_32 ?_
          refine lv_icmp_ne (tgt := 41) hx hb dX0_brought_34 (by decide) (fun c_22 => ?_) (fun c_22 => ?_)
          · -- c_22: Rr 16 i ≠ (-1000000)
            refine lv_aload_n hx hb dX0_brought_41 rfl (lv_at hl 0 rfl) ?_
            refine lv_iload_n hx hb dX0_brought_42 rfl (lv_at hl 3 rfl) ?_
            refine x_cQ (v := x_may (F 15) Rr i) (As := [.int (nI i)]) (rest := [.int a]) X M (metX0_mayHave l D dA A e0 h G T F Rr i (by omega)) (cwV 1 hts (lw_V q1252 q1254 qs24 q57 q1255) rfl rfl rfl (by decide +kernel) ⟨Nat.le_of_ble_eq_true rfl, Nat.le_of_ble_eq_true rfl⟩) rfl hl.1 rfl (Nat.le_of_ble_eq_true rfl) dX0_brought_43 ⟨Nat.le_of_ble_eq_true rfl, Nat.le_of_ble_eq_true rfl⟩ ?_
            refine lv_ior hx hb dX0_brought_46 ?_
            refine lv_istore_n (lv' := [(2, .int (a ||| (x_may (F 15) Rr i))), (0, .ref h), (1, .int p1), (3, .int (nI i))]) hx hb dX0_brought_47 rfl hl (by decide) rfl (fun ls hl => ?_)
            refine lv_iinc (v := nI (i + 1)) (lv' := [(3, .int (nI (i + 1))), (2, .int (a ||| (x_may (F 15) Rr i))), (0, .ref h), (1, .int p1)]) hx hb dX0_brought_48 hl (k := 3) rfl (mk_inc _) (by decide) rfl (fun ls hl => ?_)
            refine lv_goto (tgt := 19) hx hb dX0_brought_51 (by decide) ?_
            exact L_2ih  (i + 1) (a ||| (x_may (F 15) Rr i)) (by omega) (by first | (rw [itr_s, ← qa]; done) | (rw [itr_s, ← qa]; first | (simp [c_1, c_3, c_22, up_s, up_n, nI_1, b2i]; done) | (simp_all []; done) | grind [])) (by omega) ls (lv_sub hl [2, 3, 1, 0] rfl)
          · -- c_22: Rr 16 i = (-1000000)
            refine lv_iconst (v := 0) hx hb dX0_brought_37 (by decide) ?_
            refine lv_goto (tgt := 46) hx hb dX0_brought_38 (by decide) ?_
            refine lv_ior hx hb dX0_brought_46 ?_
            refine lv_istore_n (lv' := [(2, .int (a ||| 0)), (0, .ref h), (1, .int p1), (3, .int (nI i))]) hx hb dX0_brought_47 rfl hl (by decide) rfl (fun ls hl => ?_)
            refine lv_iinc (v := nI (i + 1)) (lv' := [(3, .int (nI (i + 1))), (2, .int (a ||| 0)), (0, .ref h), (1, .int p1)]) hx hb dX0_brought_48 hl (k := 3) rfl (mk_inc _) (by decide) rfl (fun ls hl => ?_)
            refine lv_goto (tgt := 19) hx hb dX0_brought_51 (by decide) ?_
            exact L_2ih  (i + 1) (a ||| 0) (by omega) (by first | (rw [itr_s, ← qa]; done) | (rw [itr_s, ← qa]; first | (simp [c_1, c_3, c_22, up_s, up_n, nI_1, b2i]; done) | (simp_all []; done) | grind [])) (by omega) ls (lv_sub hl [2, 3, 1, 0] rfl)
    exact L_2 ((8 - 0) + 1) 0 0 (Nat.zero_le _) (by first | rfl | (simp only [itr]; assumption) | (simp [itr, c_1, up_s, up_n, nI_1, b2i]; done)) (Nat.lt_succ_self _) ls (lv_sub hl [2, 3, 1, 0] rfl)
  · -- c_1: inB 0 2 p1 = false
    refine lv_ldc (v := (-1000001)) hx hb hown (hts _ q234) dX0_brought_12 ?_
    exact W.iret (v := (-1000001)) hx hb hr (fun t9 ht9 hW9 => ⟨_, rfl, (by first | (simp [x_brought, c_1, up_s, up_n, nI_1, b2i]; done) | (simp_all [x_brought]; done) | grind [x_brought]), ht9⟩) (fun _ h9 => by cases h9) dX0_brought_14

