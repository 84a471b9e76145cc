/-! THE SYSTEM, 7: sheets -/
theorem x_P0 {D : va_G} {H : Heap} : va_P D xCl [] H := fun k q z => (by cases z)
theorem x_D0 {A : Nat → Prop} : va_D A [] := ⟨fun i j p q z => (by cases z), fun k q z => (by cases z)⟩
theorem x_F0 {own : String} {p : Program} {s : State} {m : MethodId} {args : Array Value} {c : Code} {cc : ByteArray} {nL : Nat} {D : va_G} {dA : Nat → ClassId} {A : Nat → Prop} {e0 : Nat} {H : Heap} {locs : List Loc} (X : xX own p s m args c cc nL D dA A e0) (hS : va_S A s.heap H locs) : ∀ q, va_A [] H.size q → A q := by
  intro q z
  rcases z with ⟨k, e2, z⟩ | z
  · cases z
  · exact X.hA q (Nat.le_trans hS.1 z)
set_option maxHeartbeats 4000000 in
set_option maxRecDepth 100000 in
theorem metX0_sheetAt_t (l : Launch) (D : va_G) (dA : Nat → ClassId) (A : Nat → Prop) (e0 h : Nat) (G : xG) (T : va_W) (F : Nat → Int32) (Rr : Nat → Nat → Int32) (k : Nat) (y : Nat) (hk : k < 8) (hy : g_rs G k = some y) : Met l yX0_sheetAt (ws_ yX0_sheetAt cX0_sheetAt 2 (some (.object "DuskGates$Sheet"))) ({ frames := 5, cells := 0, slots := 0, locals := 130 } : Room) (va_Pc [.ref h, .int (nI k)] (xPre D dA A e0 h G T F Rr)) (va_Sq (fun o => o = some y)) 0 0 (fun _ => False) := by
  refine Met.ofW (cc := cX0_sheetAt) (maxL := 2) (ret := (some (.object "DuskGates$Sheet"))) (by decide) rfl ?_
  intro p e s m args below meth c s₁ B hml hv
  obtain ⟨rfl, hC, hP, hD, hI⟩ := hv
  have hx := B.exec
  have hb := B.bytes
  have hr := B.returns
  have hts := atoms_spec (ws := (ws_ yX0_sheetAt cX0_sheetAt 2 (some (.object "DuskGates$Sheet")))) B.pre
  have hts : ∀ w ∈ lw_all, w.before _ s = true := fun w h => hts w (List.mem_cons_of_mem _ h)
  have hown : s.vm.findClass RX0 = some m.cls := findClass_of_methodNamed B.named
  have hlocks := B.notSynchronized
  have S : CallFix p m c cX0_sheetAt 2 s ([.ref h, .int (nI k)] : List Value).toArray lw_all RX0 := ⟨hx, hb, hml, hown, hts⟩
  have X : xX RX0 p s m ([.ref h, .int (nI k)] : List Value).toArray c cX0_sheetAt 2 D dA A e0 := ⟨S, hC⟩
  have M : xM D dA A e0 h G T s F Rr s.heap [] := ⟨hP, hD, va_S.rf, hI⟩
  have hl := lv_entry ([.ref h, .int (nI k)]) (n := 2) (Nat.le_of_ble_eq_true rfl)
  rw [lg_entry_eq]
  generalize (lg_sl ([.ref h, .int (nI k)]) ++ List.replicate (2 - (lg_sl ([.ref h, .int (nI k)])).length) Slot.unset).toArray = ls at hl ⊢
  have hl : lv_has ls 2 [(0, .ref h), (1, .int (nI k))] := hl
  refine lv_aload_n hx hb dX0_sheetAt_0 rfl (lv_at hl 0 rfl) ?_
  refine xg_0 X M dX0_sheetAt_1 ?_
  refine lv_iload_n hx hb dX0_sheetAt_4 rfl (lv_at hl 1 rfl) ?_
  refine g_aldq (n := 8) (f := g_rs G) (j := k) X M.1 1 3 rfl rfl (vp_in_nI (by omega) (by omega)) (nI_clamp (by omega)) dX0_sheetAt_5 ?_
  refine W.eq (g2 := F0 m 6 ls [.ref y]) (by rw [hy]; rfl) ?_
  refine lv_ifnull hx hb dX0_sheetAt_6 ?_
  refine lv_iconst (v := 1) hx hb dX0_sheetAt_9 (by decide) ?_
  refine lv_goto (tgt := 14) hx hb dX0_sheetAt_10 (by decide) ?_
  refine lv_iconst (v := 1) hx hb dX0_sheetAt_14 (by decide) ?_
  refine va_csv (W.runS (As := [.int 1, .int 1]) (rest := []) S (metX0_must_t l 1) (va_cwS 2 hts (lw_S q235 q236 q57 q237) rfl rfl rfl (by decide +kernel) ⟨Nat.le_of_ble_eq_true rfl, Nat.le_of_ble_eq_true rfl⟩) ⟨fun a U g mk q => q, fun U hU hW => ⟨rfl, trivial⟩⟩ rfl rfl hl.1 rfl (lv_room (Nat.le_of_ble_eq_true rfl)) dX0_sheetAt_15 ⟨Nat.le_of_ble_eq_true rfl, Nat.le_of_ble_eq_true rfl⟩) (fun _ => ?_)
  refine lv_aload_n hx hb dX0_sheetAt_18 rfl (lv_at hl 0 rfl) ?_
  refine xg_0 X M dX0_sheetAt_19 ?_
  refine lv_iload_n hx hb dX0_sheetAt_22 rfl (lv_at hl 1 rfl) ?_
  refine g_aldq (n := 8) (f := g_rs G) (j := k) X M.1 1 3 rfl rfl (vp_in_nI (by omega) (by omega)) (nI_clamp (by omega)) dX0_sheetAt_23 ?_
  refine W.eq (g2 := F0 m 24 ls [.ref y]) (by rw [hy]; rfl) ?_
  exact W.aret (v := .ref y) hx hb hr (Or.inl ⟨_, rfl⟩) (Or.inr ⟨_, rfl⟩) (fun t9 ht9 hW9 => ⟨some y, rfl, rfl, ht9⟩) (fun _ h9 => by cases h9) dX0_sheetAt_24

set_option maxHeartbeats 4000000 in
set_option maxRecDepth 100000 in
theorem metX0_sheetAt_f (l : Launch) (D : va_G) (dA : Nat → ClassId) (A : Nat → Prop) (e0 h : Nat) (G : xG) (T : va_W) (F : Nat → Int32) (Rr : Nat → Nat → Int32) (k : Nat) (hk : k < 8) (hy : g_rs G k = none) : vx_Met l yX0_sheetAt (ws_ yX0_sheetAt cX0_sheetAt 2 (some (.object "DuskGates$Sheet"))) ({ frames := 5, cells := 1, slots := 7, locals := 130 } : Room) (va_Pc [.ref h, .int (nI k)] (xPre D dA A e0 h G T F Rr)) (fun _ _ _ _ => False) (xThrW D dA A h G T F Rr 1) 1 7 A := by
  refine vx_ofW (cc := cX0_sheetAt) (maxL := 2) (ret := (some (.object "DuskGates$Sheet"))) (by decide) rfl ?_
  intro p e s m args below meth c s₁ B hml htb hv
  obtain ⟨rfl, hC, hP, hD, hI⟩ := hv
  have hx := B.exec
  have hb := B.bytes
  have hr := B.returns
  have hts := atoms_spec (ws := (ws_ yX0_sheetAt cX0_sheetAt 2 (some (.object "DuskGates$Sheet")))) B.pre
  have hts : ∀ w ∈ lw_all, w.before _ s = true := fun w h => hts w (List.mem_cons_of_mem _ h)
  have hown : s.vm.findClass RX0 = some m.cls := findClass_of_methodNamed B.named
  have hlocks := B.notSynchronized
  have S : CallFix p m c cX0_sheetAt 2 s ([.ref h, .int (nI k)] : List Value).toArray lw_all RX0 := ⟨hx, hb, hml, hown, hts⟩
  have X : xX RX0 p s m ([.ref h, .int (nI k)] : List Value).toArray c cX0_sheetAt 2 D dA A e0 := ⟨S, hC⟩
  have M : xM D dA A e0 h G T s F Rr s.heap [] := ⟨hP, hD, va_S.rf, hI⟩
  have hl := lv_entry ([.ref h, .int (nI k)]) (n := 2) (Nat.le_of_ble_eq_true rfl)
  rw [lg_entry_eq]
  generalize (lg_sl ([.ref h, .int (nI k)]) ++ List.replicate (2 - (lg_sl ([.ref h, .int (nI k)])).length) Slot.unset).toArray = ls at hl ⊢
  have hl : lv_has ls 2 [(0, .ref h), (1, .int (nI k))] := hl
  refine lv_aload_n hx hb dX0_sheetAt_0 rfl (lv_at hl 0 rfl) ?_
  refine xg_0 X M dX0_sheetAt_1 ?_
  refine lv_iload_n hx hb dX0_sheetAt_4 rfl (lv_at hl 1 rfl) ?_
  refine g_aldq (n := 8) (f := g_rs G) (j := k) X M.1 1 3 rfl rfl (vp_in_nI (by omega) (by omega)) (nI_clamp (by omega)) dX0_sheetAt_5 ?_
  refine W.eq (g2 := F0 m 6 ls [.null]) (by rw [hy]; rfl) ?_
  refine lv_ifnullN (tgt := 13) hx hb dX0_sheetAt_6 (by decide) ?_
  refine lv_iconst (v := 0) hx hb dX0_sheetAt_13 (by decide) ?_
  refine lv_iconst (v := 1) hx hb dX0_sheetAt_14 (by decide) ?_
  refine x_thrown X M (vx_runS (As := [.int 0, .int 1]) (rest := []) X.1 (metX0_must_f l D dA (va_A [] _) e0 1) (va_cwS 2 hts (lw_S q235 q236 q57 q237) rfl rfl rfl (by decide +kernel) ⟨Nat.le_of_ble_eq_true rfl, Nat.le_of_ble_eq_true rfl⟩) ⟨gPre_blindD, fun U hU hW => ⟨rfl, X.Cn M.2.2.1 (x_F0 X M.2.2.1) hU hW, x_P0, x_D0⟩⟩ rfl rfl hl.1 rfl (lv_room (Nat.le_of_ble_eq_true rfl)) dX0_sheetAt_15 ⟨Nat.le_of_ble_eq_true rfl, Nat.le_of_ble_eq_true rfl⟩) (fun q9 ce9 H locs M hce9 hcv9 hcl9 => ?_)
  refine vx_widen (k := 1) (n := 7) (Nat.le_of_ble_eq_true rfl) (Nat.le_of_ble_eq_true rfl) ?_
  exact vx_out (fun x9 hx9 => (htb x9 hx9).elim) hlocks hce9 hcv9 hcl9 (fun t9 ht9 hA9 => ⟨(), trivial, ⟨rfl, by rw [ht9]; exact M.1, M.2.1⟩, M.2.2.1.F ht9⟩) M.2.2.1.2.2 (Nat.le_refl _) (Nat.le_refl _)

def x_cut (lane v : Int32) : Int32 := if lane = 0 then v.toInt8.toInt32 else if lane = 1 then v.toInt16.toInt32 else v
set_option maxHeartbeats 4000000 in
set_option maxRecDepth 100000 in
theorem metX4_cut (l : Launch) (D : va_G) (dA : Nat → ClassId) (A : Nat → Prop) (e0 : Nat) (a : Nat) (la : Int32) (z : Nat) (v : Int32) : Met l yX4_cut (ws_ yX4_cut cX4_cut 2 (some .int)) ({ frames := 0, cells := 0, slots := 0, locals := 0 } : Room) (va_Pc [.ref a, .int v] (fun U => xC D dA A e0 U ∧ va_P D xCl [(a, .inr (4, [.int la, .ref z]))] U.heap)) (vp_Si (fun r => r = x_cut la v)) 0 0 (fun _ => False) := by
  refine Met.ofW (cc := cX4_cut) (maxL := 2) (ret := (some .int)) (by decide) rfl ?_
  intro p e s m args below meth c s₁ B hml hv
  obtain ⟨rfl, hC, hP⟩ := hv
  have hx := B.exec
  have hb := B.bytes
  have hr := B.returns
  have hts := atoms_spec (ws := (ws_ yX4_cut cX4_cut 2 (some .int))) B.pre
  have hts : ∀ w ∈ lw_all, w.before _ s = true := fun w h => hts w (List.mem_cons_of_mem _ h)
  have hown : s.vm.findClass RX4 = some m.cls := findClass_of_methodNamed B.named
  have hlocks := B.notSynchronized
  have S : CallFix p m c cX4_cut 2 s ([.ref a, .int v] : List Value).toArray lw_all RX4 := ⟨hx, hb, hml, hown, hts⟩
  have X : xX RX4 p s m ([.ref a, .int v] : List Value).toArray c cX4_cut 2 D dA A e0 := ⟨S, hC⟩
  have M : gQ D s [(a, .inr (4, [.int la, .ref z]))] s.heap [] := ⟨hP, trivial⟩
  have hl := lv_entry ([.ref a, .int v]) (n := 2) (Nat.le_of_ble_eq_true rfl)
  rw [lg_entry_eq]
  generalize (lg_sl ([.ref a, .int v]) ++ List.replicate (2 - (lg_sl ([.ref a, .int v])).length) Slot.unset).toArray = ls at hl ⊢
  have hl : lv_has ls 2 [(0, .ref a), (1, .int v)] := hl
  refine lv_aload_n hx hb dX4_cut_0 rfl (lv_at hl 0 rfl) ?_
  refine va_get (cl := xCl) (ci := 4) (fs := [.int la, .ref z]) X.hx X.hb X.hts in_X4 X.ow X.K M.1 0 rfl rfl 0 (by decide) (X.hts _ q309) (fun _ h9 => h9) rfl dX4_cut_1 ?_
  refine lv_if_ne (tgt := 12) hx hb dX4_cut_4 (by decide) (fun c_1 => ?_) (fun c_1 => ?_)
  · -- c_1: la ≠ 0
    refine lv_aload_n hx hb dX4_cut_12 rfl (lv_at hl 0 rfl) ?_
    refine va_get (cl := xCl) (ci := 4) (fs := [.int la, .ref z]) X.hx X.hb X.hts in_X4 X.ow X.K M.1 0 rfl rfl 0 (by decide) (X.hts _ q309) (fun _ h9 => h9) rfl dX4_cut_13 ?_
    refine lv_iconst (v := 1) hx hb dX4_cut_16 (by decide) ?_
    refine lv_icmp_ne (tgt := 25) hx hb dX4_cut_17 (by decide) (fun c_2 => ?_) (fun c_2 => ?_)
    · -- c_2: la ≠ 1
      refine lv_iload_n hx hb dX4_cut_25 rfl (lv_at hl 1 rfl) ?_
      exact W.iret (v := v) hx hb hr (fun t9 ht9 hW9 => ⟨_, rfl, (by simp [x_cut, c_1, c_2]), ht9⟩) (fun _ h9 => by cases h9) dX4_cut_26
    · -- c_2: la = 1
      refine lv_iload_n hx hb dX4_cut_20 rfl (lv_at hl 1 rfl) ?_
      refine lv_i2s (v := v.toInt16.toInt32) hx hb dX4_cut_21 rfl ?_
      refine lv_goto (tgt := 26) hx hb dX4_cut_22 (by decide) ?_
      exact W.iret (v := v.toInt16.toInt32) hx hb hr (fun t9 ht9 hW9 => ⟨_, rfl, (by simp [x_cut, c_1, c_2]), ht9⟩) (fun _ h9 => by cases h9) dX4_cut_26
  · -- c_1: la = 0
    refine lv_iload_n hx hb dX4_cut_7 rfl (lv_at hl 1 rfl) ?_
    refine lv_i2b (v := v.toInt8.toInt32) hx hb dX4_cut_8 rfl ?_
    refine lv_goto (tgt := 26) hx hb dX4_cut_9 (by decide) ?_
    exact W.iret (v := v.toInt8.toInt32) hx hb hr (fun t9 ht9 hW9 => ⟨_, rfl, (by simp [x_cut, c_1]), ht9⟩) (fun _ h9 => by cases h9) dX4_cut_26

set_option maxHeartbeats 4000000 in
set_option maxRecDepth 100000 in
theorem metX0_well (l : Launch) (D : va_G) (dA : Nat → ClassId) (A : Nat → Prop) (e0 h : Nat) (G : xG) (T : va_W) (F : Nat → Int32) (Rr : Nat → Nat → Int32) (p1 : Int32) : Met l yX0_well (ws_ yX0_well cX0_well 2 (some .int)) ({ frames := 0, cells := 0, slots := 0, locals := 0 } : Room) (va_Pc [.ref h, .int p1] (xPre D dA A e0 h G T F Rr)) (va_Qi (fun r u => (r, u) = (p1, va_up F 23 0, Rr)) (xB0 D dA A e0 h G T) A) 0 0 A := by
  refine Met.ofW (cc := cX0_well) (maxL := 2) (ret := (some .int)) (by decide) rfl ?_
  intro p e s m args below meth c s₁ B hml hv
  obtain ⟨rfl, hC, hP, hD, hI⟩ := hv
  have hx := B.exec
  have hb := B.bytes
  have hr := B.returns
  have hts := atoms_spec (ws := (ws_ yX0_well cX0_well 2 (some .int))) B.pre
  have hts : ∀ w ∈ lw_all, w.before _ s = true := fun w h => hts w (List.mem_cons_of_mem _ h)
  have hown : s.vm.findClass RX0 = some m.cls := findClass_of_methodNamed B.named
  have hlocks := B.notSynchronized
  have S : CallFix p m c cX0_well 2 s ([.ref h, .int p1] : List Value).toArray lw_all RX0 := ⟨hx, hb, hml, hown, hts⟩
  have X : xX RX0 p s m ([.ref h, .int p1] : List Value).toArray c cX0_well 2 D dA A e0 := ⟨S, hC⟩
  have M : xM D dA A e0 h G T s F Rr s.heap [] := ⟨hP, hD, va_S.rf, hI⟩
  have hl := lv_entry ([.ref h, .int p1]) (n := 2) (Nat.le_of_ble_eq_true rfl)
  rw [lg_entry_eq]
  generalize (lg_sl ([.ref h, .int p1]) ++ List.replicate (2 - (lg_sl ([.ref h, .int p1])).length) Slot.unset).toArray = ls at hl ⊢
  have hl : lv_has ls 2 [(0, .ref h), (1, .int p1)] := hl
  refine lv_aload_n hx hb dX0_well_0 rfl (lv_at hl 0 rfl) ?_
  refine lv_iconst (v := 0) hx hb dX0_well_1 (by decide) ?_
  refine xp_23 X M dX0_well_2 (fun H locs M => ?_)
  refine lv_iload_n hx hb dX0_well_5 rfl (lv_at hl 1 rfl) ?_
  exact W.iret (v := p1) hx hb hr (fun t9 ht9 hW9 => ⟨⟨_, (va_up F 23 0, Rr), rfl, rfl, ⟨by rw [ht9]; exact M.1, M.2.1, M.2.2.2⟩⟩, M.2.2.1.F ht9⟩) M.2.2.1.2.2 dX0_well_6

set_option maxHeartbeats 4000000 in
set_option maxRecDepth 100000 in
theorem metX0_found (l : Launch) (D : va_G) (dA : Nat → ClassId) (A : Nat → Prop) (e0 h : Nat) (G : xG) (T : va_W) (F : Nat → Int32) (Rr : Nat → Nat → Int32) (f : Nat) (n : Int32) : Met l yX0_found (ws_ yX0_found cX0_found 2 (some .int)) ({ frames := 0, cells := 0, slots := 0, locals := 0 } : Room) (va_Pc [.ref h, .ref f] (xPre D dA A e0 h G (T ++ [(f, .inr (13, [.null, .null, .null, .null, .null, .int 0, .int n]))]) F Rr)) (va_Qi (fun r u => (r, u) = ((-1000010) - n, va_up F 23 n, Rr)) (xB0 D dA A e0 h G (T ++ [(f, .inr (13, [.null, .null, .null, .null, .null, .int 0, .int n]))])) A) 0 0 A := by
  refine Met.ofW (cc := cX0_found) (maxL := 2) (ret := (some .int)) (by decide) rfl ?_
  intro p e s m args below meth c s₁ B hml hv
  obtain ⟨rfl, hC, hP, hD, hI⟩ := hv
  have hx := B.exec
  have hb := B.bytes
  have hr := B.returns
  have hts := atoms_spec (ws := (ws_ yX0_found cX0_found 2 (some .int))) B.pre
  have hts : ∀ w ∈ lw_all, w.before _ s = true := fun w h => hts w (List.mem_cons_of_mem _ h)
  have hown : s.vm.findClass RX0 = some m.cls := findClass_of_methodNamed B.named
  have hlocks := B.notSynchronized
  have S : CallFix p m c cX0_found 2 s ([.ref h, .ref f] : List Value).toArray lw_all RX0 := ⟨hx, hb, hml, hown, hts⟩
  have X : xX RX0 p s m ([.ref h, .ref f] : List Value).toArray c cX0_found 2 D dA A e0 := ⟨S, hC⟩
  have M : xM D dA A e0 h G (T ++ [(f, .inr (13, [.null, .null, .null, .null, .null, .int 0, .int n]))]) s F Rr s.heap [] := ⟨hP, hD, va_S.rf, hI⟩
  have hl := lv_entry ([.ref h, .ref f]) (n := 2) (Nat.le_of_ble_eq_true rfl)
  rw [lg_entry_eq]
  generalize (lg_sl ([.ref h, .ref f]) ++ List.replicate (2 - (lg_sl ([.ref h, .ref f])).length) Slot.unset).toArray = ls at hl ⊢
  have hl : lv_has ls 2 [(0, .ref h), (1, .ref f)] := hl
  refine lv_aload_n hx hb dX0_found_0 rfl (lv_at hl 0 rfl) ?_
  refine lv_aload_n hx hb dX0_found_1 rfl (lv_at hl 1 rfl) ?_
  refine va_get (cl := xCl) (ci := 13) (fs := [.null, .null, .null, .null, .null, .int 0, .int n]) X.hx X.hb X.hts in_X3 X.ow X.K M.1 (21 + (T.length + 0)) (xT_k rfl) rfl 6 (by decide) (X.hts _ q288) (fun _ h9 => h9) rfl dX0_found_2 ?_
  refine xp_23 X M dX0_found_5 (fun H locs M => ?_)
  refine lv_ldc (v := (-1000010)) hx hb hown (hts _ q326) dX0_found_8 ?_
  refine lv_aload_n hx hb dX0_found_10 rfl (lv_at hl 1 rfl) ?_
  refine va_get (cl := xCl) (ci := 13) (fs := [.null, .null, .null, .null, .null, .int 0, .int n]) X.hx X.hb X.hts in_X3 X.ow X.K M.1 (21 + (T.length + 0)) (xT_k rfl) rfl 6 (by decide) (X.hts _ q288) (fun _ h9 => h9) rfl dX0_found_11 ?_
  refine lv_isub hx hb dX0_found_14 ?_
  exact W.iret (v := (-1000010) - n) hx hb hr (fun t9 ht9 hW9 => ⟨⟨_, (va_up F 23 n, Rr), rfl, rfl, ⟨by rw [ht9]; exact M.1, M.2.1, M.2.2.2⟩⟩, M.2.2.1.F ht9⟩) M.2.2.1.2.2 dX0_found_15

theorem at_exN {n : Nat} {x : Int32} (h : inB 0 (nI n - 1) x = true) (hn : n ≤ 64) : ∃ k : Nat, k < n ∧ x = nI k := by
  obtain ⟨k, ⟨h1, h2⟩, h3⟩ := at_ex (n := nI n) (N := 64) h ⟨nI_pos' (by omega), nI_le (b := 64) hn (by decide)⟩ rfl
  rw [nI_clamp (by omega)] at h1
  exact ⟨k, h1, h3⟩
def x_fnd (F : Nat → Int32) (Rr : Nat → Nat → Int32) (n : Int32) : Int32 × mST := ((-1000010) - n, va_up F 23 n, Rr)
def x_mk (F : Nat → Int32) (Rr : Nat → Nat → Int32) (k lane n : Int32) : Int32 × mST := if inB 0 7 k = false ∨ inB 0 2 lane = false ∨ ¬ n ≤ 64 then ((-1000001), F, Rr) else if n < 0 then x_fnd F Rr 4 else (n, va_up F 23 0, xmkR Rr k.toNatClampNeg lane n.toNatClampNeg)
def x_set (F : Nat → Int32) (Rr : Nat → Nat → Int32) (k i v : Int32) : Int32 × mST := if inB 0 7 k = false then ((-1000001), F, Rr) else if Rr 0 k.toNatClampNeg = -1 then x_fnd F Rr 1 else if inB 0 (Rr 24 k.toNatClampNeg - 1) i = false then x_fnd F Rr 2 else (x_cut (Rr 0 k.toNatClampNeg) v, va_up F 23 0, xitm Rr k.toNatClampNeg (va_up (Rr (30 + k.toNatClampNeg)) i.toNatClampNeg (x_cut (Rr 0 k.toNatClampNeg) v)))
def x_drop (F : Nat → Int32) (Rr : Nat → Nat → Int32) (k : Int32) : Int32 × mST := if inB 0 7 k = false then ((-1000001), F, Rr) else if Rr 0 k.toNatClampNeg = -1 then x_fnd F Rr 1 else (Rr 24 k.toNatClampNeg, va_up F 23 0, mset Rr 0 k.toNatClampNeg (-1))
set_option maxHeartbeats 4000000 in
set_option maxRecDepth 100000 in
theorem metX0_sheet (l : Launch) (D : va_G) (dA : Nat → ClassId) (A : Nat → Prop) (e0 h : Nat) (G : xG) (T : va_W) (F : Nat → Int32) (Rr : Nat → Nat → Int32) (p1 : Int32) (p2 : Int32) (p3 : Int32) : Met l yX0_sheet (wsW_ yX0_sheet cX0_sheet 5 (some .int) [(28, 61, 62, 81)]) ({ frames := 5, cells := 2, slots := 70, locals := 130 } : Room) (va_Pc [.ref h, .int p1, .int p2, .int p3] (xPre D dA A e0 h G T F Rr)) (va_Qi (fun r u => (r, u) = x_mk F Rr p1 p2 p3) (xB D dA A e0 h G T) A) 2 70 A := by
  refine va_MetW (cc := cX0_sheet) (maxL := 5) (ret := (some .int)) (by decide) rfl ?_
  intro p e s m args below meth c s₁ B hml hv
  obtain ⟨rfl, hC, hP, hD, hI⟩ := hv
  have hx := B.exec
  have hb := B.bytes
  have hr := B.returns
  have hts := atoms_spec (ws := (wsW_ yX0_sheet cX0_sheet 5 (some .int) [(28, 61, 62, 81)])) B.pre
  have hts : ∀ w ∈ lw_all, w.before _ s = true := fun w h => hts w (List.mem_cons_of_mem _ h)
  have hown : s.vm.findClass RX0 = some m.cls := findClass_of_methodNamed B.named
  have hlocks := B.notSynchronized
  have S : CallFix p m c cX0_sheet 5 s ([.ref h, .int p1, .int p2, .int p3] : List Value).toArray lw_all RX0 := ⟨hx, hb, hml, hown, hts⟩
  have X : xX RX0 p s m ([.ref h, .int p1, .int p2, .int p3] : List Value).toArray c cX0_sheet 5 D dA A e0 := ⟨S, hC⟩
  have M : xM D dA A e0 h G T s F Rr s.heap [] := ⟨hP, hD, va_S.rf, hI⟩
  have hl := lv_entry ([.ref h, .int p1, .int p2, .int p3]) (n := 5) (Nat.le_of_ble_eq_true rfl)
  rw [lg_entry_eq]
  generalize (lg_sl ([.ref h, .int p1, .int p2, .int p3]) ++ List.replicate (5 - (lg_sl ([.ref h, .int p1, .int p2, .int p3])).length) Slot.unset).toArray = ls at hl ⊢
  have hl : lv_has ls 5 [(0, .ref h), (1, .int p1), (2, .int p2), (3, .int p3)] := hl
  have htab := vx_table (x := yX0_sheet) B (hts _ q224)
  refine lv_iload_n hx hb dX0_sheet_0 rfl (lv_at hl 1 rfl) ?_
  refine s_cI (v := b2i (inB 0 7 p1)) (As := [.int p1]) (rest := []) S (metX0_isSheet l p1) (va_cwS 1 hts (lw_S q226 q227 q57 q228) rfl rfl rfl (by decide +kernel) ⟨Nat.le_of_ble_eq_true rfl, Nat.le_of_ble_eq_true rfl⟩) rfl hl.1 rfl (Nat.le_of_ble_eq_true rfl) dX0_sheet_1 ⟨Nat.le_of_ble_eq_true rfl, Nat.le_of_ble_eq_true rfl⟩ ?_
  refine lz_if_eq (tgt := 25) hx hb dX0_sheet_4 (by decide) (fun c_1 => ?_) (fun c_1 => ?_)
  · -- c_1: inB 0 7 p1 = false
    refine lv_ldc (v := (-1000001)) hx hb hown (hts _ q234) dX0_sheet_25 ?_
    refine W.widen (k := 2) (n := 70) (Nat.le_of_ble_eq_true rfl) (Nat.le_of_ble_eq_true rfl) ?_
    exact W.iret (v := (-1000001)) hx hb hr (fun t9 ht9 hW9 => ⟨⟨_, (F, Rr), rfl, (by simp [x_mk, x_fnd, c_1]), ⟨G, (xext.rf _), by rw [ht9]; exact M.1, M.2.1, M.2.2.2⟩⟩, M.2.2.1.F ht9⟩) M.2.2.1.2.2 dX0_sheet_27
  · -- c_1: inB 0 7 p1 = true
    obtain ⟨k1, hk1, rfl⟩ := inB_ex c_1 (n := 7) rfl
    have ek1 : (nI k1).toNatClampNeg = k1 := nI_clamp (by omega)
    refine lv_iload_n hx hb dX0_sheet_7 rfl (lv_at hl 2 rfl) ?_
    refine lv_i2l (v := p2.toInt64) hx hb dX0_sheet_8 rfl ?_
    refine lv_lconst (v := 0) hx hb dX0_sheet_9 (by decide) ?_
    refine lv_ldc2 (v := 2) hx hb hown (hts _ q233) dX0_sheet_10 ?_
    refine s_cI (v := b2i (inB 0 2 p2)) (As := [.long p2.toInt64, .long 0, .long 2]) (rest := []) S (metX0_isInI l p2 0 2 p2.toInt64 0 2 rfl rfl rfl) (va_cwS 3 hts (lw_S q230 q231 q57 q232) rfl rfl rfl (by decide +kernel) ⟨Nat.le_of_ble_eq_true rfl, Nat.le_of_ble_eq_true rfl⟩) rfl hl.1 rfl (Nat.le_of_ble_eq_true rfl) dX0_sheet_13 ⟨Nat.le_of_ble_eq_true rfl, Nat.le_of_ble_eq_true rfl⟩ ?_
    refine lz_if_eq (tgt := 25) hx hb dX0_sheet_16 (by decide) (fun c_2 => ?_) (fun c_2 => ?_)
    · -- c_2: inB 0 2 p2 = false
      refine lv_ldc (v := (-1000001)) hx hb hown (hts _ q234) dX0_sheet_25 ?_
      refine W.widen (k := 2) (n := 70) (Nat.le_of_ble_eq_true rfl) (Nat.le_of_ble_eq_true rfl) ?_
      exact W.iret (v := (-1000001)) hx hb hr (fun t9 ht9 hW9 => ⟨⟨_, (F, Rr), rfl, (by simp [x_mk, x_fnd, c_1, ek1, c_2]), ⟨G, (xext.rf _), by rw [ht9]; exact M.1, M.2.1, M.2.2.2⟩⟩, M.2.2.1.F ht9⟩) M.2.2.1.2.2 dX0_sheet_27
    · -- c_2: inB 0 2 p2 = true
      refine lv_iload_n hx hb dX0_sheet_19 rfl (lv_at hl 3 rfl) ?_
      refine lv_bipush (v := 64) hx hb dX0_sheet_20 (by decide) ?_
      refine lb_icmp_le (tgt := 28) hx hb dX0_sheet_22 (by decide) (fun c_3 c_3' => ?_) (fun c_3 c_3' => ?_)
      · -- c_3: p3 ≤ 64
        have hle : p3 ≤ 64 := c_3
        refine lv_iload_n hx hb dX0_sheet_28 rfl (lv_at hl 3 rfl) ?_
        refine lb_if_lt (tgt := 36) hx hb dX0_sheet_29 (by decide) (fun c_4 c_4' => ?_) (fun c_4 c_4' => ?_)
        · -- c_4: p3 < 0
          refine lv_iconst (v := 0) hx hb dX0_sheet_36 (by decide) ?_
          refine lv_iconst (v := 4) hx hb dX0_sheet_37 (by decide) ?_
          refine x_thrown X M (vx_runS (As := [.int 0, .int 4]) (rest := []) X.1 (metX0_must_f l D dA (va_A [] _) e0 4) (va_cwS 2 hts (lw_S q235 q236 q57 q237) rfl rfl rfl (by decide +kernel) ⟨Nat.le_of_ble_eq_true rfl, Nat.le_of_ble_eq_true rfl⟩) ⟨gPre_blindD, fun U hU hW => ⟨rfl, X.Cn M.2.2.1 (x_F0 X M.2.2.1) hU hW, x_P0, x_D0⟩⟩ rfl rfl hl.1 rfl (lv_room (Nat.le_of_ble_eq_true rfl)) dX0_sheet_38 ⟨Nat.le_of_ble_eq_true rfl, Nat.le_of_ble_eq_true rfl⟩) (fun q9 ce9 H locs M hce9 hcv9 hcl9 => ?_)
          refine x_catch X htab [] { startPc := 28, endPc := 61, handlerPc := 62, catchType := 81 } [] rfl (fun z9 hz9 => by cases hz9) (by decide) (by decide) (X.hts _ q225) hce9 hcv9 hcl9 ?_
          refine W.eq (g2 := F0 m 62 ls [.ref q9]) rfl ?_
          refine W.widen (k := 1) (n := 7) (Nat.le_of_ble_eq_true rfl) (Nat.le_of_ble_eq_true rfl) ?_
          refine lv_astore (lv' := [(4, .ref q9), (0, .ref h), (1, .int (nI k1)), (2, .int p2), (3, .int p3)]) hx hb dX0_sheet_62 hl (by decide) rfl (fun ls hl => ?_)
          refine lv_aload_n hx hb dX0_sheet_64 rfl (lv_at hl 1 rfl) ?_
          refine lv_aload hx hb dX0_sheet_65 (lv_at hl 0 rfl) ?_
          refine x_cU0 (As := [.ref q9]) (rest := []) X M (metX0_found l D dA A e0 h G T F Rr q9 4) (cwV 1 hts (lw_V q322 q324 qs2 q57 q325) rfl rfl rfl (by decide +kernel) ⟨Nat.le_of_ble_eq_true rfl, Nat.le_of_ble_eq_true rfl⟩) rfl hl.1 rfl (Nat.le_of_ble_eq_true rfl) dX0_sheet_67 ⟨Nat.le_of_ble_eq_true rfl, Nat.le_of_ble_eq_true rfl⟩ (fun r9 F9 R9 hr9 H locs M => ?_)
          obtain ⟨e91, e92, e93⟩ : r9 = (-1000010) - 4 ∧ F9 = va_up F 23 4 ∧ R9 = Rr := ⟨congrArg Prod.fst hr9, congrArg (fun z => z.2.1) hr9, congrArg (fun z => z.2.2) hr9⟩
          rw [e92, e93] at M; rw [e91]
          clear hr9
          have M := xM_drop M
          refine W.widen (k := 2) (n := 70) (Nat.le_of_ble_eq_true rfl) (Nat.le_of_ble_eq_true rfl) ?_
          exact W.iret (v := (-1000010) - 4) hx hb hr (fun t9 ht9 hW9 => ⟨⟨_, (va_up F 23 4, Rr), rfl, (by simp [x_mk, x_fnd, c_1, ek1, c_2, c_3, c_3', c_4, c_4']), ⟨G, (xext.rf _), by rw [ht9]; exact M.1, M.2.1, M.2.2.2⟩⟩, M.2.2.1.F ht9⟩) M.2.2.1.2.2 dX0_sheet_70
        · -- c_4: p3 ≥ 0
          obtain ⟨n1, hn1, rfl⟩ := cnB_ex (show cnB p3 64 from ⟨by first | exact c_4 | exact c_4' | exact Int32.not_lt.mp c_4 | exact Int32.not_lt.mp c_4', hle⟩) (n := 64) rfl
          have en1 : (nI n1).toNatClampNeg = n1 := nI_clamp (by omega)
          refine lv_iconst (v := 1) hx hb dX0_sheet_32 (by decide) ?_
          refine lv_goto (tgt := 37) hx hb dX0_sheet_33 (by decide) ?_
          refine lv_iconst (v := 4) hx hb dX0_sheet_37 (by decide) ?_
          refine va_csv (W.runS (As := [.int 1, .int 4]) (rest := []) S (metX0_must_t l 4) (va_cwS 2 hts (lw_S q235 q236 q57 q237) rfl rfl rfl (by decide +kernel) ⟨Nat.le_of_ble_eq_true rfl, Nat.le_of_ble_eq_true rfl⟩) ⟨fun a U g mk q => q, fun U hU hW => ⟨rfl, trivial⟩⟩ rfl rfl hl.1 rfl (lv_room (Nat.le_of_ble_eq_true rfl)) dX0_sheet_38 ⟨Nat.le_of_ble_eq_true rfl, Nat.le_of_ble_eq_true rfl⟩) (fun _ => ?_)
          refine lv_aload_n hx hb dX0_sheet_41 rfl (lv_at hl 0 rfl) ?_
          refine xg_0 X M dX0_sheet_42 ?_
          refine lv_iload_n hx hb dX0_sheet_45 rfl (lv_at hl 1 rfl) ?_
          refine va_new (ci := 4) (fs := [.int 0, .null]) X.hx X.hb X.hts in_X4 tyX4 tyX4_ok X.ow (X.hts _ q102) (X.hts _ q304) (X.hts _ q66) X.K M.1 M.2.1 M.2.2.1 X.hA rfl (fun j hj => by rcases (show j = 0 ∨ j = 1 by omega) with rfl | rfl <;> rfl) (Nat.le_of_ble_eq_true rfl) (Nat.le_of_ble_eq_true rfl) dX0_sheet_46 (fun q_5 H hP hD hS => ?_)
          have M := xM_push M hP hD hS
          have M : xM D dA A e0 h G (T ++ [(q_5, .inr (4, [.int 0, .null]))]) s F Rr H _ := M
          refine W.widen (k := 1) (n := 2) (Nat.le_of_ble_eq_true rfl) (Nat.le_of_ble_eq_true rfl) ?_
          refine lv_dup hx hb dX0_sheet_49 rfl ?_
          refine lv_iload_n hx hb dX0_sheet_50 rfl (lv_at hl 2 rfl) ?_
          refine lv_iload_n hx hb dX0_sheet_51 rfl (lv_at hl 3 rfl) ?_
          refine x_iniN (j := 0) (As := [.int p2, .int (nI n1)]) (rest := [.ref q_5, .int (nI k1), .ref (g_ad G 0)]) X M rfl (fun A9 => metX4_init l D dA A9 e0 q_5 p2 n1 (by omega)) (cwI 2 X.hts (lw_meth q307) rfl rfl rfl (X.hts _ q66) (X.hts _ q305) (X.hts _ q306) rfl (by decide +kernel) ⟨Nat.le_of_ble_eq_true rfl, Nat.le_of_ble_eq_true rfl⟩) rfl hl.1 rfl (Nat.le_of_ble_eq_true rfl) dX0_sheet_52 ⟨Nat.le_of_ble_eq_true rfl, Nat.le_of_ble_eq_true rfl⟩ (fun u_6 H locs M => ?_)
          rw [List.append_assoc] at M
          have M : xM D dA A e0 h G (T ++ [(q_5, .inr (4, [.int p2, .ref u_6])), (u_6, .inl (dA 0, n1, .inl (fun _ => 0)))]) s F Rr H locs := M
          refine W.widen (k := 2) (n := 66) (Nat.le_of_ble_eq_true rfl) (Nat.le_of_ble_eq_true rfl) ?_
          refine xs_sheet (k := k1) (lane := p2) (n := n1) X M (by omega) c_2 (by omega) dX0_sheet_55 (fun G_7 H locs hxG_7 M => ?_)
          refine lv_aload_n hx hb dX0_sheet_56 rfl (lv_at hl 0 rfl) ?_
          refine lv_iload_n hx hb dX0_sheet_57 rfl (lv_at hl 3 rfl) ?_
          refine x_cU0 (As := [.int (nI n1)]) (rest := []) X M (metX0_well l D dA A e0 h G_7 T F (xmkR Rr k1 p2 n1) (nI n1)) (cwV 1 hts (lw_V q318 q320 qs1 q57 q321) rfl rfl rfl (by decide +kernel) ⟨Nat.le_of_ble_eq_true rfl, Nat.le_of_ble_eq_true rfl⟩) rfl hl.1 rfl (Nat.le_of_ble_eq_true rfl) dX0_sheet_58 ⟨Nat.le_of_ble_eq_true rfl, Nat.le_of_ble_eq_true rfl⟩ (fun r9 F9 R9 hr9 H locs M => ?_)
          obtain ⟨e91, e92, e93⟩ : r9 = nI n1 ∧ F9 = va_up F 23 0 ∧ R9 = xmkR Rr k1 p2 n1 := ⟨congrArg Prod.fst hr9, congrArg (fun z => z.2.1) hr9, congrArg (fun z => z.2.2) hr9⟩
          rw [e92, e93] at M; rw [e91]
          clear hr9
          refine W.widen (k := 2) (n := 70) (Nat.le_of_ble_eq_true rfl) (Nat.le_of_ble_eq_true rfl) ?_
          exact W.iret (v := nI n1) hx hb hr (fun t9 ht9 hW9 => ⟨⟨_, (va_up F 23 0, xmkR Rr k1 p2 n1), rfl, (by simp [x_mk, x_fnd, c_1, ek1, c_2, c_3, c_3', c_4, c_4', en1]), ⟨G_7, ((xext.rf _).tr hxG_7), by rw [ht9]; exact M.1, M.2.1, M.2.2.2⟩⟩, M.2.2.1.F ht9⟩) M.2.2.1.2.2 dX0_sheet_61
      · -- c_3: p3 > 64
        refine lv_ldc (v := (-1000001)) hx hb hown (hts _ q234) dX0_sheet_25 ?_
        refine W.widen (k := 2) (n := 70) (Nat.le_of_ble_eq_true rfl) (Nat.le_of_ble_eq_true rfl) ?_
        exact W.iret (v := (-1000001)) hx hb hr (fun t9 ht9 hW9 => ⟨⟨_, (F, Rr), rfl, (by simp [x_mk, x_fnd, c_1, ek1, c_2, c_3, c_3']), ⟨G, (xext.rf _), by rw [ht9]; exact M.1, M.2.1, M.2.2.2⟩⟩, M.2.2.1.F ht9⟩) M.2.2.1.2.2 dX0_sheet_27

set_option maxHeartbeats 4000000 in
set_option maxRecDepth 100000 in
theorem metX0_set (l : Launch) (D : va_G) (dA : Nat → ClassId) (A : Nat → Prop) (e0 h : Nat) (G : xG) (T : va_W) (F : Nat → Int32) (Rr : Nat → Nat → Int32) (p1 : Int32) (p2 : Int32) (p3 : Int32) : Met l yX0_set (wsW_ yX0_set cX0_set 5 (some .int) [(10, 60, 61, 81)]) ({ frames := 6, cells := 1, slots := 7, locals := 151 } : Room) (va_Pc [.ref h, .int p1, .int p2, .int p3] (xPre D dA A e0 h G T F Rr)) (va_Qi (fun r u => (r, u) = x_set F Rr p1 p2 p3) (xB D dA A e0 h G T) A) 1 7 A := by
  refine va_MetW (cc := cX0_set) (maxL := 5) (ret := (some .int)) (by decide) rfl ?_
  intro p e s m args below meth c s₁ B hml hv
  obtain ⟨rfl, hC, hP, hD, hI⟩ := hv
  have hx := B.exec
  have hb := B.bytes
  have hr := B.returns
  have hts := atoms_spec (ws := (wsW_ yX0_set cX0_set 5 (some .int) [(10, 60, 61, 81)])) B.pre
  have hts : ∀ w ∈ lw_all, w.before _ s = true := fun w h => hts w (List.mem_cons_of_mem _ h)
  have hown : s.vm.findClass RX0 = some m.cls := findClass_of_methodNamed B.named
  have hlocks := B.notSynchronized
  have S : CallFix p m c cX0_set 5 s ([.ref h, .int p1, .int p2, .int p3] : List Value).toArray lw_all RX0 := ⟨hx, hb, hml, hown, hts⟩
  have X : xX RX0 p s m ([.ref h, .int p1, .int p2, .int p3] : List Value).toArray c cX0_set 5 D dA A e0 := ⟨S, hC⟩
  have M : xM D dA A e0 h G T s F Rr s.heap [] := ⟨hP, hD, va_S.rf, hI⟩
  have hl := lv_entry ([.ref h, .int p1, .int p2, .int p3]) (n := 5) (Nat.le_of_ble_eq_true rfl)
  rw [lg_entry_eq]
  generalize (lg_sl ([.ref h, .int p1, .int p2, .int p3]) ++ List.replicate (5 - (lg_sl ([.ref h, .int p1, .int p2, .int p3])).length) Slot.unset).toArray = ls at hl ⊢
  have hl : lv_has ls 5 [(0, .ref h), (1, .int p1), (2, .int p2), (3, .int p3)] := hl
  have htab := vx_table (x := yX0_set) B (hts _ q330)
  refine lv_iload_n hx hb dX0_set_0 rfl (lv_at hl 1 rfl) ?_
  refine s_cI (v := b2i (inB 0 7 p1)) (As := [.int p1]) (rest := []) S (metX0_isSheet l p1) (va_cwS 1 hts (lw_S q226 q227 q57 q228) rfl rfl rfl (by decide +kernel) ⟨Nat.le_of_ble_eq_true rfl, Nat.le_of_ble_eq_true rfl⟩) rfl hl.1 rfl (Nat.le_of_ble_eq_true rfl) dX0_set_1 ⟨Nat.le_of_ble_eq_true rfl, Nat.le_of_ble_eq_true rfl⟩ ?_
  refine lz_if_ne (tgt := 10) hx hb dX0_set_4 (by decide) (fun c_1 => ?_) (fun c_1 => ?_)
  · -- c_1: inB 0 7 p1 = true
    obtain ⟨k1, hk1, rfl⟩ := inB_ex c_1 (n := 7) rfl
    have ek1 : (nI k1).toNatClampNeg = k1 := nI_clamp (by omega)
    refine lv_aload_n hx hb dX0_set_10 rfl (lv_at hl 0 rfl) ?_
    refine lv_iload_n hx hb dX0_set_11 rfl (lv_at hl 1 rfl) ?_
    rcases hy_2 : g_rs G k1 with _ | y_3
    · -- a sheet there: False
      have h0_4 : Rr 0 k1 = -1 := x_nosheet M (by omega) hy_2
      refine x_thrownW M (vx_runV (As := [.int (nI k1)]) (rest := []) X.1 (metX0_sheetAt_f l D dA A e0 h G T F Rr k1 (by omega) hy_2) (cwV 1 hts (lw_V q331 q333 qs3 q57 q334) rfl rfl rfl (by decide +kernel) ⟨Nat.le_of_ble_eq_true rfl, Nat.le_of_ble_eq_true rfl⟩) ⟨xPre_blind, x_recv X M, fun U hU hW => ⟨rfl, x_pre X M hU hW⟩⟩ rfl rfl hl.1 rfl (lv_room (Nat.le_of_ble_eq_true rfl)) dX0_set_12 ⟨Nat.le_of_ble_eq_true rfl, Nat.le_of_ble_eq_true rfl⟩) (fun q9 ce9 H locs M hce9 hcv9 hcl9 => ?_)
      refine x_catch X htab [] { startPc := 10, endPc := 60, handlerPc := 61, catchType := 81 } [] rfl (fun z9 hz9 => by cases hz9) (by decide) (by decide) (X.hts _ q225) hce9 hcv9 hcl9 ?_
      refine W.eq (g2 := F0 m 61 ls [.ref q9]) rfl ?_
      refine W.widen (k := 1) (n := 7) (Nat.le_of_ble_eq_true rfl) (Nat.le_of_ble_eq_true rfl) ?_
      refine lv_astore (lv' := [(4, .ref q9), (0, .ref h), (1, .int (nI k1)), (2, .int p2), (3, .int p3)]) hx hb dX0_set_61 hl (by decide) rfl (fun ls hl => ?_)
      refine lv_aload_n hx hb dX0_set_63 rfl (lv_at hl 1 rfl) ?_
      refine lv_aload hx hb dX0_set_64 (lv_at hl 0 rfl) ?_
      refine x_cU0 (As := [.ref q9]) (rest := []) X M (metX0_found l D dA A e0 h G T F Rr q9 1) (cwV 1 hts (lw_V q322 q324 qs2 q57 q325) rfl rfl rfl (by decide +kernel) ⟨Nat.le_of_ble_eq_true rfl, Nat.le_of_ble_eq_true rfl⟩) rfl hl.1 rfl (Nat.le_of_ble_eq_true rfl) dX0_set_66 ⟨Nat.le_of_ble_eq_true rfl, Nat.le_of_ble_eq_true rfl⟩ (fun r9 F9 R9 hr9 H locs M => ?_)
      obtain ⟨e91, e92, e93⟩ : r9 = (-1000010) - 1 ∧ F9 = va_up F 23 1 ∧ R9 = Rr := ⟨congrArg Prod.fst hr9, congrArg (fun z => z.2.1) hr9, congrArg (fun z => z.2.2) hr9⟩
      rw [e92, e93] at M; rw [e91]
      clear hr9
      have M := xM_drop M
      exact W.iret (v := (-1000010) - 1) hx hb hr (fun t9 ht9 hW9 => ⟨⟨_, (va_up F 23 1, Rr), rfl, (by simp [x_set, x_fnd, xitm, up_s, c_1, ek1, h0_4]), ⟨G, (xext.rf _), by rw [ht9]; exact M.1, M.2.1, M.2.2.2⟩⟩, M.2.2.1.F ht9⟩) M.2.2.1.2.2 dX0_set_69
    · -- a sheet there: True
      refine va_csq (W.runV (As := [.int (nI k1)]) (rest := []) X.1 (metX0_sheetAt_t l D dA A e0 h G T F Rr k1 y_3 (by omega) hy_2) (cwV 1 hts (lw_V q331 q333 qs3 q57 q334) rfl rfl rfl (by decide +kernel) ⟨Nat.le_of_ble_eq_true rfl, Nat.le_of_ble_eq_true rfl⟩) ⟨xPre_blind, x_recv X M, fun U hU hW => ⟨rfl, x_pre X M hU hW⟩⟩ rfl rfl hl.1 rfl (lv_room (Nat.le_of_ble_eq_true rfl)) dX0_set_12 ⟨Nat.le_of_ble_eq_true rfl, Nat.le_of_ble_eq_true rfl⟩) (fun r9 hr9 => ?_)
      subst hr9
      obtain ⟨z_5, n_6, hs_7⟩ := x_sheet M (show k1 < 8 by omega) hy_2
      have h6hs_7 := hs_7.2.2.2.2.2
      have e2hs_7 := hs_7.2.2.2.2.1
      have nehs_7 := hs_7.ne
      have ecn_6 : (nI n_6).toNatClampNeg = n_6 := nI_clamp (by omega)
      refine lv_astore (lv' := [(4, .ref y_3), (0, .ref h), (1, .int (nI k1)), (2, .int p2), (3, .int p3)]) hx hb dX0_set_15 hl (by decide) rfl (fun ls hl => ?_)
      refine lv_iload_n hx hb dX0_set_17 rfl (lv_at hl 3 rfl) ?_
      refine lv_i2l (v := p2.toInt64) hx hb dX0_set_18 rfl ?_
      refine lv_lconst (v := 0) hx hb dX0_set_19 (by decide) ?_
      refine lv_aload hx hb dX0_set_20 (lv_at hl 0 rfl) ?_
      obtain ⟨g_8, hg_8⟩ := xat_ws hs_7.2.1 (xW h dA G F Rr ++ T)
      refine va_get (cl := xCl) (ci := 4) (fs := [.int (Rr 0 k1), .ref z_5]) X.hx X.hb X.hts in_X4 X.ow X.K M.1 g_8 hg_8 rfl 1 (by decide) (X.hts _ q312) (fun _ h9 => h9) rfl dX0_set_22 ?_
      refine xn_it X M hs_7 dX0_set_25 ?_
      refine lv_iconst (v := 1) hx hb dX0_set_26 (by decide) ?_
      refine lv_isub hx hb dX0_set_27 ?_
      refine lv_i2l (v := ((nI n_6) - 1).toInt64) hx hb dX0_set_28 rfl ?_
      refine s_cI (v := b2i (inB 0 ((nI n_6) - 1) p2)) (As := [.long p2.toInt64, .long 0, .long (((nI n_6) - 1).toInt64)]) (rest := []) S (metX0_isInI l p2 0 ((nI n_6) - 1) p2.toInt64 0 (((nI n_6) - 1).toInt64) rfl rfl rfl) (va_cwS 3 hts (lw_S q230 q231 q57 q232) rfl rfl rfl (by decide +kernel) ⟨Nat.le_of_ble_eq_true rfl, Nat.le_of_ble_eq_true rfl⟩) rfl hl.1 rfl (Nat.le_of_ble_eq_true rfl) dX0_set_29 ⟨Nat.le_of_ble_eq_true rfl, Nat.le_of_ble_eq_true rfl⟩ ?_
      refine lv_iconst (v := 2) hx hb dX0_set_32 (by decide) ?_
      by_cases c_9 : inB 0 ((nI n_6) - 1) p2 = true
      · -- must: True
        refine W.eq (g2 := F0 m 33 ls [.int 2, .int 1]) (by rw [c_9]; rfl) ?_
        obtain ⟨i1, hi1, rfl⟩ := at_exN c_9 (by omega)
        have ei1 : (nI i1).toNatClampNeg = i1 := nI_clamp (by omega)
        refine va_csv (W.runS (As := [.int 1, .int 2]) (rest := []) S (metX0_must_t l 2) (va_cwS 2 hts (lw_S q235 q236 q57 q237) rfl rfl rfl (by decide +kernel) ⟨Nat.le_of_ble_eq_true rfl, Nat.le_of_ble_eq_true rfl⟩) ⟨fun a U g mk q => q, fun U hU hW => ⟨rfl, trivial⟩⟩ rfl rfl hl.1 rfl (lv_room (Nat.le_of_ble_eq_true rfl)) dX0_set_33 ⟨Nat.le_of_ble_eq_true rfl, Nat.le_of_ble_eq_true rfl⟩) (fun _ => ?_)
        refine lv_aload hx hb dX0_set_36 (lv_at hl 0 rfl) ?_
        obtain ⟨g_10, hg_10⟩ := xat_ws hs_7.2.1 (xW h dA G F Rr ++ T)
        refine va_get (cl := xCl) (ci := 4) (fs := [.int (Rr 0 k1), .ref z_5]) X.hx X.hb X.hts in_X4 X.ow X.K M.1 g_10 hg_10 rfl 1 (by decide) (X.hts _ q312) (fun _ h9 => h9) rfl dX0_set_38 ?_
        refine lv_iload_n hx hb dX0_set_41 rfl (lv_at hl 3 rfl) ?_
        refine lv_aload hx hb dX0_set_42 (lv_at hl 0 rfl) ?_
        refine lv_iload_n hx hb dX0_set_44 rfl (lv_at hl 4 rfl) ?_
        refine x_cE (v := x_cut (Rr 0 k1) p3) (As := [.int p3]) (rest := [.int (nI i1), .ref z_5]) X M hs_7.2.1 rfl (metX4_cut l D dA A e0 y_3 (Rr 0 k1) z_5 p3) (cwV 1 hts (lw_V q335 q336 q337 q66 q338) rfl rfl rfl (by decide +kernel) ⟨Nat.le_of_ble_eq_true rfl, Nat.le_of_ble_eq_true rfl⟩) rfl hl.1 rfl (Nat.le_of_ble_eq_true rfl) dX0_set_45 ⟨Nat.le_of_ble_eq_true rfl, Nat.le_of_ble_eq_true rfl⟩ ?_
        refine xs_it (i := i1) X M (by omega) hs_7 (by omega) dX0_set_48 (fun G_11 H locs hxG_11 hs_12 M => ?_)
        refine lv_aload_n hx hb dX0_set_49 rfl (lv_at hl 1 rfl) ?_
        refine lv_aload hx hb dX0_set_50 (lv_at hl 0 rfl) ?_
        obtain ⟨g_13, hg_13⟩ := xat_ws hs_12.2.1 (xW h dA G_11 F (xitm Rr k1 (va_up (Rr (30 + k1)) i1 (x_cut (Rr 0 k1) p3))) ++ T)
        refine va_get (cl := xCl) (ci := 4) (fs := [.int ((xitm Rr k1 (va_up (Rr (30 + k1)) i1 (x_cut (Rr 0 k1) p3))) 0 k1), .ref z_5]) X.hx X.hb X.hts in_X4 X.ow X.K M.1 g_13 hg_13 rfl 1 (by decide) (X.hts _ q312) (fun _ h9 => h9) rfl dX0_set_52 ?_
        refine lv_iload_n hx hb dX0_set_55 rfl (lv_at hl 3 rfl) ?_
        refine xr_it (i := i1) X M hs_12 (by omega) dX0_set_56 ?_
        refine x_cU0 (As := [.int ((xitm Rr k1 (va_up (Rr (30 + k1)) i1 (x_cut (Rr 0 k1) p3))) (30 + k1) i1)]) (rest := []) X M (metX0_well l D dA A e0 h G_11 T F (xitm Rr k1 (va_up (Rr (30 + k1)) i1 (x_cut (Rr 0 k1) p3))) ((xitm Rr k1 (va_up (Rr (30 + k1)) i1 (x_cut (Rr 0 k1) p3))) (30 + k1) i1)) (cwV 1 hts (lw_V q318 q320 qs1 q57 q321) rfl rfl rfl (by decide +kernel) ⟨Nat.le_of_ble_eq_true rfl, Nat.le_of_ble_eq_true rfl⟩) rfl hl.1 rfl (Nat.le_of_ble_eq_true rfl) dX0_set_57 ⟨Nat.le_of_ble_eq_true rfl, Nat.le_of_ble_eq_true rfl⟩ (fun r9 F9 R9 hr9 H locs M => ?_)
        obtain ⟨e91, e92, e93⟩ : r9 = (xitm Rr k1 (va_up (Rr (30 + k1)) i1 (x_cut (Rr 0 k1) p3))) (30 + k1) i1 ∧ F9 = va_up F 23 0 ∧ R9 = xitm Rr k1 (va_up (Rr (30 + k1)) i1 (x_cut (Rr 0 k1) p3)) := ⟨congrArg Prod.fst hr9, congrArg (fun z => z.2.1) hr9, congrArg (fun z => z.2.2) hr9⟩
        rw [e92, e93] at M; rw [e91]
        clear hr9
        refine W.widen (k := 1) (n := 7) (Nat.le_of_ble_eq_true rfl) (Nat.le_of_ble_eq_true rfl) ?_
        exact W.iret (v := (xitm Rr k1 (va_up (Rr (30 + k1)) i1 (x_cut (Rr 0 k1) p3))) (30 + k1) i1) hx hb hr (fun t9 ht9 hW9 => ⟨⟨_, (va_up F 23 0, xitm Rr k1 (va_up (Rr (30 + k1)) i1 (x_cut (Rr 0 k1) p3))), rfl, (by simp [x_set, x_fnd, xitm, up_s, c_1, ek1, e2hs_7, nehs_7, ecn_6, c_9, ei1]), ⟨G_11, ((xext.rf _).tr hxG_11), by rw [ht9]; exact M.1, M.2.1, M.2.2.2⟩⟩, M.2.2.1.F ht9⟩) M.2.2.1.2.2 dX0_set_60
      · -- must: False
        have c_9 : inB 0 ((nI n_6) - 1) p2 = false := Bool.eq_false_iff.mpr c_9
        refine W.eq (g2 := F0 m 33 ls [.int 2, .int 0]) (by rw [c_9]; rfl) ?_
        refine x_thrown X M (vx_runS (As := [.int 0, .int 2]) (rest := []) X.1 (metX0_must_f l D dA (va_A [] _) e0 2) (va_cwS 2 hts (lw_S q235 q236 q57 q237) rfl rfl rfl (by decide +kernel) ⟨Nat.le_of_ble_eq_true rfl, Nat.le_of_ble_eq_true rfl⟩) ⟨gPre_blindD, fun U hU hW => ⟨rfl, X.Cn M.2.2.1 (x_F0 X M.2.2.1) hU hW, x_P0, x_D0⟩⟩ rfl rfl hl.1 rfl (lv_room (Nat.le_of_ble_eq_true rfl)) dX0_set_33 ⟨Nat.le_of_ble_eq_true rfl, Nat.le_of_ble_eq_true rfl⟩) (fun q9 ce9 H locs M hce9 hcv9 hcl9 => ?_)
        refine x_catch X htab [] { startPc := 10, endPc := 60, handlerPc := 61, catchType := 81 } [] rfl (fun z9 hz9 => by cases hz9) (by decide) (by decide) (X.hts _ q225) hce9 hcv9 hcl9 ?_
        refine W.eq (g2 := F0 m 61 ls [.ref q9]) rfl ?_
        refine W.widen (k := 1) (n := 7) (Nat.le_of_ble_eq_true rfl) (Nat.le_of_ble_eq_true rfl) ?_
        refine lv_astore (lv' := [(4, .ref q9), (0, .ref h), (1, .int (nI k1)), (2, .int p2), (3, .int p3)]) hx hb dX0_set_61 hl (by decide) rfl (fun ls hl => ?_)
        refine lv_aload_n hx hb dX0_set_63 rfl (lv_at hl 1 rfl) ?_
        refine lv_aload hx hb dX0_set_64 (lv_at hl 0 rfl) ?_
        refine x_cU0 (As := [.ref q9]) (rest := []) X M (metX0_found l D dA A e0 h G T F Rr q9 2) (cwV 1 hts (lw_V q322 q324 qs2 q57 q325) rfl rfl rfl (by decide +kernel) ⟨Nat.le_of_ble_eq_true rfl, Nat.le_of_ble_eq_true rfl⟩) rfl hl.1 rfl (Nat.le_of_ble_eq_true rfl) dX0_set_66 ⟨Nat.le_of_ble_eq_true rfl, Nat.le_of_ble_eq_true rfl⟩ (fun r9 F9 R9 hr9 H locs M => ?_)
        obtain ⟨e91, e92, e93⟩ : r9 = (-1000010) - 2 ∧ F9 = va_up F 23 2 ∧ R9 = Rr := ⟨congrArg Prod.fst hr9, congrArg (fun z => z.2.1) hr9, congrArg (fun z => z.2.2) hr9⟩
        rw [e92, e93] at M; rw [e91]
        clear hr9
        have M := xM_drop M
        exact W.iret (v := (-1000010) - 2) hx hb hr (fun t9 ht9 hW9 => ⟨⟨_, (va_up F 23 2, Rr), rfl, (by simp [x_set, x_fnd, xitm, up_s, c_1, ek1, e2hs_7, nehs_7, ecn_6, c_9]), ⟨G, (xext.rf _), by rw [ht9]; exact M.1, M.2.1, M.2.2.2⟩⟩, M.2.2.1.F ht9⟩) M.2.2.1.2.2 dX0_set_69
  · -- c_1: inB 0 7 p1 = false
    refine lv_ldc (v := (-1000001)) hx hb hown (hts _ q234) dX0_set_7 ?_
    refine W.widen (k := 1) (n := 7) (Nat.le_of_ble_eq_true rfl) (Nat.le_of_ble_eq_true rfl) ?_
    exact W.iret (v := (-1000001)) hx hb hr (fun t9 ht9 hW9 => ⟨⟨_, (F, Rr), rfl, (by simp [x_set, x_fnd, xitm, up_s, c_1]), ⟨G, (xext.rf _), by rw [ht9]; exact M.1, M.2.1, M.2.2.2⟩⟩, M.2.2.1.F ht9⟩) M.2.2.1.2.2 dX0_set_9

set_option maxHeartbeats 4000000 in
set_option maxRecDepth 100000 in
theorem metX0_drop (l : Launch) (D : va_G) (dA : Nat → ClassId) (A : Nat → Prop) (e0 h : Nat) (G : xG) (T : va_W) (F : Nat → Int32) (Rr : Nat → Nat → Int32) (p1 : Int32) : Met l yX0_drop (wsW_ yX0_drop cX0_drop 3 (some .int) [(10, 32, 33, 81)]) ({ frames := 6, cells := 1, slots := 7, locals := 151 } : Room) (va_Pc [.ref h, .int p1] (xPre D dA A e0 h G T F Rr)) (va_Qi (fun r u => (r, u) = x_drop F Rr p1) (xB D dA A e0 h G T) A) 1 7 A := by
  refine va_MetW (cc := cX0_drop) (maxL := 3) (ret := (some .int)) (by decide) rfl ?_
  intro p e s m args below meth c s₁ B hml hv
  obtain ⟨rfl, hC, hP, hD, hI⟩ := hv
  have hx := B.exec
  have hb := B.bytes
  have hr := B.returns
  have hts := atoms_spec (ws := (wsW_ yX0_drop cX0_drop 3 (some .int) [(10, 32, 33, 81)])) B.pre
  have hts : ∀ w ∈ lw_all, w.before _ s = true := fun w h => hts w (List.mem_cons_of_mem _ h)
  have hown : s.vm.findClass RX0 = some m.cls := findClass_of_methodNamed B.named
  have hlocks := B.notSynchronized
  have S : CallFix p m c cX0_drop 3 s ([.ref h, .int p1] : List Value).toArray lw_all RX0 := ⟨hx, hb, hml, hown, hts⟩
  have X : xX RX0 p s m ([.ref h, .int p1] : List Value).toArray c cX0_drop 3 D dA A e0 := ⟨S, hC⟩
  have M : xM D dA A e0 h G T s F Rr s.heap [] := ⟨hP, hD, va_S.rf, hI⟩
  have hl := lv_entry ([.ref h, .int p1]) (n := 3) (Nat.le_of_ble_eq_true rfl)
  rw [lg_entry_eq]
  generalize (lg_sl ([.ref h, .int p1]) ++ List.replicate (3 - (lg_sl ([.ref h, .int p1])).length) Slot.unset).toArray = ls at hl ⊢
  have hl : lv_has ls 3 [(0, .ref h), (1, .int p1)] := hl
  have htab := vx_table (x := yX0_drop) B (hts _ q383)
  refine lv_iload_n hx hb dX0_drop_0 rfl (lv_at hl 1 rfl) ?_
  refine s_cI (v := b2i (inB 0 7 p1)) (As := [.int p1]) (rest := []) S (metX0_isSheet l p1) (va_cwS 1 hts (lw_S q226 q227 q57 q228) rfl rfl rfl (by decide +kernel) ⟨Nat.le_of_ble_eq_true rfl, Nat.le_of_ble_eq_true rfl⟩) rfl hl.1 rfl (Nat.le_of_ble_eq_true rfl) dX0_drop_1 ⟨Nat.le_of_ble_eq_true rfl, Nat.le_of_ble_eq_true rfl⟩ ?_
  refine lz_if_ne (tgt := 10) hx hb dX0_drop_4 (by decide) (fun c_1 => ?_) (fun c_1 => ?_)
  · -- c_1: inB 0 7 p1 = true
    obtain ⟨k1, hk1, rfl⟩ := inB_ex c_1 (n := 7) rfl
    have ek1 : (nI k1).toNatClampNeg = k1 := nI_clamp (by omega)
    refine lv_aload_n hx hb dX0_drop_10 rfl (lv_at hl 0 rfl) ?_
    refine lv_iload_n hx hb dX0_drop_11 rfl (lv_at hl 1 rfl) ?_
    rcases hy_2 : g_rs G k1 with _ | y_3
    · -- a sheet there: False
      have h0_4 : Rr 0 k1 = -1 := x_nosheet M (by omega) hy_2
      refine x_thrownW M (vx_runV (As := [.int (nI k1)]) (rest := []) X.1 (metX0_sheetAt_f l D dA A e0 h G T F Rr k1 (by omega) hy_2) (cwV 1 hts (lw_V q331 q333 qs3 q57 q334) rfl rfl rfl (by decide +kernel) ⟨Nat.le_of_ble_eq_true rfl, Nat.le_of_ble_eq_true rfl⟩) ⟨xPre_blind, x_recv X M, fun U hU hW => ⟨rfl, x_pre X M hU hW⟩⟩ rfl rfl hl.1 rfl (lv_room (Nat.le_of_ble_eq_true rfl)) dX0_drop_12 ⟨Nat.le_of_ble_eq_true rfl, Nat.le_of_ble_eq_true rfl⟩) (fun q9 ce9 H locs M hce9 hcv9 hcl9 => ?_)
      refine x_catch X htab [] { startPc := 10, endPc := 32, handlerPc := 33, catchType := 81 } [] rfl (fun z9 hz9 => by cases hz9) (by decide) (by decide) (X.hts _ q225) hce9 hcv9 hcl9 ?_
      refine W.eq (g2 := F0 m 33 ls [.ref q9]) rfl ?_
      refine W.widen (k := 1) (n := 7) (Nat.le_of_ble_eq_true rfl) (Nat.le_of_ble_eq_true rfl) ?_
      refine lv_astore_n (lv' := [(2, .ref q9), (0, .ref h), (1, .int (nI k1))]) hx hb dX0_drop_33 rfl hl (by decide) rfl (fun ls hl => ?_)
      refine lv_aload_n hx hb dX0_drop_34 rfl (lv_at hl 1 rfl) ?_
      refine lv_aload_n hx hb dX0_drop_35 rfl (lv_at hl 0 rfl) ?_
      refine x_cU0 (As := [.ref q9]) (rest := []) X M (metX0_found l D dA A e0 h G T F Rr q9 1) (cwV 1 hts (lw_V q322 q324 qs2 q57 q325) rfl rfl rfl (by decide +kernel) ⟨Nat.le_of_ble_eq_true rfl, Nat.le_of_ble_eq_true rfl⟩) rfl hl.1 rfl (Nat.le_of_ble_eq_true rfl) dX0_drop_36 ⟨Nat.le_of_ble_eq_true rfl, Nat.le_of_ble_eq_true rfl⟩ (fun r9 F9 R9 hr9 H locs M => ?_)
      obtain ⟨e91, e92, e93⟩ : r9 = (-1000010) - 1 ∧ F9 = va_up F 23 1 ∧ R9 = Rr := ⟨congrArg Prod.fst hr9, congrArg (fun z => z.2.1) hr9, congrArg (fun z => z.2.2) hr9⟩
      rw [e92, e93] at M; rw [e91]
      clear hr9
      have M := xM_drop M
      exact W.iret (v := (-1000010) - 1) hx hb hr (fun t9 ht9 hW9 => ⟨⟨_, (va_up F 23 1, Rr), rfl, (by simp [x_drop, x_fnd, c_1, ek1, h0_4]), ⟨G, (xext.rf _), by rw [ht9]; exact M.1, M.2.1, M.2.2.2⟩⟩, M.2.2.1.F ht9⟩) M.2.2.1.2.2 dX0_drop_39
    · -- a sheet there: True
      refine va_csq (W.runV (As := [.int (nI k1)]) (rest := []) X.1 (metX0_sheetAt_t l D dA A e0 h G T F Rr k1 y_3 (by omega) hy_2) (cwV 1 hts (lw_V q331 q333 qs3 q57 q334) rfl rfl rfl (by decide +kernel) ⟨Nat.le_of_ble_eq_true rfl, Nat.le_of_ble_eq_true rfl⟩) ⟨xPre_blind, x_recv X M, fun U hU hW => ⟨rfl, x_pre X M hU hW⟩⟩ rfl rfl hl.1 rfl (lv_room (Nat.le_of_ble_eq_true rfl)) dX0_drop_12 ⟨Nat.le_of_ble_eq_true rfl, Nat.le_of_ble_eq_true rfl⟩) (fun r9 hr9 => ?_)
      subst hr9
      obtain ⟨z_5, n_6, hs_7⟩ := x_sheet M (show k1 < 8 by omega) hy_2
      have h6hs_7 := hs_7.2.2.2.2.2
      have e2hs_7 := hs_7.2.2.2.2.1
      have nehs_7 := hs_7.ne
      have ecn_6 : (nI n_6).toNatClampNeg = n_6 := nI_clamp (by omega)
      obtain ⟨g_8, hg_8⟩ := xat_ws hs_7.2.1 (xW h dA G F Rr ++ T)
      refine va_get (cl := xCl) (ci := 4) (fs := [.int (Rr 0 k1), .ref z_5]) X.hx X.hb X.hts in_X4 X.ow X.K M.1 g_8 hg_8 rfl 1 (by decide) (X.hts _ q312) (fun _ h9 => h9) rfl dX0_drop_15 ?_
      refine xn_it X M hs_7 dX0_drop_18 ?_
      refine lv_istore_n (lv' := [(2, .int (nI n_6)), (0, .ref h), (1, .int (nI k1))]) hx hb dX0_drop_19 rfl hl (by decide) rfl (fun ls hl => ?_)
      refine lv_aload_n hx hb dX0_drop_20 rfl (lv_at hl 1 rfl) ?_
      refine xg_0 X M dX0_drop_21 ?_
      refine lv_iload_n hx hb dX0_drop_24 rfl (lv_at hl 2 rfl) ?_
      refine lv_null hx hb dX0_drop_25 ?_
      refine xs_drop (k := k1) X M (by omega) dX0_drop_26 (fun G_9 H locs hxG_9 M => ?_)
      refine lv_aload_n hx hb dX0_drop_27 rfl (lv_at hl 1 rfl) ?_
      refine lv_iload_n hx hb dX0_drop_28 rfl (lv_at hl 0 rfl) ?_
      refine x_cU0 (As := [.int (nI n_6)]) (rest := []) X M (metX0_well l D dA A e0 h G_9 T F (mset Rr 0 k1 (-1)) (nI n_6)) (cwV 1 hts (lw_V q318 q320 qs1 q57 q321) rfl rfl rfl (by decide +kernel) ⟨Nat.le_of_ble_eq_true rfl, Nat.le_of_ble_eq_true rfl⟩) rfl hl.1 rfl (Nat.le_of_ble_eq_true rfl) dX0_drop_29 ⟨Nat.le_of_ble_eq_true rfl, Nat.le_of_ble_eq_true rfl⟩ (fun r9 F9 R9 hr9 H locs M => ?_)
      obtain ⟨e91, e92, e93⟩ : r9 = nI n_6 ∧ F9 = va_up F 23 0 ∧ R9 = mset Rr 0 k1 (-1) := ⟨congrArg Prod.fst hr9, congrArg (fun z => z.2.1) hr9, congrArg (fun z => z.2.2) hr9⟩
      rw [e92, e93] at M; rw [e91]
      clear hr9
      refine W.widen (k := 1) (n := 7) (Nat.le_of_ble_eq_true rfl) (Nat.le_of_ble_eq_true rfl) ?_
      exact W.iret (v := nI n_6) hx hb hr (fun t9 ht9 hW9 => ⟨⟨_, (va_up F 23 0, mset Rr 0 k1 (-1)), rfl, (by simp [x_drop, x_fnd, c_1, ek1, e2hs_7, nehs_7, ecn_6]), ⟨G_9, ((xext.rf _).tr hxG_9), by rw [ht9]; exact M.1, M.2.1, M.2.2.2⟩⟩, M.2.2.1.F ht9⟩) M.2.2.1.2.2 dX0_drop_32
  · -- c_1: inB 0 7 p1 = false
    refine lv_ldc (v := (-1000001)) hx hb hown (hts _ q234) dX0_drop_7 ?_
    refine W.widen (k := 1) (n := 7) (Nat.le_of_ble_eq_true rfl) (Nat.le_of_ble_eq_true rfl) ?_
    exact W.iret (v := (-1000001)) hx hb hr (fun t9 ht9 hW9 => ⟨⟨_, (F, Rr), rfl, (by simp [x_drop, x_fnd, c_1]), ⟨G, (xext.rf _), by rw [ht9]; exact M.1, M.2.1, M.2.2.2⟩⟩, M.2.2.1.F ht9⟩) M.2.2.1.2.2 dX0_drop_9

