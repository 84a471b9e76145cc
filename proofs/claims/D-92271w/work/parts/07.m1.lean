/-! THE REFERENCE, 1: its small methods, by contract -/
set_option maxHeartbeats 4000000 in
set_option maxRecDepth 100000 in
theorem metX2_in (l : Launch) (p1 : Int64) (p2 : Int64) (p3 : Int64) : Met l yX2_in (ws_ yX2_in cX2_in 6 (some .boolean)) ({ frames := 0, cells := 0, slots := 0, locals := 0 } : Room) (va_Pc [.long p1, .long p2, .long p3] (fun _ => True)) (vp_Si (fun r => r = b2i (inL p1 p2 p3))) 0 0 (fun _ => False) := by
  refine Met.ofW (cc := cX2_in) (maxL := 6) (ret := (some .boolean)) (by decide) rfl ?_
  intro p e s m args below meth c s₁ B hml hv
  obtain ⟨rfl, -⟩ := hv
  have hx := B.exec
  have hb := B.bytes
  have hr := B.returns
  have hts := atoms_spec (ws := (ws_ yX2_in cX2_in 6 (some .boolean))) B.pre
  have hts : ∀ w ∈ lw_all, w.before _ s = true := fun w h => hts w (List.mem_cons_of_mem _ h)
  have hown : s.vm.findClass RX2 = some m.cls := findClass_of_methodNamed B.named
  have hlocks := B.notSynchronized
  have S : CallFix p m c cX2_in 6 s ([.long p1, .long p2, .long p3] : List Value).toArray lw_all RX2 := ⟨hx, hb, hml, hown, hts⟩
  have hl := lv_entry ([.long p1, .long p2, .long p3]) (n := 6) (Nat.le_of_ble_eq_true rfl)
  rw [lg_entry_eq]
  generalize (lg_sl ([.long p1, .long p2, .long p3]) ++ List.replicate (6 - (lg_sl ([.long p1, .long p2, .long p3])).length) Slot.unset).toArray = ls at hl ⊢
  have hl : lv_has ls 6 [(0, .long p1), (2, .long p2), (4, .long p3)] := hl
  refine lv_lload_n hx hb dX2_in_0 rfl (lv_at hl 0 rfl) ?_
  refine lv_lload_n hx hb dX2_in_1 rfl (lv_at hl 1 rfl) ?_
  refine W.lcmp hx hb dX2_in_2 ?_
  refine lc_if_lt (tgt := 17) hx hb dX2_in_3 (by decide) (fun c_1 c_1' => ?_) (fun c_1 c_1' => ?_)
  · -- c_1: p1 < p2
    refine lv_iconst (v := 0) hx hb dX2_in_17 (by decide) ?_
    exact W.zret (v := 0) hx hb hr rfl (fun t9 ht9 hW9 => ⟨_, rfl, (by first | (simp [inL, b2i, c_1, c_1', up_s, up_n, nI_1, b2i]; done) | (simp_all [inL, b2i]; done) | grind [inL, b2i]), ht9⟩) (fun _ h9 => by cases h9) dX2_in_18
  · -- c_1: p1 ≥ p2
    refine lv_lload_n hx hb dX2_in_6 rfl (lv_at hl 0 rfl) ?_
    refine lv_lload hx hb dX2_in_7 (lv_at hl 2 rfl) ?_
    refine W.lcmp hx hb dX2_in_9 ?_
    refine lc_if_gt (tgt := 17) hx hb dX2_in_10 (by decide) (fun c_2 c_2' => ?_) (fun c_2 c_2' => ?_)
    · -- c_2: p1 > p3
      refine lv_iconst (v := 0) hx hb dX2_in_17 (by decide) ?_
      exact W.zret (v := 0) hx hb hr rfl (fun t9 ht9 hW9 => ⟨_, rfl, (by first | (simp [inL, b2i, c_1, c_1', c_2, c_2', up_s, up_n, nI_1, b2i]; done) | (simp_all [inL, b2i]; done) | grind [inL, b2i]), ht9⟩) (fun _ h9 => by cases h9) dX2_in_18
    · -- c_2: p1 ≤ p3
      refine lv_iconst (v := 1) hx hb dX2_in_13 (by decide) ?_
      refine lv_goto (tgt := 18) hx hb dX2_in_14 (by decide) ?_
      exact W.zret (v := 1) hx hb hr rfl (fun t9 ht9 hW9 => ⟨_, rfl, (by first | (simp [inL, b2i, c_1, c_1', c_2, c_2', up_s, up_n, nI_1, b2i]; done) | (simp_all [inL, b2i]; done) | grind [inL, b2i]), ht9⟩) (fun _ h9 => by cases h9) dX2_in_18

theorem metX2_inI (l : Launch) (v lo hi : Int32) (v' lo' hi' : Int64) (h0 : v.toInt64 = v') (h1 : lo.toInt64 = lo') (h2 : hi.toInt64 = hi') : Met l yX2_in (ws_ yX2_in cX2_in 6 (some .boolean)) ({ frames := 0, cells := 0, slots := 0, locals := 0 } : Room) (va_Pc [.long v', .long lo', .long hi'] (fun _ => True)) (vp_Si (fun r => r = b2i (inB lo hi v))) 0 0 (fun _ => False) := by
  have q := metX2_in l v' lo' hi'
  rw [inL_i h0 h1 h2] at q
  exact q
set_option maxHeartbeats 4000000 in
set_option maxRecDepth 100000 in
theorem metX2_isSheet (l : Launch) (p1 : Int32) : Met l yX2_isSheet (ws_ yX2_isSheet cX2_isSheet 1 (some .boolean)) ({ frames := 1, cells := 0, slots := 0, locals := 25 } : Room) (va_Pc [.int p1] (fun _ => True)) (vp_Si (fun r => r = b2i (inB 0 7 p1))) 0 0 (fun _ => False) := by
  refine Met.ofW (cc := cX2_isSheet) (maxL := 1) (ret := (some .boolean)) (by decide) rfl ?_
  intro p e s m args below meth c s₁ B hml hv
  obtain ⟨rfl, -⟩ := hv
  have hx := B.exec
  have hb := B.bytes
  have hr := B.returns
  have hts := atoms_spec (ws := (ws_ yX2_isSheet cX2_isSheet 1 (some .boolean))) B.pre
  have hts : ∀ w ∈ lw_all, w.before _ s = true := fun w h => hts w (List.mem_cons_of_mem _ h)
  have hown : s.vm.findClass RX2 = some m.cls := findClass_of_methodNamed B.named
  have hlocks := B.notSynchronized
  have S : CallFix p m c cX2_isSheet 1 s ([.int p1] : List Value).toArray lw_all RX2 := ⟨hx, hb, hml, hown, hts⟩
  have hl := lv_entry ([.int p1]) (n := 1) (Nat.le_of_ble_eq_true rfl)
  rw [lg_entry_eq]
  generalize (lg_sl ([.int p1]) ++ List.replicate (1 - (lg_sl ([.int p1])).length) Slot.unset).toArray = ls at hl ⊢
  have hl : lv_has ls 1 [(0, .int p1)] := hl
  refine lv_iload_n hx hb dX2_isSheet_0 rfl (lv_at hl 0 rfl) ?_
  refine lv_i2l (v := p1.toInt64) hx hb dX2_isSheet_1 rfl ?_
  refine lv_lconst (v := 0) hx hb dX2_isSheet_2 (by decide) ?_
  refine lv_ldc2 (v := 7) hx hb hown (hts _ q1622) dX2_isSheet_3 ?_
  refine s_cI (v := b2i (inB 0 7 p1)) (As := [.long p1.toInt64, .long 0, .long 7]) (rest := []) S (metX2_inI l p1 0 7 p1.toInt64 0 7 rfl rfl rfl) (va_cwS 3 hts (lw_S q1623 q1624 q62 q1625) rfl rfl rfl (by decide +kernel) ⟨Nat.le_of_ble_eq_true rfl, Nat.le_of_ble_eq_true rfl⟩) rfl hl.1 rfl (Nat.le_of_ble_eq_true rfl) dX2_isSheet_6 ⟨Nat.zero_le _, Nat.zero_le _⟩ ?_
  exact W.zret (v := b2i (inB 0 7 p1)) hx hb hr (b2i_nar _) (fun t9 ht9 hW9 => ⟨_, rfl, (by first | (simp [b2i, up_s, up_n, nI_1, b2i]; done) | (simp_all [b2i]; done) | grind [b2i]), ht9⟩) (fun _ h9 => by cases h9) dX2_isSheet_9

set_option maxHeartbeats 4000000 in
set_option maxRecDepth 100000 in
theorem metX2_isGate (l : Launch) (p1 : Int32) : Met l yX2_isGate (ws_ yX2_isGate cX2_isGate 1 (some .boolean)) ({ frames := 1, cells := 0, slots := 0, locals := 25 } : Room) (va_Pc [.int p1] (fun _ => True)) (vp_Si (fun r => r = b2i (inB 0 8 p1))) 0 0 (fun _ => False) := by
  refine Met.ofW (cc := cX2_isGate) (maxL := 1) (ret := (some .boolean)) (by decide) rfl ?_
  intro p e s m args below meth c s₁ B hml hv
  obtain ⟨rfl, -⟩ := hv
  have hx := B.exec
  have hb := B.bytes
  have hr := B.returns
  have hts := atoms_spec (ws := (ws_ yX2_isGate cX2_isGate 1 (some .boolean))) B.pre
  have hts : ∀ w ∈ lw_all, w.before _ s = true := fun w h => hts w (List.mem_cons_of_mem _ h)
  have hown : s.vm.findClass RX2 = some m.cls := findClass_of_methodNamed B.named
  have hlocks := B.notSynchronized
  have S : CallFix p m c cX2_isGate 1 s ([.int p1] : List Value).toArray lw_all RX2 := ⟨hx, hb, hml, hown, hts⟩
  have hl := lv_entry ([.int p1]) (n := 1) (Nat.le_of_ble_eq_true rfl)
  rw [lg_entry_eq]
  generalize (lg_sl ([.int p1]) ++ List.replicate (1 - (lg_sl ([.int p1])).length) Slot.unset).toArray = ls at hl ⊢
  have hl : lv_has ls 1 [(0, .int p1)] := hl
  refine lv_iload_n hx hb dX2_isGate_0 rfl (lv_at hl 0 rfl) ?_
  refine lv_i2l (v := p1.toInt64) hx hb dX2_isGate_1 rfl ?_
  refine lv_lconst (v := 0) hx hb dX2_isGate_2 (by decide) ?_
  refine lv_ldc2 (v := 8) hx hb hown (hts _ q1652) dX2_isGate_3 ?_
  refine s_cI (v := b2i (inB 0 8 p1)) (As := [.long p1.toInt64, .long 0, .long 8]) (rest := []) S (metX2_inI l p1 0 8 p1.toInt64 0 8 rfl rfl rfl) (va_cwS 3 hts (lw_S q1623 q1624 q62 q1625) rfl rfl rfl (by decide +kernel) ⟨Nat.le_of_ble_eq_true rfl, Nat.le_of_ble_eq_true rfl⟩) rfl hl.1 rfl (Nat.le_of_ble_eq_true rfl) dX2_isGate_6 ⟨Nat.zero_le _, Nat.zero_le _⟩ ?_
  exact W.zret (v := b2i (inB 0 8 p1)) hx hb hr (b2i_nar _) (fun t9 ht9 hW9 => ⟨_, rfl, (by first | (simp [b2i, up_s, up_n, nI_1, b2i]; done) | (simp_all [b2i]; done) | grind [b2i]), ht9⟩) (fun _ h9 => by cases h9) dX2_isGate_9

set_option maxHeartbeats 4000000 in
set_option maxRecDepth 100000 in
theorem metX2_isDay (l : Launch) (p1 : Int32) : Met l yX2_isDay (ws_ yX2_isDay cX2_isDay 1 (some .boolean)) ({ frames := 1, cells := 0, slots := 0, locals := 25 } : Room) (va_Pc [.int p1] (fun _ => True)) (vp_Si (fun r => r = b2i (inB 0 999 p1))) 0 0 (fun _ => False) := by
  refine Met.ofW (cc := cX2_isDay) (maxL := 1) (ret := (some .boolean)) (by decide) rfl ?_
  intro p e s m args below meth c s₁ B hml hv
  obtain ⟨rfl, -⟩ := hv
  have hx := B.exec
  have hb := B.bytes
  have hr := B.returns
  have hts := atoms_spec (ws := (ws_ yX2_isDay cX2_isDay 1 (some .boolean))) B.pre
  have hts : ∀ w ∈ lw_all, w.before _ s = true := fun w h => hts w (List.mem_cons_of_mem _ h)
  have hown : s.vm.findClass RX2 = some m.cls := findClass_of_methodNamed B.named
  have hlocks := B.notSynchronized
  have S : CallFix p m c cX2_isDay 1 s ([.int p1] : List Value).toArray lw_all RX2 := ⟨hx, hb, hml, hown, hts⟩
  have hl := lv_entry ([.int p1]) (n := 1) (Nat.le_of_ble_eq_true rfl)
  rw [lg_entry_eq]
  generalize (lg_sl ([.int p1]) ++ List.replicate (1 - (lg_sl ([.int p1])).length) Slot.unset).toArray = ls at hl ⊢
  have hl : lv_has ls 1 [(0, .int p1)] := hl
  refine lv_iload_n hx hb dX2_isDay_0 rfl (lv_at hl 0 rfl) ?_
  refine lv_i2l (v := p1.toInt64) hx hb dX2_isDay_1 rfl ?_
  refine lv_lconst (v := 0) hx hb dX2_isDay_2 (by decide) ?_
  refine lv_ldc2 (v := 999) hx hb hown (hts _ q1670) dX2_isDay_3 ?_
  refine s_cI (v := b2i (inB 0 999 p1)) (As := [.long p1.toInt64, .long 0, .long 999]) (rest := []) S (metX2_inI l p1 0 999 p1.toInt64 0 999 rfl rfl rfl) (va_cwS 3 hts (lw_S q1623 q1624 q62 q1625) rfl rfl rfl (by decide +kernel) ⟨Nat.le_of_ble_eq_true rfl, Nat.le_of_ble_eq_true rfl⟩) rfl hl.1 rfl (Nat.le_of_ble_eq_true rfl) dX2_isDay_6 ⟨Nat.zero_le _, Nat.zero_le _⟩ ?_
  exact W.zret (v := b2i (inB 0 999 p1)) hx hb hr (b2i_nar _) (fun t9 ht9 hW9 => ⟨_, rfl, (by first | (simp [b2i, up_s, up_n, nI_1, b2i]; done) | (simp_all [b2i]; done) | grind [b2i]), ht9⟩) (fun _ h9 => by cases h9) dX2_isDay_9

set_option maxHeartbeats 4000000 in
set_option maxRecDepth 100000 in
theorem metX2_isMinute (l : Launch) (p1 : Int32) : Met l yX2_isMinute (ws_ yX2_isMinute cX2_isMinute 1 (some .boolean)) ({ frames := 1, cells := 0, slots := 0, locals := 25 } : Room) (va_Pc [.int p1] (fun _ => True)) (vp_Si (fun r => r = b2i (inB 0 1439 p1))) 0 0 (fun _ => False) := by
  refine Met.ofW (cc := cX2_isMinute) (maxL := 1) (ret := (some .boolean)) (by decide) rfl ?_
  intro p e s m args below meth c s₁ B hml hv
  obtain ⟨rfl, -⟩ := hv
  have hx := B.exec
  have hb := B.bytes
  have hr := B.returns
  have hts := atoms_spec (ws := (ws_ yX2_isMinute cX2_isMinute 1 (some .boolean))) B.pre
  have hts : ∀ w ∈ lw_all, w.before _ s = true := fun w h => hts w (List.mem_cons_of_mem _ h)
  have hown : s.vm.findClass RX2 = some m.cls := findClass_of_methodNamed B.named
  have hlocks := B.notSynchronized
  have S : CallFix p m c cX2_isMinute 1 s ([.int p1] : List Value).toArray lw_all RX2 := ⟨hx, hb, hml, hown, hts⟩
  have hl := lv_entry ([.int p1]) (n := 1) (Nat.le_of_ble_eq_true rfl)
  rw [lg_entry_eq]
  generalize (lg_sl ([.int p1]) ++ List.replicate (1 - (lg_sl ([.int p1])).length) Slot.unset).toArray = ls at hl ⊢
  have hl : lv_has ls 1 [(0, .int p1)] := hl
  refine lv_iload_n hx hb dX2_isMinute_0 rfl (lv_at hl 0 rfl) ?_
  refine lv_i2l (v := p1.toInt64) hx hb dX2_isMinute_1 rfl ?_
  refine lv_lconst (v := 0) hx hb dX2_isMinute_2 (by decide) ?_
  refine lv_ldc2 (v := 1439) hx hb hown (hts _ q1656) dX2_isMinute_3 ?_
  refine s_cI (v := b2i (inB 0 1439 p1)) (As := [.long p1.toInt64, .long 0, .long 1439]) (rest := []) S (metX2_inI l p1 0 1439 p1.toInt64 0 1439 rfl rfl rfl) (va_cwS 3 hts (lw_S q1623 q1624 q62 q1625) rfl rfl rfl (by decide +kernel) ⟨Nat.le_of_ble_eq_true rfl, Nat.le_of_ble_eq_true rfl⟩) rfl hl.1 rfl (Nat.le_of_ble_eq_true rfl) dX2_isMinute_6 ⟨Nat.zero_le _, Nat.zero_le _⟩ ?_
  exact W.zret (v := b2i (inB 0 1439 p1)) hx hb hr (b2i_nar _) (fun t9 ht9 hW9 => ⟨_, rfl, (by first | (simp [b2i, up_s, up_n, nI_1, b2i]; done) | (simp_all [b2i]; done) | grind [b2i]), ht9⟩) (fun _ h9 => by cases h9) dX2_isMinute_9

set_option maxHeartbeats 4000000 in
set_option maxRecDepth 100000 in
theorem metX2_isTown (l : Launch) (p1 : Int32) : Met l yX2_isTown (ws_ yX2_isTown cX2_isTown 1 (some .boolean)) ({ frames := 1, cells := 0, slots := 0, locals := 25 } : Room) (va_Pc [.int p1] (fun _ => True)) (vp_Si (fun r => r = b2i (inB 0 7 p1))) 0 0 (fun _ => False) := by
  refine Met.ofW (cc := cX2_isTown) (maxL := 1) (ret := (some .boolean)) (by decide) rfl ?_
  intro p e s m args below meth c s₁ B hml hv
  obtain ⟨rfl, -⟩ := hv
  have hx := B.exec
  have hb := B.bytes
  have hr := B.returns
  have hts := atoms_spec (ws := (ws_ yX2_isTown cX2_isTown 1 (some .boolean))) B.pre
  have hts : ∀ w ∈ lw_all, w.before _ s = true := fun w h => hts w (List.mem_cons_of_mem _ h)
  have hown : s.vm.findClass RX2 = some m.cls := findClass_of_methodNamed B.named
  have hlocks := B.notSynchronized
  have S : CallFix p m c cX2_isTown 1 s ([.int p1] : List Value).toArray lw_all RX2 := ⟨hx, hb, hml, hown, hts⟩
  have hl := lv_entry ([.int p1]) (n := 1) (Nat.le_of_ble_eq_true rfl)
  rw [lg_entry_eq]
  generalize (lg_sl ([.int p1]) ++ List.replicate (1 - (lg_sl ([.int p1])).length) Slot.unset).toArray = ls at hl ⊢
  have hl : lv_has ls 1 [(0, .int p1)] := hl
  refine lv_iload_n hx hb dX2_isTown_0 rfl (lv_at hl 0 rfl) ?_
  refine lv_i2l (v := p1.toInt64) hx hb dX2_isTown_1 rfl ?_
  refine lv_lconst (v := 0) hx hb dX2_isTown_2 (by decide) ?_
  refine lv_ldc2 (v := 7) hx hb hown (hts _ q1622) dX2_isTown_3 ?_
  refine s_cI (v := b2i (inB 0 7 p1)) (As := [.long p1.toInt64, .long 0, .long 7]) (rest := []) S (metX2_inI l p1 0 7 p1.toInt64 0 7 rfl rfl rfl) (va_cwS 3 hts (lw_S q1623 q1624 q62 q1625) rfl rfl rfl (by decide +kernel) ⟨Nat.le_of_ble_eq_true rfl, Nat.le_of_ble_eq_true rfl⟩) rfl hl.1 rfl (Nat.le_of_ble_eq_true rfl) dX2_isTown_6 ⟨Nat.zero_le _, Nat.zero_le _⟩ ?_
  exact W.zret (v := b2i (inB 0 7 p1)) hx hb hr (b2i_nar _) (fun t9 ht9 hW9 => ⟨_, rfl, (by first | (simp [b2i, up_s, up_n, nI_1, b2i]; done) | (simp_all [b2i]; done) | grind [b2i]), ht9⟩) (fun _ h9 => by cases h9) dX2_isTown_9

set_option maxHeartbeats 4000000 in
set_option maxRecDepth 100000 in
theorem metX2_isPerson (l : Launch) (p1 : Int32) : Met l yX2_isPerson (ws_ yX2_isPerson cX2_isPerson 1 (some .boolean)) ({ frames := 1, cells := 0, slots := 0, locals := 25 } : Room) (va_Pc [.int p1] (fun _ => True)) (vp_Si (fun r => r = b2i (inB 0 11 p1))) 0 0 (fun _ => False) := by
  refine Met.ofW (cc := cX2_isPerson) (maxL := 1) (ret := (some .boolean)) (by decide) rfl ?_
  intro p e s m args below meth c s₁ B hml hv
  obtain ⟨rfl, -⟩ := hv
  have hx := B.exec
  have hb := B.bytes
  have hr := B.returns
  have hts := atoms_spec (ws := (ws_ yX2_isPerson cX2_isPerson 1 (some .boolean))) B.pre
  have hts : ∀ w ∈ lw_all, w.before _ s = true := fun w h => hts w (List.mem_cons_of_mem _ h)
  have hown : s.vm.findClass RX2 = some m.cls := findClass_of_methodNamed B.named
  have hlocks := B.notSynchronized
  have S : CallFix p m c cX2_isPerson 1 s ([.int p1] : List Value).toArray lw_all RX2 := ⟨hx, hb, hml, hown, hts⟩
  have hl := lv_entry ([.int p1]) (n := 1) (Nat.le_of_ble_eq_true rfl)
  rw [lg_entry_eq]
  generalize (lg_sl ([.int p1]) ++ List.replicate (1 - (lg_sl ([.int p1])).length) Slot.unset).toArray = ls at hl ⊢
  have hl : lv_has ls 1 [(0, .int p1)] := hl
  refine lv_iload_n hx hb dX2_isPerson_0 rfl (lv_at hl 0 rfl) ?_
  refine lv_i2l (v := p1.toInt64) hx hb dX2_isPerson_1 rfl ?_
  refine lv_lconst (v := 0) hx hb dX2_isPerson_2 (by decide) ?_
  refine lv_ldc2 (v := 11) hx hb hown (hts _ q1826) dX2_isPerson_3 ?_
  refine s_cI (v := b2i (inB 0 11 p1)) (As := [.long p1.toInt64, .long 0, .long 11]) (rest := []) S (metX2_inI l p1 0 11 p1.toInt64 0 11 rfl rfl rfl) (va_cwS 3 hts (lw_S q1623 q1624 q62 q1625) rfl rfl rfl (by decide +kernel) ⟨Nat.le_of_ble_eq_true rfl, Nat.le_of_ble_eq_true rfl⟩) rfl hl.1 rfl (Nat.le_of_ble_eq_true rfl) dX2_isPerson_6 ⟨Nat.zero_le _, Nat.zero_le _⟩ ?_
  exact W.zret (v := b2i (inB 0 11 p1)) hx hb hr (b2i_nar _) (fun t9 ht9 hW9 => ⟨_, rfl, (by first | (simp [b2i, up_s, up_n, nI_1, b2i]; done) | (simp_all [b2i]; done) | grind [b2i]), ht9⟩) (fun _ h9 => by cases h9) dX2_isPerson_9

set_option maxHeartbeats 4000000 in
set_option maxRecDepth 100000 in
theorem metX2_isLength (l : Launch) (p1 : Int32) : Met l yX2_isLength (ws_ yX2_isLength cX2_isLength 1 (some .boolean)) ({ frames := 1, cells := 0, slots := 0, locals := 25 } : Room) (va_Pc [.int p1] (fun _ => True)) (vp_Si (fun r => r = b2i (inB 0 11 p1))) 0 0 (fun _ => False) := by
  refine Met.ofW (cc := cX2_isLength) (maxL := 1) (ret := (some .boolean)) (by decide) rfl ?_
  intro p e s m args below meth c s₁ B hml hv
  obtain ⟨rfl, -⟩ := hv
  have hx := B.exec
  have hb := B.bytes
  have hr := B.returns
  have hts := atoms_spec (ws := (ws_ yX2_isLength cX2_isLength 1 (some .boolean))) B.pre
  have hts : ∀ w ∈ lw_all, w.before _ s = true := fun w h => hts w (List.mem_cons_of_mem _ h)
  have hown : s.vm.findClass RX2 = some m.cls := findClass_of_methodNamed B.named
  have hlocks := B.notSynchronized
  have S : CallFix p m c cX2_isLength 1 s ([.int p1] : List Value).toArray lw_all RX2 := ⟨hx, hb, hml, hown, hts⟩
  have hl := lv_entry ([.int p1]) (n := 1) (Nat.le_of_ble_eq_true rfl)
  rw [lg_entry_eq]
  generalize (lg_sl ([.int p1]) ++ List.replicate (1 - (lg_sl ([.int p1])).length) Slot.unset).toArray = ls at hl ⊢
  have hl : lv_has ls 1 [(0, .int p1)] := hl
  refine lv_iload_n hx hb dX2_isLength_0 rfl (lv_at hl 0 rfl) ?_
  refine lv_i2l (v := p1.toInt64) hx hb dX2_isLength_1 rfl ?_
  refine lv_lconst (v := 0) hx hb dX2_isLength_2 (by decide) ?_
  refine lv_ldc2 (v := 11) hx hb hown (hts _ q1826) dX2_isLength_3 ?_
  refine s_cI (v := b2i (inB 0 11 p1)) (As := [.long p1.toInt64, .long 0, .long 11]) (rest := []) S (metX2_inI l p1 0 11 p1.toInt64 0 11 rfl rfl rfl) (va_cwS 3 hts (lw_S q1623 q1624 q62 q1625) rfl rfl rfl (by decide +kernel) ⟨Nat.le_of_ble_eq_true rfl, Nat.le_of_ble_eq_true rfl⟩) rfl hl.1 rfl (Nat.le_of_ble_eq_true rfl) dX2_isLength_6 ⟨Nat.zero_le _, Nat.zero_le _⟩ ?_
  exact W.zret (v := b2i (inB 0 11 p1)) hx hb hr (b2i_nar _) (fun t9 ht9 hW9 => ⟨_, rfl, (by first | (simp [b2i, up_s, up_n, nI_1, b2i]; done) | (simp_all [b2i]; done) | grind [b2i]), ht9⟩) (fun _ h9 => by cases h9) dX2_isLength_9

set_option maxHeartbeats 4000000 in
set_option maxRecDepth 100000 in
theorem metX2_isSpot (l : Launch) (p1 : Int32) (p2 : Int32) : Met l yX2_isSpot (ws_ yX2_isSpot cX2_isSpot 2 (some .boolean)) ({ frames := 1, cells := 0, slots := 0, locals := 25 } : Room) (va_Pc [.int p1, .int p2] (fun _ => True)) (vp_Si (fun r => r = b2i (inB 0 999 p1 && inB 0 999 p2))) 0 0 (fun _ => False) := by
  refine Met.ofW (cc := cX2_isSpot) (maxL := 2) (ret := (some .boolean)) (by decide) rfl ?_
  intro p e s m args below meth c s₁ B hml hv
  obtain ⟨rfl, -⟩ := hv
  have hx := B.exec
  have hb := B.bytes
  have hr := B.returns
  have hts := atoms_spec (ws := (ws_ yX2_isSpot cX2_isSpot 2 (some .boolean))) B.pre
  have hts : ∀ w ∈ lw_all, w.before _ s = true := fun w h => hts w (List.mem_cons_of_mem _ h)
  have hown : s.vm.findClass RX2 = some m.cls := findClass_of_methodNamed B.named
  have hlocks := B.notSynchronized
  have S : CallFix p m c cX2_isSpot 2 s ([.int p1, .int p2] : List Value).toArray lw_all RX2 := ⟨hx, hb, hml, hown, hts⟩
  have hl := lv_entry ([.int p1, .int p2]) (n := 2) (Nat.le_of_ble_eq_true rfl)
  rw [lg_entry_eq]
  generalize (lg_sl ([.int p1, .int p2]) ++ List.replicate (2 - (lg_sl ([.int p1, .int p2])).length) Slot.unset).toArray = ls at hl ⊢
  have hl : lv_has ls 2 [(0, .int p1), (1, .int p2)] := hl
  refine lv_iload_n hx hb dX2_isSpot_0 rfl (lv_at hl 0 rfl) ?_
  refine lv_i2l (v := p1.toInt64) hx hb dX2_isSpot_1 rfl ?_
  refine lv_lconst (v := 0) hx hb dX2_isSpot_2 (by decide) ?_
  refine lv_ldc2 (v := 999) hx hb hown (hts _ q1670) dX2_isSpot_3 ?_
  refine s_cI (v := b2i (inB 0 999 p1)) (As := [.long p1.toInt64, .long 0, .long 999]) (rest := []) S (metX2_inI l p1 0 999 p1.toInt64 0 999 rfl rfl rfl) (va_cwS 3 hts (lw_S q1623 q1624 q62 q1625) rfl rfl rfl (by decide +kernel) ⟨Nat.le_of_ble_eq_true rfl, Nat.le_of_ble_eq_true rfl⟩) rfl hl.1 rfl (Nat.le_of_ble_eq_true rfl) dX2_isSpot_6 ⟨Nat.zero_le _, Nat.zero_le _⟩ ?_
  refine lz_if_eq (tgt := 28) hx hb dX2_isSpot_9 (by decide) (fun c_1 => ?_) (fun c_1 => ?_)
  · -- c_1: inB 0 999 p1 = false
    refine lv_iconst (v := 0) hx hb dX2_isSpot_28 (by decide) ?_
    exact W.zret (v := 0) hx hb hr rfl (fun t9 ht9 hW9 => ⟨_, rfl, (by first | (simp [b2i, c_1, up_s, up_n, nI_1, b2i]; done) | (simp_all [b2i]; done) | grind [b2i]), ht9⟩) (fun _ h9 => by cases h9) dX2_isSpot_29
  · -- c_1: inB 0 999 p1 = true
    refine lv_iload_n hx hb dX2_isSpot_12 rfl (lv_at hl 1 rfl) ?_
    refine lv_i2l (v := p2.toInt64) hx hb dX2_isSpot_13 rfl ?_
    refine lv_lconst (v := 0) hx hb dX2_isSpot_14 (by decide) ?_
    refine lv_ldc2 (v := 999) hx hb hown (hts _ q1670) dX2_isSpot_15 ?_
    refine s_cI (v := b2i (inB 0 999 p2)) (As := [.long p2.toInt64, .long 0, .long 999]) (rest := []) S (metX2_inI l p2 0 999 p2.toInt64 0 999 rfl rfl rfl) (va_cwS 3 hts (lw_S q1623 q1624 q62 q1625) rfl rfl rfl (by decide +kernel) ⟨Nat.le_of_ble_eq_true rfl, Nat.le_of_ble_eq_true rfl⟩) rfl hl.1 rfl (Nat.le_of_ble_eq_true rfl) dX2_isSpot_18 ⟨Nat.zero_le _, Nat.zero_le _⟩ ?_
    refine lz_if_eq (tgt := 28) hx hb dX2_isSpot_21 (by decide) (fun c_2 => ?_) (fun c_2 => ?_)
    · -- c_2: inB 0 999 p2 = false
      refine lv_iconst (v := 0) hx hb dX2_isSpot_28 (by decide) ?_
      exact W.zret (v := 0) hx hb hr rfl (fun t9 ht9 hW9 => ⟨_, rfl, (by first | (simp [b2i, c_1, c_2, up_s, up_n, nI_1, b2i]; done) | (simp_all [b2i]; done) | grind [b2i]), ht9⟩) (fun _ h9 => by cases h9) dX2_isSpot_29
    · -- c_2: inB 0 999 p2 = true
      refine lv_iconst (v := 1) hx hb dX2_isSpot_24 (by decide) ?_
      refine lv_goto (tgt := 29) hx hb dX2_isSpot_25 (by decide) ?_
      exact W.zret (v := 1) hx hb hr rfl (fun t9 ht9 hW9 => ⟨_, rfl, (by first | (simp [b2i, c_1, c_2, up_s, up_n, nI_1, b2i]; done) | (simp_all [b2i]; done) | grind [b2i]), ht9⟩) (fun _ h9 => by cases h9) dX2_isSpot_29

set_option maxHeartbeats 4000000 in
set_option maxRecDepth 100000 in
theorem metX2_isLetter (l : Launch) (p1 : Int32) : Met l yX2_isLetter (ws_ yX2_isLetter cX2_isLetter 1 (some .boolean)) ({ frames := 0, cells := 0, slots := 0, locals := 0 } : Room) (va_Pc [.int p1] (fun _ => True)) (vp_Si (fun r => r = b2i (inB 97 122 p1))) 0 0 (fun _ => False) := by
  refine Met.ofW (cc := cX2_isLetter) (maxL := 1) (ret := (some .boolean)) (by decide) rfl ?_
  intro p e s m args below meth c s₁ B hml hv
  obtain ⟨rfl, -⟩ := hv
  have hx := B.exec
  have hb := B.bytes
  have hr := B.returns
  have hts := atoms_spec (ws := (ws_ yX2_isLetter cX2_isLetter 1 (some .boolean))) B.pre
  have hts : ∀ w ∈ lw_all, w.before _ s = true := fun w h => hts w (List.mem_cons_of_mem _ h)
  have hown : s.vm.findClass RX2 = some m.cls := findClass_of_methodNamed B.named
  have hlocks := B.notSynchronized
  have S : CallFix p m c cX2_isLetter 1 s ([.int p1] : List Value).toArray lw_all RX2 := ⟨hx, hb, hml, hown, hts⟩
  have hl := lv_entry ([.int p1]) (n := 1) (Nat.le_of_ble_eq_true rfl)
  rw [lg_entry_eq]
  generalize (lg_sl ([.int p1]) ++ List.replicate (1 - (lg_sl ([.int p1])).length) Slot.unset).toArray = ls at hl ⊢
  have hl : lv_has ls 1 [(0, .int p1)] := hl
  refine lv_iload_n hx hb dX2_isLetter_0 rfl (lv_at hl 0 rfl) ?_
  refine lv_bipush (v := 97) hx hb dX2_isLetter_1 (by decide) ?_
  refine lb_icmp_lt (tgt := 16) hx hb dX2_isLetter_3 (by decide) (fun c_1 c_1' => ?_) (fun c_1 c_1' => ?_)
  · -- c_1: p1 < 97
    refine lv_iconst (v := 0) hx hb dX2_isLetter_16 (by decide) ?_
    exact W.zret (v := 0) hx hb hr rfl (fun t9 ht9 hW9 => ⟨_, rfl, (by first | (simp [inB, b2i, c_1, c_1', up_s, up_n, nI_1, b2i]; done) | (simp_all [inB, b2i]; done) | grind [inB, b2i]), ht9⟩) (fun _ h9 => by cases h9) dX2_isLetter_17
  · -- c_1: p1 ≥ 97
    refine lv_iload_n hx hb dX2_isLetter_6 rfl (lv_at hl 0 rfl) ?_
    refine lv_bipush (v := 122) hx hb dX2_isLetter_7 (by decide) ?_
    refine lb_icmp_gt (tgt := 16) hx hb dX2_isLetter_9 (by decide) (fun c_2 c_2' => ?_) (fun c_2 c_2' => ?_)
    · -- c_2: p1 > 122
      refine lv_iconst (v := 0) hx hb dX2_isLetter_16 (by decide) ?_
      exact W.zret (v := 0) hx hb hr rfl (fun t9 ht9 hW9 => ⟨_, rfl, (by first | (simp [inB, b2i, c_1, c_1', c_2, c_2', up_s, up_n, nI_1, b2i]; done) | (simp_all [inB, b2i]; done) | grind [inB, b2i]), ht9⟩) (fun _ h9 => by cases h9) dX2_isLetter_17
    · -- c_2: p1 ≤ 122
      refine lv_iconst (v := 1) hx hb dX2_isLetter_12 (by decide) ?_
      refine lv_goto (tgt := 17) hx hb dX2_isLetter_13 (by decide) ?_
      exact W.zret (v := 1) hx hb hr rfl (fun t9 ht9 hW9 => ⟨_, rfl, (by first | (simp [inB, b2i, c_1, c_1', c_2, c_2', up_s, up_n, nI_1, b2i]; done) | (simp_all [inB, b2i]; done) | grind [inB, b2i]), ht9⟩) (fun _ h9 => by cases h9) dX2_isLetter_17

set_option maxHeartbeats 4000000 in
set_option maxRecDepth 100000 in
theorem metX2_isFigure (l : Launch) (p1 : Int32) : Met l yX2_isFigure (ws_ yX2_isFigure cX2_isFigure 1 (some .boolean)) ({ frames := 0, cells := 0, slots := 0, locals := 0 } : Room) (va_Pc [.int p1] (fun _ => True)) (vp_Si (fun r => r = b2i (inB 48 57 p1))) 0 0 (fun _ => False) := by
  refine Met.ofW (cc := cX2_isFigure) (maxL := 1) (ret := (some .boolean)) (by decide) rfl ?_
  intro p e s m args below meth c s₁ B hml hv
  obtain ⟨rfl, -⟩ := hv
  have hx := B.exec
  have hb := B.bytes
  have hr := B.returns
  have hts := atoms_spec (ws := (ws_ yX2_isFigure cX2_isFigure 1 (some .boolean))) B.pre
  have hts : ∀ w ∈ lw_all, w.before _ s = true := fun w h => hts w (List.mem_cons_of_mem _ h)
  have hown : s.vm.findClass RX2 = some m.cls := findClass_of_methodNamed B.named
  have hlocks := B.notSynchronized
  have S : CallFix p m c cX2_isFigure 1 s ([.int p1] : List Value).toArray lw_all RX2 := ⟨hx, hb, hml, hown, hts⟩
  have hl := lv_entry ([.int p1]) (n := 1) (Nat.le_of_ble_eq_true rfl)
  rw [lg_entry_eq]
  generalize (lg_sl ([.int p1]) ++ List.replicate (1 - (lg_sl ([.int p1])).length) Slot.unset).toArray = ls at hl ⊢
  have hl : lv_has ls 1 [(0, .int p1)] := hl
  refine lv_iload_n hx hb dX2_isFigure_0 rfl (lv_at hl 0 rfl) ?_
  refine lv_bipush (v := 48) hx hb dX2_isFigure_1 (by decide) ?_
  refine lb_icmp_lt (tgt := 16) hx hb dX2_isFigure_3 (by decide) (fun c_1 c_1' => ?_) (fun c_1 c_1' => ?_)
  · -- c_1: p1 < 48
    refine lv_iconst (v := 0) hx hb dX2_isFigure_16 (by decide) ?_
    exact W.zret (v := 0) hx hb hr rfl (fun t9 ht9 hW9 => ⟨_, rfl, (by first | (simp [inB, b2i, c_1, c_1', up_s, up_n, nI_1, b2i]; done) | (simp_all [inB, b2i]; done) | grind [inB, b2i]), ht9⟩) (fun _ h9 => by cases h9) dX2_isFigure_17
  · -- c_1: p1 ≥ 48
    refine lv_iload_n hx hb dX2_isFigure_6 rfl (lv_at hl 0 rfl) ?_
    refine lv_bipush (v := 57) hx hb dX2_isFigure_7 (by decide) ?_
    refine lb_icmp_gt (tgt := 16) hx hb dX2_isFigure_9 (by decide) (fun c_2 c_2' => ?_) (fun c_2 c_2' => ?_)
    · -- c_2: p1 > 57
      refine lv_iconst (v := 0) hx hb dX2_isFigure_16 (by decide) ?_
      exact W.zret (v := 0) hx hb hr rfl (fun t9 ht9 hW9 => ⟨_, rfl, (by first | (simp [inB, b2i, c_1, c_1', c_2, c_2', up_s, up_n, nI_1, b2i]; done) | (simp_all [inB, b2i]; done) | grind [inB, b2i]), ht9⟩) (fun _ h9 => by cases h9) dX2_isFigure_17
    · -- c_2: p1 ≤ 57
      refine lv_iconst (v := 1) hx hb dX2_isFigure_12 (by decide) ?_
      refine lv_goto (tgt := 17) hx hb dX2_isFigure_13 (by decide) ?_
      exact W.zret (v := 1) hx hb hr rfl (fun t9 ht9 hW9 => ⟨_, rfl, (by first | (simp [inB, b2i, c_1, c_1', c_2, c_2', up_s, up_n, nI_1, b2i]; done) | (simp_all [inB, b2i]; done) | grind [inB, b2i]), ht9⟩) (fun _ h9 => by cases h9) dX2_isFigure_17

def m_far (a b : Int32) : Int32 := if a < b then b - a else a - b
set_option maxHeartbeats 4000000 in
set_option maxRecDepth 100000 in
theorem metX2_far (l : Launch) (p1 : Int32) (p2 : Int32) : Met l yX2_far (ws_ yX2_far cX2_far 2 (some .int)) ({ frames := 0, cells := 0, slots := 0, locals := 0 } : Room) (va_Pc [.int p1, .int p2] (fun _ => True)) (vp_Si (fun r => r = m_far p1 p2)) 0 0 (fun _ => False) := by
  refine Met.ofW (cc := cX2_far) (maxL := 2) (ret := (some .int)) (by decide) rfl ?_
  intro p e s m args below meth c s₁ B hml hv
  obtain ⟨rfl, -⟩ := hv
  have hx := B.exec
  have hb := B.bytes
  have hr := B.returns
  have hts := atoms_spec (ws := (ws_ yX2_far cX2_far 2 (some .int))) B.pre
  have hts : ∀ w ∈ lw_all, w.before _ s = true := fun w h => hts w (List.mem_cons_of_mem _ h)
  have hown : s.vm.findClass RX2 = some m.cls := findClass_of_methodNamed B.named
  have hlocks := B.notSynchronized
  have S : CallFix p m c cX2_far 2 s ([.int p1, .int p2] : List Value).toArray lw_all RX2 := ⟨hx, hb, hml, hown, hts⟩
  have hl := lv_entry ([.int p1, .int p2]) (n := 2) (Nat.le_of_ble_eq_true rfl)
  rw [lg_entry_eq]
  generalize (lg_sl ([.int p1, .int p2]) ++ List.replicate (2 - (lg_sl ([.int p1, .int p2])).length) Slot.unset).toArray = ls at hl ⊢
  have hl : lv_has ls 2 [(0, .int p1), (1, .int p2)] := hl
  refine lv_iload_n hx hb dX2_far_0 rfl (lv_at hl 0 rfl) ?_
  refine lv_iload_n hx hb dX2_far_1 rfl (lv_at hl 1 rfl) ?_
  refine lb_icmp_ge (tgt := 11) hx hb dX2_far_2 (by decide) (fun c_1 c_1' => ?_) (fun c_1 c_1' => ?_)
  · -- c_1: p1 ≥ p2
    refine lv_iload_n hx hb dX2_far_11 rfl (lv_at hl 0 rfl) ?_
    refine lv_iload_n hx hb dX2_far_12 rfl (lv_at hl 1 rfl) ?_
    refine lv_isub hx hb dX2_far_13 ?_
    exact W.iret (v := p1 - p2) hx hb hr (fun t9 ht9 hW9 => ⟨_, rfl, (by first | (simp [m_far, c_1, c_1', up_s, up_n, nI_1, b2i]; done) | (simp_all [m_far]; done) | grind [m_far]), ht9⟩) (fun _ h9 => by cases h9) dX2_far_14
  · -- c_1: p1 < p2
    refine lv_iload_n hx hb dX2_far_5 rfl (lv_at hl 1 rfl) ?_
    refine lv_iload_n hx hb dX2_far_6 rfl (lv_at hl 0 rfl) ?_
    refine lv_isub hx hb dX2_far_7 ?_
    refine lv_goto (tgt := 14) hx hb dX2_far_8 (by decide) ?_
    exact W.iret (v := p2 - p1) hx hb hr (fun t9 ht9 hW9 => ⟨_, rfl, (by first | (simp [m_far, c_1, c_1', up_s, up_n, nI_1, b2i]; done) | (simp_all [m_far]; done) | grind [m_far]), ht9⟩) (fun _ h9 => by cases h9) dX2_far_14

def m_isOf (a b : Int32) : Bool := decide (b = 0) || decide (a = b) || (decide (b = 2) && decide (a = 3))
set_option maxHeartbeats 4000000 in
set_option maxRecDepth 100000 in
theorem metX2_isOf (l : Launch) (p1 : Int32) (p2 : Int32) : Met l yX2_isOf (ws_ yX2_isOf cX2_isOf 2 (some .boolean)) ({ frames := 0, cells := 0, slots := 0, locals := 0 } : Room) (va_Pc [.int p1, .int p2] (fun _ => True)) (vp_Si (fun r => r = b2i (m_isOf p1 p2))) 0 0 (fun _ => False) := by
  refine Met.ofW (cc := cX2_isOf) (maxL := 2) (ret := (some .boolean)) (by decide) rfl ?_
  intro p e s m args below meth c s₁ B hml hv
  obtain ⟨rfl, -⟩ := hv
  have hx := B.exec
  have hb := B.bytes
  have hr := B.returns
  have hts := atoms_spec (ws := (ws_ yX2_isOf cX2_isOf 2 (some .boolean))) B.pre
  have hts : ∀ w ∈ lw_all, w.before _ s = true := fun w h => hts w (List.mem_cons_of_mem _ h)
  have hown : s.vm.findClass RX2 = some m.cls := findClass_of_methodNamed B.named
  have hlocks := B.notSynchronized
  have S : CallFix p m c cX2_isOf 2 s ([.int p1, .int p2] : List Value).toArray lw_all RX2 := ⟨hx, hb, hml, hown, hts⟩
  have hl := lv_entry ([.int p1, .int p2]) (n := 2) (Nat.le_of_ble_eq_true rfl)
  rw [lg_entry_eq]
  generalize (lg_sl ([.int p1, .int p2]) ++ List.replicate (2 - (lg_sl ([.int p1, .int p2])).length) Slot.unset).toArray = ls at hl ⊢
  have hl : lv_has ls 2 [(0, .int p1), (1, .int p2)] := hl
  refine lv_iload_n hx hb dX2_isOf_0 rfl (lv_at hl 1 rfl) ?_
  refine lv_if_eq (tgt := 19) hx hb dX2_isOf_1 (by decide) (fun c_1 => ?_) (fun c_1 => ?_)
  · -- c_1: p2 = 0
    refine lv_iconst (v := 1) hx hb dX2_isOf_19 (by decide) ?_
    refine lv_goto (tgt := 24) hx hb dX2_isOf_20 (by decide) ?_
    exact W.zret (v := 1) hx hb hr rfl (fun t9 ht9 hW9 => ⟨_, rfl, (by first | (simp [m_isOf, b2i, c_1, up_s, up_n, nI_1, b2i]; done) | (simp_all [m_isOf, b2i]; done) | grind [m_isOf, b2i]), ht9⟩) (fun _ h9 => by cases h9) dX2_isOf_24
  · -- c_1: p2 ≠ 0
    refine lv_iload_n hx hb dX2_isOf_4 rfl (lv_at hl 0 rfl) ?_
    refine lv_iload_n hx hb dX2_isOf_5 rfl (lv_at hl 1 rfl) ?_
    refine lv_icmp_eq (tgt := 19) hx hb dX2_isOf_6 (by decide) (fun c_2 => ?_) (fun c_2 => ?_)
    · -- c_2: p1 = p2
      refine lv_iconst (v := 1) hx hb dX2_isOf_19 (by decide) ?_
      refine lv_goto (tgt := 24) hx hb dX2_isOf_20 (by decide) ?_
      exact W.zret (v := 1) hx hb hr rfl (fun t9 ht9 hW9 => ⟨_, rfl, (by first | (simp [m_isOf, b2i, c_1, c_2, up_s, up_n, nI_1, b2i]; done) | (simp_all [m_isOf, b2i]; done) | grind [m_isOf, b2i]), ht9⟩) (fun _ h9 => by cases h9) dX2_isOf_24
    · -- c_2: p1 ≠ p2
      refine lv_iload_n hx hb dX2_isOf_9 rfl (lv_at hl 1 rfl) ?_
      refine lv_iconst (v := 2) hx hb dX2_isOf_10 (by decide) ?_
      refine lv_icmp_ne (tgt := 23) hx hb dX2_isOf_11 (by decide) (fun c_3 => ?_) (fun c_3 => ?_)
      · -- c_3: p2 ≠ 2
        refine lv_iconst (v := 0) hx hb dX2_isOf_23 (by decide) ?_
        exact W.zret (v := 0) hx hb hr rfl (fun t9 ht9 hW9 => ⟨_, rfl, (by first | (simp [m_isOf, b2i, c_1, c_2, c_3, up_s, up_n, nI_1, b2i]; done) | (simp_all [m_isOf, b2i]; done) | grind [m_isOf, b2i]), ht9⟩) (fun _ h9 => by cases h9) dX2_isOf_24
      · -- c_3: p2 = 2
        refine lv_iload_n hx hb dX2_isOf_14 rfl (lv_at hl 0 rfl) ?_
        refine lv_iconst (v := 3) hx hb dX2_isOf_15 (by decide) ?_
        refine lv_icmp_ne (tgt := 23) hx hb dX2_isOf_16 (by decide) (fun c_4 => ?_) (fun c_4 => ?_)
        · -- c_4: p1 ≠ 3
          refine lv_iconst (v := 0) hx hb dX2_isOf_23 (by decide) ?_
          exact W.zret (v := 0) hx hb hr rfl (fun t9 ht9 hW9 => ⟨_, rfl, (by first | (simp [m_isOf, b2i, c_1, c_2, c_3, c_4, up_s, up_n, nI_1, b2i]; done) | (simp_all [m_isOf, b2i]; done) | grind [m_isOf, b2i]), ht9⟩) (fun _ h9 => by cases h9) dX2_isOf_24
        · -- c_4: p1 = 3
          refine lv_iconst (v := 1) hx hb dX2_isOf_19 (by decide) ?_
          refine lv_goto (tgt := 24) hx hb dX2_isOf_20 (by decide) ?_
          exact W.zret (v := 1) hx hb hr rfl (fun t9 ht9 hW9 => ⟨_, rfl, (by first | (simp [m_isOf, b2i, c_1, c_2, c_3, c_4, up_s, up_n, nI_1, b2i]; done) | (simp_all [m_isOf, b2i]; done) | grind [m_isOf, b2i]), ht9⟩) (fun _ h9 => by cases h9) dX2_isOf_24

def m_finding (F : Nat → Int32) (Rr : Nat → Nat → Int32) (n : Int32) : Int32 × mST := (-1000010 - n, va_up F 1 n, Rr)
set_option maxHeartbeats 4000000 in
set_option maxRecDepth 100000 in
theorem metX2_finding (l : Launch) (D : va_G) (cl : List vw_C) (hcl : cl[0]? = some (RX2, TX2, 61)) (h : Nat) (ad : Nat → Nat) (dA : ClassId) (F : Nat → Int32) (Rr : Nat → Nat → Int32) (p1 : Int32) : Met l yX2_finding (ws_ yX2_finding cX2_finding 2 (some .int)) ({ frames := 0, cells := 0, slots := 0, locals := 0 } : Room) (va_Pc [.ref h, .int p1] (mPre D cl h ad dA F Rr)) (va_Qi (fun r u => (r, u) = m_finding F Rr p1) (mB D cl h ad dA) (mN h ad)) 0 0 (mN h ad) := by
  refine Met.ofW (cc := cX2_finding) (maxL := 2) (ret := (some .int)) (by decide) rfl ?_
  intro p e s m args below meth c s₁ B hml hv
  obtain ⟨rfl, hK, hP, hD⟩ := hv
  have hx := B.exec
  have hb := B.bytes
  have hr := B.returns
  have hts := atoms_spec (ws := (ws_ yX2_finding cX2_finding 2 (some .int))) B.pre
  have hts : ∀ w ∈ lw_all, w.before _ s = true := fun w h => hts w (List.mem_cons_of_mem _ h)
  have hown : s.vm.findClass RX2 = some m.cls := findClass_of_methodNamed B.named
  have hlocks := B.notSynchronized
  have S : CallFix p m c cX2_finding 2 s ([.ref h, .int p1] : List Value).toArray lw_all RX2 := ⟨hx, hb, hml, hown, hts⟩
  have X : mX p s m ([.ref h, .int p1] : List Value).toArray c cX2_finding 2 D cl dA := ⟨hx, hb, hml, hown, hts, hK, hcl⟩
  have M : mM D cl h ad dA (mN h ad) s F Rr s.heap [] := ⟨hP, mW_self hD, va_S.rf⟩
  have hl := lv_entry ([.ref h, .int p1]) (n := 2) (Nat.le_of_ble_eq_true rfl)
  rw [lg_entry_eq]
  generalize (lg_sl ([.ref h, .int p1]) ++ List.replicate (2 - (lg_sl ([.ref h, .int p1])).length) Slot.unset).toArray = ls at hl ⊢
  have hl : lv_has ls 2 [(0, .ref h), (1, .int p1)] := hl
  refine lv_aload_n hx hb dX2_finding_0 rfl (lv_at hl 0 rfl) ?_
  refine lv_iload_n hx hb dX2_finding_1 rfl (lv_at hl 1 rfl) ?_
  refine mp_1 X M dX2_finding_2 (fun H locs M => ?_)
  refine lv_ldc (v := (-1000010)) hx hb hown (hts _ q1632) dX2_finding_5 ?_
  refine lv_iload_n hx hb dX2_finding_7 rfl (lv_at hl 1 rfl) ?_
  refine lv_isub hx hb dX2_finding_8 ?_
  exact W.iret (v := (-1000010) - p1) hx hb hr (fun t9 ht9 hW9 => ⟨⟨_, (va_up F 1 p1, Rr), rfl, (by first | (simp [m_finding, up_s, up_n, nI_1, b2i]; done) | (simp_all [m_finding]; done) | grind [m_finding]), by show va_P _ _ _ t9.heap; rw [ht9]; exact M.1⟩, M.2.2.F ht9⟩) M.2.2.2.2 dX2_finding_9

def m_isOpen (Rr : Nat → Nat → Int32) (g m : Int32) : Bool := decide (Rr 5 g.toNatClampNeg ≤ m) && decide (m < Rr 6 g.toNatClampNeg)
set_option maxHeartbeats 4000000 in
set_option maxRecDepth 100000 in
theorem metX2_isOpen (l : Launch) (D : va_G) (cl : List vw_C) (hcl : cl[0]? = some (RX2, TX2, 61)) (h : Nat) (ad : Nat → Nat) (dA : ClassId) (F : Nat → Int32) (Rr : Nat → Nat → Int32) (p1 : Int32) (p2 : Int32) (hg : vp_in p1 9) : Met l yX2_isOpen (ws_ yX2_isOpen cX2_isOpen 3 (some .boolean)) ({ frames := 0, cells := 0, slots := 0, locals := 0 } : Room) (va_Pc [.ref h, .int p1, .int p2] (mPre D cl h ad dA F Rr)) (vp_Si (fun r => r = b2i (m_isOpen Rr p1 p2))) 0 0 (fun _ => False) := by
  refine Met.ofW (cc := cX2_isOpen) (maxL := 3) (ret := (some .boolean)) (by decide) rfl ?_
  intro p e s m args below meth c s₁ B hml hv
  obtain ⟨rfl, hK, hP, hD⟩ := hv
  have hx := B.exec
  have hb := B.bytes
  have hr := B.returns
  have hts := atoms_spec (ws := (ws_ yX2_isOpen cX2_isOpen 3 (some .boolean))) B.pre
  have hts : ∀ w ∈ lw_all, w.before _ s = true := fun w h => hts w (List.mem_cons_of_mem _ h)
  have hown : s.vm.findClass RX2 = some m.cls := findClass_of_methodNamed B.named
  have hlocks := B.notSynchronized
  have S : CallFix p m c cX2_isOpen 3 s ([.ref h, .int p1, .int p2] : List Value).toArray lw_all RX2 := ⟨hx, hb, hml, hown, hts⟩
  have X : mX p s m ([.ref h, .int p1, .int p2] : List Value).toArray c cX2_isOpen 3 D cl dA := ⟨hx, hb, hml, hown, hts, hK, hcl⟩
  have M : mM D cl h ad dA (mN h ad) s F Rr s.heap [] := ⟨hP, mW_self hD, va_S.rf⟩
  have hl := lv_entry ([.ref h, .int p1, .int p2]) (n := 3) (Nat.le_of_ble_eq_true rfl)
  rw [lg_entry_eq]
  generalize (lg_sl ([.ref h, .int p1, .int p2]) ++ List.replicate (3 - (lg_sl ([.ref h, .int p1, .int p2])).length) Slot.unset).toArray = ls at hl ⊢
  have hl : lv_has ls 3 [(0, .ref h), (1, .int p1), (2, .int p2)] := hl
  refine lv_iload_n hx hb dX2_isOpen_0 rfl (lv_at hl 2 rfl) ?_
  refine lv_aload_n hx hb dX2_isOpen_1 rfl (lv_at hl 0 rfl) ?_
  refine mg_5 X M dX2_isOpen_2 ?_
  refine lv_iload_n hx hb dX2_isOpen_5 rfl (lv_at hl 1 rfl) ?_
  refine mr_5 X M (f := Rr 5) rfl (j := p1.toNatClampNeg) hg rfl dX2_isOpen_6 ?_
  refine lb_icmp_lt (tgt := 24) hx hb dX2_isOpen_7 (by decide) (fun c_1 c_1' => ?_) (fun c_1 c_1' => ?_)
  · -- c_1: p2 < Rr 5 p1.toNatClampNeg
    refine lv_iconst (v := 0) hx hb dX2_isOpen_24 (by decide) ?_
    exact W.zret (v := 0) hx hb hr rfl (fun t9 ht9 hW9 => ⟨_, rfl, (by first | (simp [m_isOpen, b2i, c_1, c_1', up_s, up_n, nI_1, b2i]; done) | (simp_all [m_isOpen, b2i]; done) | grind [m_isOpen, b2i]), ht9⟩) (fun _ h9 => by cases h9) dX2_isOpen_25
  · -- c_1: p2 ≥ Rr 5 p1.toNatClampNeg
    refine lv_iload_n hx hb dX2_isOpen_10 rfl (lv_at hl 2 rfl) ?_
    refine lv_aload_n hx hb dX2_isOpen_11 rfl (lv_at hl 0 rfl) ?_
    refine mg_6 X M dX2_isOpen_12 ?_
    refine lv_iload_n hx hb dX2_isOpen_15 rfl (lv_at hl 1 rfl) ?_
    refine mr_6 X M (f := Rr 6) rfl (j := p1.toNatClampNeg) (by first | assumption | exact vp_inN (N := 9) rfl (by grind [inB]) (by grind [inB])) rfl dX2_isOpen_16 ?_
    refine lb_icmp_ge (tgt := 24) hx hb dX2_isOpen_17 (by decide) (fun c_2 c_2' => ?_) (fun c_2 c_2' => ?_)
    · -- c_2: p2 ≥ Rr 6 p1.toNatClampNeg
      refine lv_iconst (v := 0) hx hb dX2_isOpen_24 (by decide) ?_
      exact W.zret (v := 0) hx hb hr rfl (fun t9 ht9 hW9 => ⟨_, rfl, (by first | (simp [m_isOpen, b2i, c_1, c_1', c_2, c_2', up_s, up_n, nI_1, b2i]; done) | (simp_all [m_isOpen, b2i]; done) | grind [m_isOpen, b2i]), ht9⟩) (fun _ h9 => by cases h9) dX2_isOpen_25
    · -- c_2: p2 < Rr 6 p1.toNatClampNeg
      refine lv_iconst (v := 1) hx hb dX2_isOpen_20 (by decide) ?_
      refine lv_goto (tgt := 25) hx hb dX2_isOpen_21 (by decide) ?_
      exact W.zret (v := 1) hx hb hr rfl (fun t9 ht9 hW9 => ⟨_, rfl, (by first | (simp [m_isOpen, b2i, c_1, c_1', c_2, c_2', up_s, up_n, nI_1, b2i]; done) | (simp_all [m_isOpen, b2i]; done) | grind [m_isOpen, b2i]), ht9⟩) (fun _ h9 => by cases h9) dX2_isOpen_25

