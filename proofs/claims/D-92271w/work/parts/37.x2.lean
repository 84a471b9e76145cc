/-! THE SYSTEM, 2: its small methods; laws, carts asked -/
set_option maxHeartbeats 4000000 in
set_option maxRecDepth 100000 in
theorem metX0_isIn (l : Launch) (p1 : Int64) (p2 : Int64) (p3 : Int64) : Met l yX0_isIn (ws_ yX0_isIn cX0_isIn 6 (some .boolean)) ({ frames := 0, cells := 0, slots := 0, locals := 0 } : Room) (va_Pc [.long p1, .long p2, .long p3] (fun _ => True)) (vp_Si (fun r => r = b2i (inL p1 p2 p3))) 0 0 (fun _ => False) := by
  refine Met.ofW (cc := cX0_isIn) (maxL := 6) (ret := (some .boolean)) (by decide) rfl ?_
  intro p e s m args below meth c s₁ B hml hv
  obtain ⟨rfl, -⟩ := hv
  have hx := B.exec
  have hb := B.bytes
  have hr := B.returns
  have hts := atoms_spec (ws := (ws_ yX0_isIn cX0_isIn 6 (some .boolean))) B.pre
  have hts : ∀ w ∈ lw_all, w.before _ s = true := fun w h => hts w (List.mem_cons_of_mem _ h)
  have hown : s.vm.findClass RX0 = some m.cls := findClass_of_methodNamed B.named
  have hlocks := B.notSynchronized
  have S : CallFix p m c cX0_isIn 6 s ([.long p1, .long p2, .long p3] : List Value).toArray lw_all RX0 := ⟨hx, hb, hml, hown, hts⟩
  have hl := lv_entry ([.long p1, .long p2, .long p3]) (n := 6) (Nat.le_of_ble_eq_true rfl)
  rw [lg_entry_eq]
  generalize (lg_sl ([.long p1, .long p2, .long p3]) ++ List.replicate (6 - (lg_sl ([.long p1, .long p2, .long p3])).length) Slot.unset).toArray = ls at hl ⊢
  have hl : lv_has ls 6 [(0, .long p1), (2, .long p2), (4, .long p3)] := hl
  refine lv_lload_n hx hb dX0_isIn_0 rfl (lv_at hl 0 rfl) ?_
  refine lv_lload_n hx hb dX0_isIn_1 rfl (lv_at hl 1 rfl) ?_
  refine W.lcmp hx hb dX0_isIn_2 ?_
  refine lc_if_lt (tgt := 17) hx hb dX0_isIn_3 (by decide) (fun c_1 c_1' => ?_) (fun c_1 c_1' => ?_)
  · -- c_1: p1 < p2
    refine lv_iconst (v := 0) hx hb dX0_isIn_17 (by decide) ?_
    exact W.zret (v := 0) hx hb hr rfl (fun t9 ht9 hW9 => ⟨_, rfl, (by first | (simp [inL, b2i, c_1, c_1', up_s, up_n, nI_1, b2i]; done) | (simp_all [inL, b2i]; done) | grind [inL, b2i]), ht9⟩) (fun _ h9 => by cases h9) dX0_isIn_18
  · -- c_1: p1 ≥ p2
    refine lv_lload_n hx hb dX0_isIn_6 rfl (lv_at hl 0 rfl) ?_
    refine lv_lload hx hb dX0_isIn_7 (lv_at hl 2 rfl) ?_
    refine W.lcmp hx hb dX0_isIn_9 ?_
    refine lc_if_gt (tgt := 17) hx hb dX0_isIn_10 (by decide) (fun c_2 c_2' => ?_) (fun c_2 c_2' => ?_)
    · -- c_2: p1 > p3
      refine lv_iconst (v := 0) hx hb dX0_isIn_17 (by decide) ?_
      exact W.zret (v := 0) hx hb hr rfl (fun t9 ht9 hW9 => ⟨_, rfl, (by first | (simp [inL, b2i, c_1, c_1', c_2, c_2', up_s, up_n, nI_1, b2i]; done) | (simp_all [inL, b2i]; done) | grind [inL, b2i]), ht9⟩) (fun _ h9 => by cases h9) dX0_isIn_18
    · -- c_2: p1 ≤ p3
      refine lv_iconst (v := 1) hx hb dX0_isIn_13 (by decide) ?_
      refine lv_goto (tgt := 18) hx hb dX0_isIn_14 (by decide) ?_
      exact W.zret (v := 1) hx hb hr rfl (fun t9 ht9 hW9 => ⟨_, rfl, (by first | (simp [inL, b2i, c_1, c_1', c_2, c_2', up_s, up_n, nI_1, b2i]; done) | (simp_all [inL, b2i]; done) | grind [inL, b2i]), ht9⟩) (fun _ h9 => by cases h9) dX0_isIn_18

theorem metX0_isInI (l : Launch) (v lo hi : Int32) (v' lo' hi' : Int64) (h0 : v.toInt64 = v') (h1 : lo.toInt64 = lo') (h2 : hi.toInt64 = hi') : Met l yX0_isIn (ws_ yX0_isIn cX0_isIn 6 (some .boolean)) ({ frames := 0, cells := 0, slots := 0, locals := 0 } : Room) (va_Pc [.long v', .long lo', .long hi'] (fun _ => True)) (vp_Si (fun r => r = b2i (inB lo hi v))) 0 0 (fun _ => False) := by
  have q := metX0_isIn l v' lo' hi'
  rw [inL_i h0 h1 h2] at q
  exact q
set_option maxHeartbeats 4000000 in
set_option maxRecDepth 100000 in
theorem metX0_isSheet (l : Launch) (p1 : Int32) : Met l yX0_isSheet (ws_ yX0_isSheet cX0_isSheet 1 (some .boolean)) ({ frames := 1, cells := 0, slots := 0, locals := 25 } : Room) (va_Pc [.int p1] (fun _ => True)) (vp_Si (fun r => r = b2i (inB 0 7 p1))) 0 0 (fun _ => False) := by
  refine Met.ofW (cc := cX0_isSheet) (maxL := 1) (ret := (some .boolean)) (by decide) rfl ?_
  intro p e s m args below meth c s₁ B hml hv
  obtain ⟨rfl, -⟩ := hv
  have hx := B.exec
  have hb := B.bytes
  have hr := B.returns
  have hts := atoms_spec (ws := (ws_ yX0_isSheet cX0_isSheet 1 (some .boolean))) B.pre
  have hts : ∀ w ∈ lw_all, w.before _ s = true := fun w h => hts w (List.mem_cons_of_mem _ h)
  have hown : s.vm.findClass RX0 = some m.cls := findClass_of_methodNamed B.named
  have hlocks := B.notSynchronized
  have S : CallFix p m c cX0_isSheet 1 s ([.int p1] : List Value).toArray lw_all RX0 := ⟨hx, hb, hml, hown, hts⟩
  have hl := lv_entry ([.int p1]) (n := 1) (Nat.le_of_ble_eq_true rfl)
  rw [lg_entry_eq]
  generalize (lg_sl ([.int p1]) ++ List.replicate (1 - (lg_sl ([.int p1])).length) Slot.unset).toArray = ls at hl ⊢
  have hl : lv_has ls 1 [(0, .int p1)] := hl
  refine lv_iload_n hx hb dX0_isSheet_0 rfl (lv_at hl 0 rfl) ?_
  refine lv_i2l (v := p1.toInt64) hx hb dX0_isSheet_1 rfl ?_
  refine lv_lconst (v := 0) hx hb dX0_isSheet_2 (by decide) ?_
  refine lv_ldc2 (v := 7) hx hb hown (hts _ q229) dX0_isSheet_3 ?_
  refine s_cI (v := b2i (inB 0 7 p1)) (As := [.long p1.toInt64, .long 0, .long 7]) (rest := []) S (metX0_isInI l p1 0 7 p1.toInt64 0 7 rfl rfl rfl) (va_cwS 3 hts (lw_S q230 q231 q57 q232) rfl rfl rfl (by decide +kernel) ⟨Nat.le_of_ble_eq_true rfl, Nat.le_of_ble_eq_true rfl⟩) rfl hl.1 rfl (Nat.le_of_ble_eq_true rfl) dX0_isSheet_6 ⟨Nat.le_of_ble_eq_true rfl, Nat.le_of_ble_eq_true rfl⟩ ?_
  exact W.zret (v := b2i (inB 0 7 p1)) hx hb hr (b2i_nar _) (fun t9 ht9 hW9 => ⟨_, rfl, (by first | (simp [b2i, up_s, up_n, nI_1, b2i]; done) | (simp_all [b2i]; done) | grind [b2i]), ht9⟩) (fun _ h9 => by cases h9) dX0_isSheet_9

set_option maxHeartbeats 4000000 in
set_option maxRecDepth 100000 in
theorem metX0_isGate (l : Launch) (p1 : Int32) : Met l yX0_isGate (ws_ yX0_isGate cX0_isGate 1 (some .boolean)) ({ frames := 1, cells := 0, slots := 0, locals := 25 } : Room) (va_Pc [.int p1] (fun _ => True)) (vp_Si (fun r => r = b2i (inB 0 8 p1))) 0 0 (fun _ => False) := by
  refine Met.ofW (cc := cX0_isGate) (maxL := 1) (ret := (some .boolean)) (by decide) rfl ?_
  intro p e s m args below meth c s₁ B hml hv
  obtain ⟨rfl, -⟩ := hv
  have hx := B.exec
  have hb := B.bytes
  have hr := B.returns
  have hts := atoms_spec (ws := (ws_ yX0_isGate cX0_isGate 1 (some .boolean))) B.pre
  have hts : ∀ w ∈ lw_all, w.before _ s = true := fun w h => hts w (List.mem_cons_of_mem _ h)
  have hown : s.vm.findClass RX0 = some m.cls := findClass_of_methodNamed B.named
  have hlocks := B.notSynchronized
  have S : CallFix p m c cX0_isGate 1 s ([.int p1] : List Value).toArray lw_all RX0 := ⟨hx, hb, hml, hown, hts⟩
  have hl := lv_entry ([.int p1]) (n := 1) (Nat.le_of_ble_eq_true rfl)
  rw [lg_entry_eq]
  generalize (lg_sl ([.int p1]) ++ List.replicate (1 - (lg_sl ([.int p1])).length) Slot.unset).toArray = ls at hl ⊢
  have hl : lv_has ls 1 [(0, .int p1)] := hl
  refine lv_iload_n hx hb dX0_isGate_0 rfl (lv_at hl 0 rfl) ?_
  refine lv_i2l (v := p1.toInt64) hx hb dX0_isGate_1 rfl ?_
  refine lv_lconst (v := 0) hx hb dX0_isGate_2 (by decide) ?_
  refine lv_ldc2 (v := 8) hx hb hown (hts _ q391) dX0_isGate_3 ?_
  refine s_cI (v := b2i (inB 0 8 p1)) (As := [.long p1.toInt64, .long 0, .long 8]) (rest := []) S (metX0_isInI l p1 0 8 p1.toInt64 0 8 rfl rfl rfl) (va_cwS 3 hts (lw_S q230 q231 q57 q232) rfl rfl rfl (by decide +kernel) ⟨Nat.le_of_ble_eq_true rfl, Nat.le_of_ble_eq_true rfl⟩) rfl hl.1 rfl (Nat.le_of_ble_eq_true rfl) dX0_isGate_6 ⟨Nat.le_of_ble_eq_true rfl, Nat.le_of_ble_eq_true rfl⟩ ?_
  exact W.zret (v := b2i (inB 0 8 p1)) hx hb hr (b2i_nar _) (fun t9 ht9 hW9 => ⟨_, rfl, (by first | (simp [b2i, up_s, up_n, nI_1, b2i]; done) | (simp_all [b2i]; done) | grind [b2i]), ht9⟩) (fun _ h9 => by cases h9) dX0_isGate_9

set_option maxHeartbeats 4000000 in
set_option maxRecDepth 100000 in
theorem metX0_isDay (l : Launch) (p1 : Int32) : Met l yX0_isDay (ws_ yX0_isDay cX0_isDay 1 (some .boolean)) ({ frames := 1, cells := 0, slots := 0, locals := 25 } : Room) (va_Pc [.int p1] (fun _ => True)) (vp_Si (fun r => r = b2i (inB 0 999 p1))) 0 0 (fun _ => False) := by
  refine Met.ofW (cc := cX0_isDay) (maxL := 1) (ret := (some .boolean)) (by decide) rfl ?_
  intro p e s m args below meth c s₁ B hml hv
  obtain ⟨rfl, -⟩ := hv
  have hx := B.exec
  have hb := B.bytes
  have hr := B.returns
  have hts := atoms_spec (ws := (ws_ yX0_isDay cX0_isDay 1 (some .boolean))) B.pre
  have hts : ∀ w ∈ lw_all, w.before _ s = true := fun w h => hts w (List.mem_cons_of_mem _ h)
  have hown : s.vm.findClass RX0 = some m.cls := findClass_of_methodNamed B.named
  have hlocks := B.notSynchronized
  have S : CallFix p m c cX0_isDay 1 s ([.int p1] : List Value).toArray lw_all RX0 := ⟨hx, hb, hml, hown, hts⟩
  have hl := lv_entry ([.int p1]) (n := 1) (Nat.le_of_ble_eq_true rfl)
  rw [lg_entry_eq]
  generalize (lg_sl ([.int p1]) ++ List.replicate (1 - (lg_sl ([.int p1])).length) Slot.unset).toArray = ls at hl ⊢
  have hl : lv_has ls 1 [(0, .int p1)] := hl
  refine lv_iload_n hx hb dX0_isDay_0 rfl (lv_at hl 0 rfl) ?_
  refine lv_i2l (v := p1.toInt64) hx hb dX0_isDay_1 rfl ?_
  refine lv_lconst (v := 0) hx hb dX0_isDay_2 (by decide) ?_
  refine lv_ldc2 (v := 999) hx hb hown (hts _ q405) dX0_isDay_3 ?_
  refine s_cI (v := b2i (inB 0 999 p1)) (As := [.long p1.toInt64, .long 0, .long 999]) (rest := []) S (metX0_isInI l p1 0 999 p1.toInt64 0 999 rfl rfl rfl) (va_cwS 3 hts (lw_S q230 q231 q57 q232) rfl rfl rfl (by decide +kernel) ⟨Nat.le_of_ble_eq_true rfl, Nat.le_of_ble_eq_true rfl⟩) rfl hl.1 rfl (Nat.le_of_ble_eq_true rfl) dX0_isDay_6 ⟨Nat.le_of_ble_eq_true rfl, Nat.le_of_ble_eq_true rfl⟩ ?_
  exact W.zret (v := b2i (inB 0 999 p1)) hx hb hr (b2i_nar _) (fun t9 ht9 hW9 => ⟨_, rfl, (by first | (simp [b2i, up_s, up_n, nI_1, b2i]; done) | (simp_all [b2i]; done) | grind [b2i]), ht9⟩) (fun _ h9 => by cases h9) dX0_isDay_9

set_option maxHeartbeats 4000000 in
set_option maxRecDepth 100000 in
theorem metX0_isMinute (l : Launch) (p1 : Int32) : Met l yX0_isMinute (ws_ yX0_isMinute cX0_isMinute 1 (some .boolean)) ({ frames := 1, cells := 0, slots := 0, locals := 25 } : Room) (va_Pc [.int p1] (fun _ => True)) (vp_Si (fun r => r = b2i (inB 0 1439 p1))) 0 0 (fun _ => False) := by
  refine Met.ofW (cc := cX0_isMinute) (maxL := 1) (ret := (some .boolean)) (by decide) rfl ?_
  intro p e s m args below meth c s₁ B hml hv
  obtain ⟨rfl, -⟩ := hv
  have hx := B.exec
  have hb := B.bytes
  have hr := B.returns
  have hts := atoms_spec (ws := (ws_ yX0_isMinute cX0_isMinute 1 (some .boolean))) B.pre
  have hts : ∀ w ∈ lw_all, w.before _ s = true := fun w h => hts w (List.mem_cons_of_mem _ h)
  have hown : s.vm.findClass RX0 = some m.cls := findClass_of_methodNamed B.named
  have hlocks := B.notSynchronized
  have S : CallFix p m c cX0_isMinute 1 s ([.int p1] : List Value).toArray lw_all RX0 := ⟨hx, hb, hml, hown, hts⟩
  have hl := lv_entry ([.int p1]) (n := 1) (Nat.le_of_ble_eq_true rfl)
  rw [lg_entry_eq]
  generalize (lg_sl ([.int p1]) ++ List.replicate (1 - (lg_sl ([.int p1])).length) Slot.unset).toArray = ls at hl ⊢
  have hl : lv_has ls 1 [(0, .int p1)] := hl
  refine lv_iload_n hx hb dX0_isMinute_0 rfl (lv_at hl 0 rfl) ?_
  refine lv_i2l (v := p1.toInt64) hx hb dX0_isMinute_1 rfl ?_
  refine lv_lconst (v := 0) hx hb dX0_isMinute_2 (by decide) ?_
  refine lv_ldc2 (v := 1439) hx hb hown (hts _ q871) dX0_isMinute_3 ?_
  refine s_cI (v := b2i (inB 0 1439 p1)) (As := [.long p1.toInt64, .long 0, .long 1439]) (rest := []) S (metX0_isInI l p1 0 1439 p1.toInt64 0 1439 rfl rfl rfl) (va_cwS 3 hts (lw_S q230 q231 q57 q232) rfl rfl rfl (by decide +kernel) ⟨Nat.le_of_ble_eq_true rfl, Nat.le_of_ble_eq_true rfl⟩) rfl hl.1 rfl (Nat.le_of_ble_eq_true rfl) dX0_isMinute_6 ⟨Nat.le_of_ble_eq_true rfl, Nat.le_of_ble_eq_true rfl⟩ ?_
  exact W.zret (v := b2i (inB 0 1439 p1)) hx hb hr (b2i_nar _) (fun t9 ht9 hW9 => ⟨_, rfl, (by first | (simp [b2i, up_s, up_n, nI_1, b2i]; done) | (simp_all [b2i]; done) | grind [b2i]), ht9⟩) (fun _ h9 => by cases h9) dX0_isMinute_9

set_option maxHeartbeats 4000000 in
set_option maxRecDepth 100000 in
theorem metX0_isTown (l : Launch) (p1 : Int32) : Met l yX0_isTown (ws_ yX0_isTown cX0_isTown 1 (some .boolean)) ({ frames := 1, cells := 0, slots := 0, locals := 25 } : Room) (va_Pc [.int p1] (fun _ => True)) (vp_Si (fun r => r = b2i (inB 0 7 p1))) 0 0 (fun _ => False) := by
  refine Met.ofW (cc := cX0_isTown) (maxL := 1) (ret := (some .boolean)) (by decide) rfl ?_
  intro p e s m args below meth c s₁ B hml hv
  obtain ⟨rfl, -⟩ := hv
  have hx := B.exec
  have hb := B.bytes
  have hr := B.returns
  have hts := atoms_spec (ws := (ws_ yX0_isTown cX0_isTown 1 (some .boolean))) B.pre
  have hts : ∀ w ∈ lw_all, w.before _ s = true := fun w h => hts w (List.mem_cons_of_mem _ h)
  have hown : s.vm.findClass RX0 = some m.cls := findClass_of_methodNamed B.named
  have hlocks := B.notSynchronized
  have S : CallFix p m c cX0_isTown 1 s ([.int p1] : List Value).toArray lw_all RX0 := ⟨hx, hb, hml, hown, hts⟩
  have hl := lv_entry ([.int p1]) (n := 1) (Nat.le_of_ble_eq_true rfl)
  rw [lg_entry_eq]
  generalize (lg_sl ([.int p1]) ++ List.replicate (1 - (lg_sl ([.int p1])).length) Slot.unset).toArray = ls at hl ⊢
  have hl : lv_has ls 1 [(0, .int p1)] := hl
  refine lv_iload_n hx hb dX0_isTown_0 rfl (lv_at hl 0 rfl) ?_
  refine lv_i2l (v := p1.toInt64) hx hb dX0_isTown_1 rfl ?_
  refine lv_lconst (v := 0) hx hb dX0_isTown_2 (by decide) ?_
  refine lv_ldc2 (v := 7) hx hb hown (hts _ q229) dX0_isTown_3 ?_
  refine s_cI (v := b2i (inB 0 7 p1)) (As := [.long p1.toInt64, .long 0, .long 7]) (rest := []) S (metX0_isInI l p1 0 7 p1.toInt64 0 7 rfl rfl rfl) (va_cwS 3 hts (lw_S q230 q231 q57 q232) rfl rfl rfl (by decide +kernel) ⟨Nat.le_of_ble_eq_true rfl, Nat.le_of_ble_eq_true rfl⟩) rfl hl.1 rfl (Nat.le_of_ble_eq_true rfl) dX0_isTown_6 ⟨Nat.le_of_ble_eq_true rfl, Nat.le_of_ble_eq_true rfl⟩ ?_
  exact W.zret (v := b2i (inB 0 7 p1)) hx hb hr (b2i_nar _) (fun t9 ht9 hW9 => ⟨_, rfl, (by first | (simp [b2i, up_s, up_n, nI_1, b2i]; done) | (simp_all [b2i]; done) | grind [b2i]), ht9⟩) (fun _ h9 => by cases h9) dX0_isTown_9

set_option maxHeartbeats 4000000 in
set_option maxRecDepth 100000 in
theorem metX0_isPerson (l : Launch) (p1 : Int32) : Met l yX0_isPerson (ws_ yX0_isPerson cX0_isPerson 1 (some .boolean)) ({ frames := 1, cells := 0, slots := 0, locals := 25 } : Room) (va_Pc [.int p1] (fun _ => True)) (vp_Si (fun r => r = b2i (inB 0 11 p1))) 0 0 (fun _ => False) := by
  refine Met.ofW (cc := cX0_isPerson) (maxL := 1) (ret := (some .boolean)) (by decide) rfl ?_
  intro p e s m args below meth c s₁ B hml hv
  obtain ⟨rfl, -⟩ := hv
  have hx := B.exec
  have hb := B.bytes
  have hr := B.returns
  have hts := atoms_spec (ws := (ws_ yX0_isPerson cX0_isPerson 1 (some .boolean))) B.pre
  have hts : ∀ w ∈ lw_all, w.before _ s = true := fun w h => hts w (List.mem_cons_of_mem _ h)
  have hown : s.vm.findClass RX0 = some m.cls := findClass_of_methodNamed B.named
  have hlocks := B.notSynchronized
  have S : CallFix p m c cX0_isPerson 1 s ([.int p1] : List Value).toArray lw_all RX0 := ⟨hx, hb, hml, hown, hts⟩
  have hl := lv_entry ([.int p1]) (n := 1) (Nat.le_of_ble_eq_true rfl)
  rw [lg_entry_eq]
  generalize (lg_sl ([.int p1]) ++ List.replicate (1 - (lg_sl ([.int p1])).length) Slot.unset).toArray = ls at hl ⊢
  have hl : lv_has ls 1 [(0, .int p1)] := hl
  refine lv_iload_n hx hb dX0_isPerson_0 rfl (lv_at hl 0 rfl) ?_
  refine lv_i2l (v := p1.toInt64) hx hb dX0_isPerson_1 rfl ?_
  refine lv_lconst (v := 0) hx hb dX0_isPerson_2 (by decide) ?_
  refine lv_ldc2 (v := 11) hx hb hown (hts _ q1078) dX0_isPerson_3 ?_
  refine s_cI (v := b2i (inB 0 11 p1)) (As := [.long p1.toInt64, .long 0, .long 11]) (rest := []) S (metX0_isInI l p1 0 11 p1.toInt64 0 11 rfl rfl rfl) (va_cwS 3 hts (lw_S q230 q231 q57 q232) rfl rfl rfl (by decide +kernel) ⟨Nat.le_of_ble_eq_true rfl, Nat.le_of_ble_eq_true rfl⟩) rfl hl.1 rfl (Nat.le_of_ble_eq_true rfl) dX0_isPerson_6 ⟨Nat.le_of_ble_eq_true rfl, Nat.le_of_ble_eq_true rfl⟩ ?_
  exact W.zret (v := b2i (inB 0 11 p1)) hx hb hr (b2i_nar _) (fun t9 ht9 hW9 => ⟨_, rfl, (by first | (simp [b2i, up_s, up_n, nI_1, b2i]; done) | (simp_all [b2i]; done) | grind [b2i]), ht9⟩) (fun _ h9 => by cases h9) dX0_isPerson_9

set_option maxHeartbeats 4000000 in
set_option maxRecDepth 100000 in
theorem metX0_isLength (l : Launch) (p1 : Int32) : Met l yX0_isLength (ws_ yX0_isLength cX0_isLength 1 (some .boolean)) ({ frames := 1, cells := 0, slots := 0, locals := 25 } : Room) (va_Pc [.int p1] (fun _ => True)) (vp_Si (fun r => r = b2i (inB 0 11 p1))) 0 0 (fun _ => False) := by
  refine Met.ofW (cc := cX0_isLength) (maxL := 1) (ret := (some .boolean)) (by decide) rfl ?_
  intro p e s m args below meth c s₁ B hml hv
  obtain ⟨rfl, -⟩ := hv
  have hx := B.exec
  have hb := B.bytes
  have hr := B.returns
  have hts := atoms_spec (ws := (ws_ yX0_isLength cX0_isLength 1 (some .boolean))) B.pre
  have hts : ∀ w ∈ lw_all, w.before _ s = true := fun w h => hts w (List.mem_cons_of_mem _ h)
  have hown : s.vm.findClass RX0 = some m.cls := findClass_of_methodNamed B.named
  have hlocks := B.notSynchronized
  have S : CallFix p m c cX0_isLength 1 s ([.int p1] : List Value).toArray lw_all RX0 := ⟨hx, hb, hml, hown, hts⟩
  have hl := lv_entry ([.int p1]) (n := 1) (Nat.le_of_ble_eq_true rfl)
  rw [lg_entry_eq]
  generalize (lg_sl ([.int p1]) ++ List.replicate (1 - (lg_sl ([.int p1])).length) Slot.unset).toArray = ls at hl ⊢
  have hl : lv_has ls 1 [(0, .int p1)] := hl
  refine lv_iload_n hx hb dX0_isLength_0 rfl (lv_at hl 0 rfl) ?_
  refine lv_i2l (v := p1.toInt64) hx hb dX0_isLength_1 rfl ?_
  refine lv_lconst (v := 0) hx hb dX0_isLength_2 (by decide) ?_
  refine lv_ldc2 (v := 11) hx hb hown (hts _ q1078) dX0_isLength_3 ?_
  refine s_cI (v := b2i (inB 0 11 p1)) (As := [.long p1.toInt64, .long 0, .long 11]) (rest := []) S (metX0_isInI l p1 0 11 p1.toInt64 0 11 rfl rfl rfl) (va_cwS 3 hts (lw_S q230 q231 q57 q232) rfl rfl rfl (by decide +kernel) ⟨Nat.le_of_ble_eq_true rfl, Nat.le_of_ble_eq_true rfl⟩) rfl hl.1 rfl (Nat.le_of_ble_eq_true rfl) dX0_isLength_6 ⟨Nat.le_of_ble_eq_true rfl, Nat.le_of_ble_eq_true rfl⟩ ?_
  exact W.zret (v := b2i (inB 0 11 p1)) hx hb hr (b2i_nar _) (fun t9 ht9 hW9 => ⟨_, rfl, (by first | (simp [b2i, up_s, up_n, nI_1, b2i]; done) | (simp_all [b2i]; done) | grind [b2i]), ht9⟩) (fun _ h9 => by cases h9) dX0_isLength_9

set_option maxHeartbeats 4000000 in
set_option maxRecDepth 100000 in
theorem metX0_isHouse (l : Launch) (p1 : Int32) : Met l yX0_isHouse (ws_ yX0_isHouse cX0_isHouse 1 (some .boolean)) ({ frames := 1, cells := 0, slots := 0, locals := 25 } : Room) (va_Pc [.int p1] (fun _ => True)) (vp_Si (fun r => r = b2i (inB 0 7 p1))) 0 0 (fun _ => False) := by
  refine Met.ofW (cc := cX0_isHouse) (maxL := 1) (ret := (some .boolean)) (by decide) rfl ?_
  intro p e s m args below meth c s₁ B hml hv
  obtain ⟨rfl, -⟩ := hv
  have hx := B.exec
  have hb := B.bytes
  have hr := B.returns
  have hts := atoms_spec (ws := (ws_ yX0_isHouse cX0_isHouse 1 (some .boolean))) B.pre
  have hts : ∀ w ∈ lw_all, w.before _ s = true := fun w h => hts w (List.mem_cons_of_mem _ h)
  have hown : s.vm.findClass RX0 = some m.cls := findClass_of_methodNamed B.named
  have hlocks := B.notSynchronized
  have S : CallFix p m c cX0_isHouse 1 s ([.int p1] : List Value).toArray lw_all RX0 := ⟨hx, hb, hml, hown, hts⟩
  have hl := lv_entry ([.int p1]) (n := 1) (Nat.le_of_ble_eq_true rfl)
  rw [lg_entry_eq]
  generalize (lg_sl ([.int p1]) ++ List.replicate (1 - (lg_sl ([.int p1])).length) Slot.unset).toArray = ls at hl ⊢
  have hl : lv_has ls 1 [(0, .int p1)] := hl
  refine lv_iload_n hx hb dX0_isHouse_0 rfl (lv_at hl 0 rfl) ?_
  refine lv_i2l (v := p1.toInt64) hx hb dX0_isHouse_1 rfl ?_
  refine lv_lconst (v := 0) hx hb dX0_isHouse_2 (by decide) ?_
  refine lv_ldc2 (v := 7) hx hb hown (hts _ q229) dX0_isHouse_3 ?_
  refine s_cI (v := b2i (inB 0 7 p1)) (As := [.long p1.toInt64, .long 0, .long 7]) (rest := []) S (metX0_isInI l p1 0 7 p1.toInt64 0 7 rfl rfl rfl) (va_cwS 3 hts (lw_S q230 q231 q57 q232) rfl rfl rfl (by decide +kernel) ⟨Nat.le_of_ble_eq_true rfl, Nat.le_of_ble_eq_true rfl⟩) rfl hl.1 rfl (Nat.le_of_ble_eq_true rfl) dX0_isHouse_6 ⟨Nat.le_of_ble_eq_true rfl, Nat.le_of_ble_eq_true rfl⟩ ?_
  exact W.zret (v := b2i (inB 0 7 p1)) hx hb hr (b2i_nar _) (fun t9 ht9 hW9 => ⟨_, rfl, (by first | (simp [b2i, up_s, up_n, nI_1, b2i]; done) | (simp_all [b2i]; done) | grind [b2i]), ht9⟩) (fun _ h9 => by cases h9) dX0_isHouse_9

set_option maxHeartbeats 4000000 in
set_option maxRecDepth 100000 in
theorem metX0_isPlace (l : Launch) (p1 : Int32) (p2 : Int32) : Met l yX0_isPlace (ws_ yX0_isPlace cX0_isPlace 2 (some .boolean)) ({ frames := 1, cells := 0, slots := 0, locals := 25 } : Room) (va_Pc [.int p1, .int p2] (fun _ => True)) (vp_Si (fun r => r = b2i (inB 0 999 p1 && inB 0 999 p2))) 0 0 (fun _ => False) := by
  refine Met.ofW (cc := cX0_isPlace) (maxL := 2) (ret := (some .boolean)) (by decide) rfl ?_
  intro p e s m args below meth c s₁ B hml hv
  obtain ⟨rfl, -⟩ := hv
  have hx := B.exec
  have hb := B.bytes
  have hr := B.returns
  have hts := atoms_spec (ws := (ws_ yX0_isPlace cX0_isPlace 2 (some .boolean))) B.pre
  have hts : ∀ w ∈ lw_all, w.before _ s = true := fun w h => hts w (List.mem_cons_of_mem _ h)
  have hown : s.vm.findClass RX0 = some m.cls := findClass_of_methodNamed B.named
  have hlocks := B.notSynchronized
  have S : CallFix p m c cX0_isPlace 2 s ([.int p1, .int p2] : List Value).toArray lw_all RX0 := ⟨hx, hb, hml, hown, hts⟩
  have hl := lv_entry ([.int p1, .int p2]) (n := 2) (Nat.le_of_ble_eq_true rfl)
  rw [lg_entry_eq]
  generalize (lg_sl ([.int p1, .int p2]) ++ List.replicate (2 - (lg_sl ([.int p1, .int p2])).length) Slot.unset).toArray = ls at hl ⊢
  have hl : lv_has ls 2 [(0, .int p1), (1, .int p2)] := hl
  refine lv_iload_n hx hb dX0_isPlace_0 rfl (lv_at hl 0 rfl) ?_
  refine lv_i2l (v := p1.toInt64) hx hb dX0_isPlace_1 rfl ?_
  refine lv_lconst (v := 0) hx hb dX0_isPlace_2 (by decide) ?_
  refine lv_ldc2 (v := 999) hx hb hown (hts _ q405) dX0_isPlace_3 ?_
  refine s_cI (v := b2i (inB 0 999 p1)) (As := [.long p1.toInt64, .long 0, .long 999]) (rest := []) S (metX0_isInI l p1 0 999 p1.toInt64 0 999 rfl rfl rfl) (va_cwS 3 hts (lw_S q230 q231 q57 q232) rfl rfl rfl (by decide +kernel) ⟨Nat.le_of_ble_eq_true rfl, Nat.le_of_ble_eq_true rfl⟩) rfl hl.1 rfl (Nat.le_of_ble_eq_true rfl) dX0_isPlace_6 ⟨Nat.le_of_ble_eq_true rfl, Nat.le_of_ble_eq_true rfl⟩ ?_
  refine lz_if_eq (tgt := 28) hx hb dX0_isPlace_9 (by decide) (fun c_1 => ?_) (fun c_1 => ?_)
  · -- c_1: inB 0 999 p1 = false
    refine lv_iconst (v := 0) hx hb dX0_isPlace_28 (by decide) ?_
    exact W.zret (v := 0) hx hb hr rfl (fun t9 ht9 hW9 => ⟨_, rfl, (by first | (simp [b2i, c_1, up_s, up_n, nI_1, b2i]; done) | (simp_all [b2i]; done) | grind [b2i]), ht9⟩) (fun _ h9 => by cases h9) dX0_isPlace_29
  · -- c_1: inB 0 999 p1 = true
    refine lv_iload_n hx hb dX0_isPlace_12 rfl (lv_at hl 1 rfl) ?_
    refine lv_i2l (v := p2.toInt64) hx hb dX0_isPlace_13 rfl ?_
    refine lv_lconst (v := 0) hx hb dX0_isPlace_14 (by decide) ?_
    refine lv_ldc2 (v := 999) hx hb hown (hts _ q405) dX0_isPlace_15 ?_
    refine s_cI (v := b2i (inB 0 999 p2)) (As := [.long p2.toInt64, .long 0, .long 999]) (rest := []) S (metX0_isInI l p2 0 999 p2.toInt64 0 999 rfl rfl rfl) (va_cwS 3 hts (lw_S q230 q231 q57 q232) rfl rfl rfl (by decide +kernel) ⟨Nat.le_of_ble_eq_true rfl, Nat.le_of_ble_eq_true rfl⟩) rfl hl.1 rfl (Nat.le_of_ble_eq_true rfl) dX0_isPlace_18 ⟨Nat.le_of_ble_eq_true rfl, Nat.le_of_ble_eq_true rfl⟩ ?_
    refine lz_if_eq (tgt := 28) hx hb dX0_isPlace_21 (by decide) (fun c_2 => ?_) (fun c_2 => ?_)
    · -- c_2: inB 0 999 p2 = false
      refine lv_iconst (v := 0) hx hb dX0_isPlace_28 (by decide) ?_
      exact W.zret (v := 0) hx hb hr rfl (fun t9 ht9 hW9 => ⟨_, rfl, (by first | (simp [b2i, c_1, c_2, up_s, up_n, nI_1, b2i]; done) | (simp_all [b2i]; done) | grind [b2i]), ht9⟩) (fun _ h9 => by cases h9) dX0_isPlace_29
    · -- c_2: inB 0 999 p2 = true
      refine lv_iconst (v := 1) hx hb dX0_isPlace_24 (by decide) ?_
      refine lv_goto (tgt := 29) hx hb dX0_isPlace_25 (by decide) ?_
      exact W.zret (v := 1) hx hb hr rfl (fun t9 ht9 hW9 => ⟨_, rfl, (by first | (simp [b2i, c_1, c_2, up_s, up_n, nI_1, b2i]; done) | (simp_all [b2i]; done) | grind [b2i]), ht9⟩) (fun _ h9 => by cases h9) dX0_isPlace_29

set_option maxHeartbeats 4000000 in
set_option maxRecDepth 100000 in
theorem metX0_areDays (l : Launch) (p1 : Int32) (p2 : Int32) : Met l yX0_areDays (ws_ yX0_areDays cX0_areDays 2 (some .boolean)) ({ frames := 2, cells := 0, slots := 0, locals := 45 } : Room) (va_Pc [.int p1, .int p2] (fun _ => True)) (vp_Si (fun r => r = b2i (inB 0 999 p1 && inB p1 999 p2))) 0 0 (fun _ => False) := by
  refine Met.ofW (cc := cX0_areDays) (maxL := 2) (ret := (some .boolean)) (by decide) rfl ?_
  intro p e s m args below meth c s₁ B hml hv
  obtain ⟨rfl, -⟩ := hv
  have hx := B.exec
  have hb := B.bytes
  have hr := B.returns
  have hts := atoms_spec (ws := (ws_ yX0_areDays cX0_areDays 2 (some .boolean))) B.pre
  have hts : ∀ w ∈ lw_all, w.before _ s = true := fun w h => hts w (List.mem_cons_of_mem _ h)
  have hown : s.vm.findClass RX0 = some m.cls := findClass_of_methodNamed B.named
  have hlocks := B.notSynchronized
  have S : CallFix p m c cX0_areDays 2 s ([.int p1, .int p2] : List Value).toArray lw_all RX0 := ⟨hx, hb, hml, hown, hts⟩
  have hl := lv_entry ([.int p1, .int p2]) (n := 2) (Nat.le_of_ble_eq_true rfl)
  rw [lg_entry_eq]
  generalize (lg_sl ([.int p1, .int p2]) ++ List.replicate (2 - (lg_sl ([.int p1, .int p2])).length) Slot.unset).toArray = ls at hl ⊢
  have hl : lv_has ls 2 [(0, .int p1), (1, .int p2)] := hl
  refine lv_iload_n hx hb dX0_areDays_0 rfl (lv_at hl 0 rfl) ?_
  refine s_cI (v := b2i (inB 0 999 p1)) (As := [.int p1]) (rest := []) S (metX0_isDay l p1) (va_cwS 1 hts (lw_S q824 q825 q57 q826) rfl rfl rfl (by decide +kernel) ⟨Nat.le_of_ble_eq_true rfl, Nat.le_of_ble_eq_true rfl⟩) rfl hl.1 rfl (Nat.le_of_ble_eq_true rfl) dX0_areDays_1 ⟨Nat.le_of_ble_eq_true rfl, Nat.le_of_ble_eq_true rfl⟩ ?_
  refine lz_if_eq (tgt := 24) hx hb dX0_areDays_4 (by decide) (fun c_1 => ?_) (fun c_1 => ?_)
  · -- c_1: inB 0 999 p1 = false
    refine lv_iconst (v := 0) hx hb dX0_areDays_24 (by decide) ?_
    exact W.zret (v := 0) hx hb hr rfl (fun t9 ht9 hW9 => ⟨_, rfl, (by first | (simp [b2i, c_1, up_s, up_n, nI_1, b2i]; done) | (simp_all [b2i]; done) | grind [b2i]), ht9⟩) (fun _ h9 => by cases h9) dX0_areDays_25
  · -- c_1: inB 0 999 p1 = true
    refine lv_iload_n hx hb dX0_areDays_7 rfl (lv_at hl 1 rfl) ?_
    refine lv_i2l (v := p2.toInt64) hx hb dX0_areDays_8 rfl ?_
    refine lv_iload_n hx hb dX0_areDays_9 rfl (lv_at hl 0 rfl) ?_
    refine lv_i2l (v := p1.toInt64) hx hb dX0_areDays_10 rfl ?_
    refine lv_ldc2 (v := 999) hx hb hown (hts _ q405) dX0_areDays_11 ?_
    refine s_cI (v := b2i (inB p1 999 p2)) (As := [.long p2.toInt64, .long p1.toInt64, .long 999]) (rest := []) S (metX0_isInI l p2 p1 999 p2.toInt64 p1.toInt64 999 rfl rfl rfl) (va_cwS 3 hts (lw_S q230 q231 q57 q232) rfl rfl rfl (by decide +kernel) ⟨Nat.le_of_ble_eq_true rfl, Nat.le_of_ble_eq_true rfl⟩) rfl hl.1 rfl (Nat.le_of_ble_eq_true rfl) dX0_areDays_14 ⟨Nat.le_of_ble_eq_true rfl, Nat.le_of_ble_eq_true rfl⟩ ?_
    refine lz_if_eq (tgt := 24) hx hb dX0_areDays_17 (by decide) (fun c_2 => ?_) (fun c_2 => ?_)
    · -- c_2: inB p1 999 p2 = false
      refine lv_iconst (v := 0) hx hb dX0_areDays_24 (by decide) ?_
      exact W.zret (v := 0) hx hb hr rfl (fun t9 ht9 hW9 => ⟨_, rfl, (by first | (simp [b2i, c_1, c_2, up_s, up_n, nI_1, b2i]; done) | (simp_all [b2i]; done) | grind [b2i]), ht9⟩) (fun _ h9 => by cases h9) dX0_areDays_25
    · -- c_2: inB p1 999 p2 = true
      refine lv_iconst (v := 1) hx hb dX0_areDays_20 (by decide) ?_
      refine lv_goto (tgt := 25) hx hb dX0_areDays_21 (by decide) ?_
      exact W.zret (v := 1) hx hb hr rfl (fun t9 ht9 hW9 => ⟨_, rfl, (by first | (simp [b2i, c_1, c_2, up_s, up_n, nI_1, b2i]; done) | (simp_all [b2i]; done) | grind [b2i]), ht9⟩) (fun _ h9 => by cases h9) dX0_areDays_25

set_option maxHeartbeats 4000000 in
set_option maxRecDepth 100000 in
theorem metX0_isOpen (l : Launch) (D : va_G) (dA : Nat → ClassId) (A : Nat → Prop) (e0 h : Nat) (G : xG) (T : va_W) (F : Nat → Int32) (Rr : Nat → Nat → Int32) (p1 : Int32) (p2 : Int32) (hg : vp_in p1 9) : Met l yX0_isOpen (ws_ yX0_isOpen cX0_isOpen 3 (some .boolean)) ({ frames := 1, cells := 0, slots := 0, locals := 25 } : Room) (va_Pc [.ref h, .int p1, .int p2] (xPre D dA A e0 h G T F Rr)) (vp_Si (fun r => r = b2i (inB (Rr 1 p1.toNatClampNeg) (Rr 2 p1.toNatClampNeg - 1) p2))) 0 0 (fun _ => False) := by
  refine Met.ofW (cc := cX0_isOpen) (maxL := 3) (ret := (some .boolean)) (by decide) rfl ?_
  intro p e s m args below meth c s₁ B hml hv
  obtain ⟨rfl, hC, hP, hD, hI⟩ := hv
  have hx := B.exec
  have hb := B.bytes
  have hr := B.returns
  have hts := atoms_spec (ws := (ws_ yX0_isOpen cX0_isOpen 3 (some .boolean))) B.pre
  have hts : ∀ w ∈ lw_all, w.before _ s = true := fun w h => hts w (List.mem_cons_of_mem _ h)
  have hown : s.vm.findClass RX0 = some m.cls := findClass_of_methodNamed B.named
  have hlocks := B.notSynchronized
  have S : CallFix p m c cX0_isOpen 3 s ([.ref h, .int p1, .int p2] : List Value).toArray lw_all RX0 := ⟨hx, hb, hml, hown, hts⟩
  have X : xX RX0 p s m ([.ref h, .int p1, .int p2] : List Value).toArray c cX0_isOpen 3 D dA A e0 := ⟨S, hC⟩
  have M : xM D dA A e0 h G T s F Rr s.heap [] := ⟨hP, hD, va_S.rf, hI⟩
  have hl := lv_entry ([.ref h, .int p1, .int p2]) (n := 3) (Nat.le_of_ble_eq_true rfl)
  rw [lg_entry_eq]
  generalize (lg_sl ([.ref h, .int p1, .int p2]) ++ List.replicate (3 - (lg_sl ([.ref h, .int p1, .int p2])).length) Slot.unset).toArray = ls at hl ⊢
  have hl : lv_has ls 3 [(0, .ref h), (1, .int p1), (2, .int p2)] := hl
  refine lv_iload_n hx hb dX0_isOpen_0 rfl (lv_at hl 2 rfl) ?_
  refine lv_i2l (v := p2.toInt64) hx hb dX0_isOpen_1 rfl ?_
  refine lv_aload_n hx hb dX0_isOpen_2 rfl (lv_at hl 0 rfl) ?_
  refine xg_1 X M dX0_isOpen_3 ?_
  refine lv_iload_n hx hb dX0_isOpen_6 rfl (lv_at hl 1 rfl) ?_
  refine xr_1 X M (f := Rr 1) rfl (j := p1.toNatClampNeg) hg rfl dX0_isOpen_7 ?_
  refine lv_i2l (v := (Rr 1 p1.toNatClampNeg).toInt64) hx hb dX0_isOpen_8 rfl ?_
  refine lv_aload_n hx hb dX0_isOpen_9 rfl (lv_at hl 0 rfl) ?_
  refine xg_2 X M dX0_isOpen_10 ?_
  refine lv_iload_n hx hb dX0_isOpen_13 rfl (lv_at hl 1 rfl) ?_
  refine xr_2 X M (f := Rr 2) rfl (j := p1.toNatClampNeg) hg rfl dX0_isOpen_14 ?_
  refine lv_iconst (v := 1) hx hb dX0_isOpen_15 (by decide) ?_
  refine lv_isub hx hb dX0_isOpen_16 ?_
  refine lv_i2l (v := ((Rr 2 p1.toNatClampNeg) - 1).toInt64) hx hb dX0_isOpen_17 rfl ?_
  refine s_cI (v := b2i (inB (Rr 1 p1.toNatClampNeg) ((Rr 2 p1.toNatClampNeg) - 1) p2)) (As := [.long p2.toInt64, .long ((Rr 1 p1.toNatClampNeg).toInt64), .long (((Rr 2 p1.toNatClampNeg) - 1).toInt64)]) (rest := []) S (metX0_isInI l p2 (Rr 1 p1.toNatClampNeg) ((Rr 2 p1.toNatClampNeg) - 1) p2.toInt64 ((Rr 1 p1.toNatClampNeg).toInt64) (((Rr 2 p1.toNatClampNeg) - 1).toInt64) rfl rfl rfl) (va_cwS 3 hts (lw_S q230 q231 q57 q232) rfl rfl rfl (by decide +kernel) ⟨Nat.le_of_ble_eq_true rfl, Nat.le_of_ble_eq_true rfl⟩) rfl hl.1 rfl (Nat.le_of_ble_eq_true rfl) dX0_isOpen_18 ⟨Nat.le_of_ble_eq_true rfl, Nat.le_of_ble_eq_true rfl⟩ ?_
  exact W.zret (v := b2i (inB (Rr 1 p1.toNatClampNeg) ((Rr 2 p1.toNatClampNeg) - 1) p2)) hx hb hr (b2i_nar _) (fun t9 ht9 hW9 => ⟨_, rfl, (by first | (simp [b2i, up_s, up_n, nI_1, b2i]; done) | (simp_all [b2i]; done) | grind [b2i]), ht9⟩) (fun _ h9 => by cases h9) dX0_isOpen_21

set_option maxHeartbeats 4000000 in
set_option maxRecDepth 100000 in
theorem metX0_fault (l : Launch) (D : va_G) (dA : Nat → ClassId) (A : Nat → Prop) (e0 h : Nat) (G : xG) (T : va_W) (F : Nat → Int32) (Rr : Nat → Nat → Int32) : Met l yX0_fault (ws_ yX0_fault cX0_fault 1 (some .int)) ({ frames := 0, cells := 0, slots := 0, locals := 0 } : Room) (va_Pc [.ref h] (xPre D dA A e0 h G T F Rr)) (vp_Si (fun r => r = (F 9))) 0 0 (fun _ => False) := by
  refine Met.ofW (cc := cX0_fault) (maxL := 1) (ret := (some .int)) (by decide) rfl ?_
  intro p e s m args below meth c s₁ B hml hv
  obtain ⟨rfl, hC, hP, hD, hI⟩ := hv
  have hx := B.exec
  have hb := B.bytes
  have hr := B.returns
  have hts := atoms_spec (ws := (ws_ yX0_fault cX0_fault 1 (some .int))) B.pre
  have hts : ∀ w ∈ lw_all, w.before _ s = true := fun w h => hts w (List.mem_cons_of_mem _ h)
  have hown : s.vm.findClass RX0 = some m.cls := findClass_of_methodNamed B.named
  have hlocks := B.notSynchronized
  have S : CallFix p m c cX0_fault 1 s ([.ref h] : List Value).toArray lw_all RX0 := ⟨hx, hb, hml, hown, hts⟩
  have X : xX RX0 p s m ([.ref h] : List Value).toArray c cX0_fault 1 D dA A e0 := ⟨S, hC⟩
  have M : xM D dA A e0 h G T s F Rr s.heap [] := ⟨hP, hD, va_S.rf, hI⟩
  have hl := lv_entry ([.ref h]) (n := 1) (Nat.le_of_ble_eq_true rfl)
  rw [lg_entry_eq]
  generalize (lg_sl ([.ref h]) ++ List.replicate (1 - (lg_sl ([.ref h])).length) Slot.unset).toArray = ls at hl ⊢
  have hl : lv_has ls 1 [(0, .ref h)] := hl
  refine lv_aload_n hx hb dX0_fault_0 rfl (lv_at hl 0 rfl) ?_
  refine xg_9 X M (v := F 9) rfl dX0_fault_1 ?_
  exact W.iret (v := F 9) hx hb hr (fun t9 ht9 hW9 => ⟨_, rfl, rfl, ht9⟩) (fun _ h9 => by cases h9) dX0_fault_4

set_option maxHeartbeats 4000000 in
set_option maxRecDepth 100000 in
theorem metX0_status (l : Launch) (D : va_G) (dA : Nat → ClassId) (A : Nat → Prop) (e0 h : Nat) (G : xG) (T : va_W) (F : Nat → Int32) (Rr : Nat → Nat → Int32) : Met l yX0_status (ws_ yX0_status cX0_status 1 (some .int)) ({ frames := 0, cells := 0, slots := 0, locals := 0 } : Room) (va_Pc [.ref h] (xPre D dA A e0 h G T F Rr)) (vp_Si (fun r => r = (F 23))) 0 0 (fun _ => False) := by
  refine Met.ofW (cc := cX0_status) (maxL := 1) (ret := (some .int)) (by decide) rfl ?_
  intro p e s m args below meth c s₁ B hml hv
  obtain ⟨rfl, hC, hP, hD, hI⟩ := hv
  have hx := B.exec
  have hb := B.bytes
  have hr := B.returns
  have hts := atoms_spec (ws := (ws_ yX0_status cX0_status 1 (some .int))) B.pre
  have hts : ∀ w ∈ lw_all, w.before _ s = true := fun w h => hts w (List.mem_cons_of_mem _ h)
  have hown : s.vm.findClass RX0 = some m.cls := findClass_of_methodNamed B.named
  have hlocks := B.notSynchronized
  have S : CallFix p m c cX0_status 1 s ([.ref h] : List Value).toArray lw_all RX0 := ⟨hx, hb, hml, hown, hts⟩
  have X : xX RX0 p s m ([.ref h] : List Value).toArray c cX0_status 1 D dA A e0 := ⟨S, hC⟩
  have M : xM D dA A e0 h G T s F Rr s.heap [] := ⟨hP, hD, va_S.rf, hI⟩
  have hl := lv_entry ([.ref h]) (n := 1) (Nat.le_of_ble_eq_true rfl)
  rw [lg_entry_eq]
  generalize (lg_sl ([.ref h]) ++ List.replicate (1 - (lg_sl ([.ref h])).length) Slot.unset).toArray = ls at hl ⊢
  have hl : lv_has ls 1 [(0, .ref h)] := hl
  refine lv_aload_n hx hb dX0_status_0 rfl (lv_at hl 0 rfl) ?_
  refine xg_23 X M (v := F 23) rfl dX0_status_1 ?_
  exact W.iret (v := F 23) hx hb hr (fun t9 ht9 hW9 => ⟨_, rfl, rfl, ht9⟩) (fun _ h9 => by cases h9) dX0_status_4

set_option maxHeartbeats 4000000 in
set_option maxRecDepth 100000 in
theorem metX0_isCart (l : Launch) (D : va_G) (dA : Nat → ClassId) (A : Nat → Prop) (e0 h : Nat) (G : xG) (T : va_W) (F : Nat → Int32) (Rr : Nat → Nat → Int32) (p1 : Int32) : Met l yX0_isCart (ws_ yX0_isCart cX0_isCart 2 (some .boolean)) ({ frames := 1, cells := 0, slots := 0, locals := 25 } : Room) (va_Pc [.ref h, .int p1] (xPre D dA A e0 h G T F Rr)) (vp_Si (fun r => r = b2i (inB 0 ((F 10) - 1) p1))) 0 0 (fun _ => False) := by
  refine Met.ofW (cc := cX0_isCart) (maxL := 2) (ret := (some .boolean)) (by decide) rfl ?_
  intro p e s m args below meth c s₁ B hml hv
  obtain ⟨rfl, hC, hP, hD, hI⟩ := hv
  have hx := B.exec
  have hb := B.bytes
  have hr := B.returns
  have hts := atoms_spec (ws := (ws_ yX0_isCart cX0_isCart 2 (some .boolean))) B.pre
  have hts : ∀ w ∈ lw_all, w.before _ s = true := fun w h => hts w (List.mem_cons_of_mem _ h)
  have hown : s.vm.findClass RX0 = some m.cls := findClass_of_methodNamed B.named
  have hlocks := B.notSynchronized
  have S : CallFix p m c cX0_isCart 2 s ([.ref h, .int p1] : List Value).toArray lw_all RX0 := ⟨hx, hb, hml, hown, hts⟩
  have X : xX RX0 p s m ([.ref h, .int p1] : List Value).toArray c cX0_isCart 2 D dA A e0 := ⟨S, hC⟩
  have M : xM D dA A e0 h G T s F Rr s.heap [] := ⟨hP, hD, va_S.rf, hI⟩
  have hl := lv_entry ([.ref h, .int p1]) (n := 2) (Nat.le_of_ble_eq_true rfl)
  rw [lg_entry_eq]
  generalize (lg_sl ([.ref h, .int p1]) ++ List.replicate (2 - (lg_sl ([.ref h, .int p1])).length) Slot.unset).toArray = ls at hl ⊢
  have hl : lv_has ls 2 [(0, .ref h), (1, .int p1)] := hl
  refine lv_iload_n hx hb dX0_isCart_0 rfl (lv_at hl 1 rfl) ?_
  refine lv_i2l (v := p1.toInt64) hx hb dX0_isCart_1 rfl ?_
  refine lv_lconst (v := 0) hx hb dX0_isCart_2 (by decide) ?_
  refine lv_aload_n hx hb dX0_isCart_3 rfl (lv_at hl 0 rfl) ?_
  refine xg_10 X M dX0_isCart_4 ?_
  refine xl_size_10 X M (v := F 10) rfl hl.1 ⟨Nat.le_of_ble_eq_true rfl, Nat.le_of_ble_eq_true rfl⟩ ⟨Nat.le_of_ble_eq_true rfl, Nat.le_of_ble_eq_true rfl⟩ (Nat.le_of_ble_eq_true rfl) dX0_isCart_7 ?_
  refine lv_iconst (v := 1) hx hb dX0_isCart_12 (by decide) ?_
  refine lv_isub hx hb dX0_isCart_13 ?_
  refine lv_i2l (v := ((F 10) - 1).toInt64) hx hb dX0_isCart_14 rfl ?_
  refine s_cI (v := b2i (inB 0 ((F 10) - 1) p1)) (As := [.long p1.toInt64, .long 0, .long (((F 10) - 1).toInt64)]) (rest := []) S (metX0_isInI l p1 0 ((F 10) - 1) p1.toInt64 0 (((F 10) - 1).toInt64) rfl rfl rfl) (va_cwS 3 hts (lw_S q230 q231 q57 q232) rfl rfl rfl (by decide +kernel) ⟨Nat.le_of_ble_eq_true rfl, Nat.le_of_ble_eq_true rfl⟩) rfl hl.1 rfl (Nat.le_of_ble_eq_true rfl) dX0_isCart_15 ⟨Nat.le_of_ble_eq_true rfl, Nat.le_of_ble_eq_true rfl⟩ ?_
  exact W.zret (v := b2i (inB 0 ((F 10) - 1) p1)) hx hb hr (b2i_nar _) (fun t9 ht9 hW9 => ⟨_, rfl, (by first | (simp [b2i, up_s, up_n, nI_1, b2i]; done) | (simp_all [b2i]; done) | grind [b2i]), ht9⟩) (fun _ h9 => by cases h9) dX0_isCart_18

set_option maxHeartbeats 4000000 in
set_option maxRecDepth 100000 in
theorem metX0_isPass (l : Launch) (D : va_G) (dA : Nat → ClassId) (A : Nat → Prop) (e0 h : Nat) (G : xG) (T : va_W) (F : Nat → Int32) (Rr : Nat → Nat → Int32) (p1 : Int32) : Met l yX0_isPass (ws_ yX0_isPass cX0_isPass 2 (some .boolean)) ({ frames := 1, cells := 0, slots := 0, locals := 25 } : Room) (va_Pc [.ref h, .int p1] (xPre D dA A e0 h G T F Rr)) (vp_Si (fun r => r = b2i (inB 0 ((F 14) - 1) p1))) 0 0 (fun _ => False) := by
  refine Met.ofW (cc := cX0_isPass) (maxL := 2) (ret := (some .boolean)) (by decide) rfl ?_
  intro p e s m args below meth c s₁ B hml hv
  obtain ⟨rfl, hC, hP, hD, hI⟩ := hv
  have hx := B.exec
  have hb := B.bytes
  have hr := B.returns
  have hts := atoms_spec (ws := (ws_ yX0_isPass cX0_isPass 2 (some .boolean))) B.pre
  have hts : ∀ w ∈ lw_all, w.before _ s = true := fun w h => hts w (List.mem_cons_of_mem _ h)
  have hown : s.vm.findClass RX0 = some m.cls := findClass_of_methodNamed B.named
  have hlocks := B.notSynchronized
  have S : CallFix p m c cX0_isPass 2 s ([.ref h, .int p1] : List Value).toArray lw_all RX0 := ⟨hx, hb, hml, hown, hts⟩
  have X : xX RX0 p s m ([.ref h, .int p1] : List Value).toArray c cX0_isPass 2 D dA A e0 := ⟨S, hC⟩
  have M : xM D dA A e0 h G T s F Rr s.heap [] := ⟨hP, hD, va_S.rf, hI⟩
  have hl := lv_entry ([.ref h, .int p1]) (n := 2) (Nat.le_of_ble_eq_true rfl)
  rw [lg_entry_eq]
  generalize (lg_sl ([.ref h, .int p1]) ++ List.replicate (2 - (lg_sl ([.ref h, .int p1])).length) Slot.unset).toArray = ls at hl ⊢
  have hl : lv_has ls 2 [(0, .ref h), (1, .int p1)] := hl
  refine lv_iload_n hx hb dX0_isPass_0 rfl (lv_at hl 1 rfl) ?_
  refine lv_i2l (v := p1.toInt64) hx hb dX0_isPass_1 rfl ?_
  refine lv_lconst (v := 0) hx hb dX0_isPass_2 (by decide) ?_
  refine lv_aload_n hx hb dX0_isPass_3 rfl (lv_at hl 0 rfl) ?_
  refine xg_14 X M dX0_isPass_4 ?_
  refine xl_size_14 X M (v := F 14) rfl hl.1 ⟨Nat.le_of_ble_eq_true rfl, Nat.le_of_ble_eq_true rfl⟩ ⟨Nat.le_of_ble_eq_true rfl, Nat.le_of_ble_eq_true rfl⟩ (Nat.le_of_ble_eq_true rfl) dX0_isPass_7 ?_
  refine lv_iconst (v := 1) hx hb dX0_isPass_12 (by decide) ?_
  refine lv_isub hx hb dX0_isPass_13 ?_
  refine lv_i2l (v := ((F 14) - 1).toInt64) hx hb dX0_isPass_14 rfl ?_
  refine s_cI (v := b2i (inB 0 ((F 14) - 1) p1)) (As := [.long p1.toInt64, .long 0, .long (((F 14) - 1).toInt64)]) (rest := []) S (metX0_isInI l p1 0 ((F 14) - 1) p1.toInt64 0 (((F 14) - 1).toInt64) rfl rfl rfl) (va_cwS 3 hts (lw_S q230 q231 q57 q232) rfl rfl rfl (by decide +kernel) ⟨Nat.le_of_ble_eq_true rfl, Nat.le_of_ble_eq_true rfl⟩) rfl hl.1 rfl (Nat.le_of_ble_eq_true rfl) dX0_isPass_15 ⟨Nat.le_of_ble_eq_true rfl, Nat.le_of_ble_eq_true rfl⟩ ?_
  exact W.zret (v := b2i (inB 0 ((F 14) - 1) p1)) hx hb hr (b2i_nar _) (fun t9 ht9 hW9 => ⟨_, rfl, (by first | (simp [b2i, up_s, up_n, nI_1, b2i]; done) | (simp_all [b2i]; done) | grind [b2i]), ht9⟩) (fun _ h9 => by cases h9) dX0_isPass_18

def x_lawStep (Rr : Nat → Nat → Int32) (day what of : Int32) (k : Nat) (best : Int32) : Int32 := if Rr 61 k = what ∧ Rr 62 k = of ∧ Rr 60 k ≤ day ∧ (best = (-1000000) ∨ Rr 60 best.toNatClampNeg ≤ Rr 60 k) then nI k else best
def x_lawFor (n : Int32) (Rr : Nat → Nat → Int32) (day what of : Int32) : Int32 := itr (x_lawStep Rr day what of) n.toNatClampNeg (-1000000)
theorem x_lawFor_in {n : Nat} {Rr : Nat → Nat → Int32} {day what of : Int32} (hn : n ≤ 30) : itr (x_lawStep Rr day what of) n (-1000000) = (-1000000) ∨ vp_in (itr (x_lawStep Rr day what of) n (-1000000)) n := itr_in (fun k x => by unfold x_lawStep; split <;> simp) n (by omega)
def x_law (n : Int32) (Rr : Nat → Nat → Int32) (day what of without : Int32) : Int32 := if x_lawFor n Rr day what of = (-1000000) then without else Rr 63 (x_lawFor n Rr day what of).toNatClampNeg
set_option maxHeartbeats 4000000 in
set_option maxRecDepth 100000 in
theorem metX0_law (l : Launch) (D : va_G) (dA : Nat → ClassId) (A : Nat → Prop) (e0 h : Nat) (G : xG) (T : va_W) (F : Nat → Int32) (Rr : Nat → Nat → Int32) (p1 : Int32) (p2 : Int32) (p3 : Int32) (p4 : Int32) : Met l yX0_law (ws_ yX0_law cX0_law 8 (some .int)) ({ frames := 3, cells := 0, slots := 0, locals := 64 } : Room) (va_Pc [.ref h, .int p1, .int p2, .int p3, .int p4] (xPre D dA A e0 h G T F Rr)) (vp_Si (fun r => r = x_law (F 6) Rr p1 p2 p3 p4)) 0 0 (fun _ => False) := by
  refine Met.ofW (cc := cX0_law) (maxL := 8) (ret := (some .int)) (by decide) rfl ?_
  intro p e s m args below meth c s₁ B hml hv
  obtain ⟨rfl, hC, hP, hD, hI⟩ := hv
  have hx := B.exec
  have hb := B.bytes
  have hr := B.returns
  have hts := atoms_spec (ws := (ws_ yX0_law cX0_law 8 (some .int))) B.pre
  have hts : ∀ w ∈ lw_all, w.before _ s = true := fun w h => hts w (List.mem_cons_of_mem _ h)
  have hown : s.vm.findClass RX0 = some m.cls := findClass_of_methodNamed B.named
  have hlocks := B.notSynchronized
  have S : CallFix p m c cX0_law 8 s ([.ref h, .int p1, .int p2, .int p3, .int p4] : List Value).toArray lw_all RX0 := ⟨hx, hb, hml, hown, hts⟩
  have X : xX RX0 p s m ([.ref h, .int p1, .int p2, .int p3, .int p4] : List Value).toArray c cX0_law 8 D dA A e0 := ⟨S, hC⟩
  have M : xM D dA A e0 h G T s F Rr s.heap [] := ⟨hP, hD, va_S.rf, hI⟩
  have hl := lv_entry ([.ref h, .int p1, .int p2, .int p3, .int p4]) (n := 8) (Nat.le_of_ble_eq_true rfl)
  rw [lg_entry_eq]
  generalize (lg_sl ([.ref h, .int p1, .int p2, .int p3, .int p4]) ++ List.replicate (8 - (lg_sl ([.ref h, .int p1, .int p2, .int p3, .int p4])).length) Slot.unset).toArray = ls at hl ⊢
  have hl : lv_has ls 8 [(0, .ref h), (1, .int p1), (2, .int p2), (3, .int p3), (4, .int p4)] := hl
  have h6 : cnB (F 6) 30 := hI.1.1
  obtain ⟨n6, hn6, en6⟩ := cnB_ex h6 (n := 30) rfl
  have em6 : (F 6).toNatClampNeg = n6 := by rw [en6]; exact nI_clamp (by omega)
  have ec6 : (nI n6).toNatClampNeg = n6 := nI_clamp (by omega)
  refine lv_ldc (v := (-1000000)) hx hb hown (hts _ q147) dX0_law_0 ?_
  refine lv_istore (lv' := [(5, .int (-1000000)), (0, .ref h), (1, .int p1), (2, .int p2), (3, .int p3), (4, .int p4)]) hx hb dX0_law_2 hl (by decide) rfl (fun ls hl => ?_)
  refine lv_iconst (v := 0) hx hb dX0_law_4 (by decide) ?_
  refine lv_istore (lv' := [(6, .int 0), (5, .int (-1000000)), (0, .ref h), (1, .int p1), (2, .int p2), (3, .int p3), (4, .int p4)]) hx hb dX0_law_5 hl (by decide) rfl (fun ls hl => ?_)
  have L_1 : ∀ (fuL_1 : Nat) (i : Nat) (x : Int32), (i ≤ n6) → (x = itr (x_lawStep Rr p1 p2 p3) i (-1000000)) → n6 - i < fuL_1 → ∀ ls, lv_has ls 8 [(0, .ref h), (1, .int p1), (2, .int p2), (3, .int p3), (4, .int p4), (5, .int x), (6, .int (nI i))] → W p l e ({ frames := 3, cells := 0, slots := 0, locals := 64 } : Room) s m ([.ref h, .int p1, .int p2, .int p3, .int p4] : List Value).toArray below meth c s.heap [] 0 0 (MQ below (vp_Si (fun r => r = x_law (F 6) Rr p1 p2 p3 p4)) ([.ref h, .int p1, .int p2, .int p3, .int p4] : List Value).toArray s 0 0 (fun _ => False)) (F0 m 7 ls []) := by
    intro fuL_1
    induction fuL_1 with
    | zero => intro i x hi qx hfuL_1; exact absurd hfuL_1 (Nat.not_lt_zero _)
    | succ fuL_1 L_1ih =>
      intro i x hi qx hfuL_1 ls hl
      have hb9 : x = (-1000000) ∨ vp_in x i := by rw [qx]; exact x_lawFor_in (by omega)
      refine lv_iload hx hb dX0_law_7 (lv_at hl 6 rfl) ?_
      refine lv_aload_n hx hb dX0_law_9 rfl (lv_at hl 0 rfl) ?_
      refine xg_6 X M dX0_law_10 ?_
      refine xl_size_6 X M (v := F 6) rfl hl.1 ⟨Nat.le_of_ble_eq_true rfl, Nat.le_of_ble_eq_true rfl⟩ ⟨Nat.le_of_ble_eq_true rfl, Nat.le_of_ble_eq_true rfl⟩ (Nat.le_of_ble_eq_true rfl) dX0_law_13 ?_
      refine lv_asi (y := nI n6) en6 ?_
      refine ln_icmp_ge (tgt := 106) hx hb (a := i) (b := n6) (by omega) (by omega) dX0_law_18 (by decide) (fun c_2 => ?_) (fun c_2 => ?_)
      · -- c_2: nI i ≥ nI n6
        have ei : i = n6 := by omega
        rw [ei] at qx
        have hb8 : x = (-1000000) ∨ vp_in x n6 := by rw [qx]; exact x_lawFor_in (by omega)
        refine lv_iload hx hb dX0_law_106 (lv_at hl 5 rfl) ?_
        refine lv_ldc (v := (-1000000)) hx hb hown (hts _ q147) dX0_law_108 ?_
        refine lv_icmp_ne (tgt := 118) hx hb dX0_law_110 (by decide) (fun c_3 => ?_) (fun c_3 => ?_)
        · -- c_3: x ≠ (-1000000)
          refine lv_aload_n hx hb dX0_law_118 rfl (lv_at hl 0 rfl) ?_
          refine xg_6 X M dX0_law_119 ?_
          refine lv_iload hx hb dX0_law_122 (lv_at hl 5 rfl) ?_
          have k_4 : x.toNatClampNeg < (F 6).toNatClampNeg := (by have h9 := vp_lt (vp_or hb8 c_3 (Nat.le_refl _)); omega)
          refine xl_get_6 X M (k := x.toNatClampNeg) (nJ_of (vp_ge (vp_or hb8 c_3 (Nat.le_refl _)))) k_4 hl.1 ⟨Nat.le_of_ble_eq_true rfl, Nat.le_of_ble_eq_true rfl⟩ ⟨Nat.le_of_ble_eq_true rfl, Nat.le_of_ble_eq_true rfl⟩ (Nat.le_of_ble_eq_true rfl) dX0_law_124 ?_
          refine xk_6 X M (k := x.toNatClampNeg) k_4 dX0_law_129 ?_
          refine xo_6_3 X M (k := x.toNatClampNeg) k_4 dX0_law_132 ?_
          exact W.iret (v := Rr 63 x.toNatClampNeg) hx hb hr (fun t9 ht9 hW9 => ⟨_, rfl, (by have q9 : x_lawFor (F 6) Rr p1 p2 p3 = x := (by unfold x_lawFor; rw [em6]; exact qx.symm); unfold x_law; rw [q9]; simp [c_3]), ht9⟩) (fun _ h9 => by cases h9) dX0_law_135
        · -- c_3: x = (-1000000)
          refine lv_iload hx hb dX0_law_113 (lv_at hl 4 rfl) ?_
          refine lv_goto (tgt := 135) hx hb dX0_law_115 (by decide) ?_
          exact W.iret (v := p4) hx hb hr (fun t9 ht9 hW9 => ⟨_, rfl, (by have q9 : x_lawFor (F 6) Rr p1 p2 p3 = x := (by unfold x_lawFor; rw [em6]; exact qx.symm); unfold x_law; rw [q9]; simp [c_3]), ht9⟩) (fun _ h9 => by cases h9) dX0_law_135
      · -- c_2: nI i < nI n6
        refine lv_aload_n hx hb dX0_law_21 rfl (lv_at hl 0 rfl) ?_
        refine xg_6 X M dX0_law_22 ?_
        refine lv_iload hx hb dX0_law_25 (lv_at hl 6 rfl) ?_
        have k_5 : i < (F 6).toNatClampNeg := (by omega)
        refine xl_get_6 X M (k := i) rfl k_5 hl.1 ⟨Nat.le_of_ble_eq_true rfl, Nat.le_of_ble_eq_true rfl⟩ ⟨Nat.le_of_ble_eq_true rfl, Nat.le_of_ble_eq_true rfl⟩ (Nat.le_of_ble_eq_true rfl) dX0_law_27 ?_
        refine xk_6 X M (k := i) k_5 dX0_law_32 ?_
        refine lv_astore (lv' := [(7, .ref (xea G 6 i)), (0, .ref h), (1, .int p1), (2, .int p2), (3, .int p3), (4, .int p4), (5, .int x), (6, .int (nI i))]) hx hb dX0_law_35 hl (by decide) rfl (fun ls hl => ?_)
        refine lv_aload hx hb dX0_law_37 (lv_at hl 0 rfl) ?_
        refine xo_6_1 X M (k := i) k_5 dX0_law_39 ?_
        refine lv_iload_n hx hb dX0_law_42 rfl (lv_at hl 3 rfl) ?_
        refine lv_icmp_ne (tgt := 100) hx hb dX0_law_43 (by decide) (fun c_6 => ?_) (fun c_6 => ?_)
        · -- c_6: Rr 61 i ≠ p2
          refine lv_iinc (v := nI (i + 1)) (lv' := [(6, .int (nI (i + 1))), (7, .ref (xea G 6 i)), (0, .ref h), (1, .int p1), (2, .int p2), (3, .int p3), (4, .int p4), (5, .int x)]) hx hb dX0_law_100 hl (k := 7) rfl (mk_inc _) (by decide) rfl (fun ls hl => ?_)
          refine lv_goto (tgt := 7) hx hb dX0_law_103 (by decide) ?_
          exact L_1ih  (i + 1) x (by omega) (by first | (rw [itr_s, ← qx]; done) | (rw [itr_s, ← qx]; first | (simp [x_lawStep, em6, ec6, c_2, c_6, up_s, up_n, nI_1, b2i]; done) | (simp_all [x_lawStep]; done) | grind [x_lawStep])) (by omega) ls (lv_sub hl [2, 3, 4, 5, 6, 7, 0] rfl)
        · -- c_6: Rr 61 i = p2
          refine lv_aload hx hb dX0_law_46 (lv_at hl 0 rfl) ?_
          refine xo_6_2 X M (k := i) k_5 dX0_law_48 ?_
          refine lv_iload_n hx hb dX0_law_51 rfl (lv_at hl 4 rfl) ?_
          refine lv_icmp_ne (tgt := 100) hx hb dX0_law_52 (by decide) (fun c_7 => ?_) (fun c_7 => ?_)
          · -- c_7: Rr 62 i ≠ p3
            refine lv_iinc (v := nI (i + 1)) (lv' := [(6, .int (nI (i + 1))), (7, .ref (xea G 6 i)), (0, .ref h), (1, .int p1), (2, .int p2), (3, .int p3), (4, .int p4), (5, .int x)]) hx hb dX0_law_100 hl (k := 7) rfl (mk_inc _) (by decide) rfl (fun ls hl => ?_)
            refine lv_goto (tgt := 7) hx hb dX0_law_103 (by decide) ?_
            exact L_1ih  (i + 1) x (by omega) (by first | (rw [itr_s, ← qx]; done) | (rw [itr_s, ← qx]; first | (simp [x_lawStep, em6, ec6, c_2, c_6, c_7, up_s, up_n, nI_1, b2i]; done) | (simp_all [x_lawStep]; done) | grind [x_lawStep])) (by omega) ls (lv_sub hl [2, 3, 4, 5, 6, 7, 0] rfl)
          · -- c_7: Rr 62 i = p3
            refine lv_aload hx hb dX0_law_55 (lv_at hl 0 rfl) ?_
            refine xo_6_0 X M (k := i) k_5 dX0_law_57 ?_
            refine lv_iload_n hx hb dX0_law_60 rfl (lv_at hl 2 rfl) ?_
            refine lb_icmp_gt (tgt := 100) hx hb dX0_law_61 (by decide) (fun c_8 c_8' => ?_) (fun c_8 c_8' => ?_)
            · -- c_8: Rr 60 i > p1
              refine lv_iinc (v := nI (i + 1)) (lv' := [(6, .int (nI (i + 1))), (7, .ref (xea G 6 i)), (0, .ref h), (1, .int p1), (2, .int p2), (3, .int p3), (4, .int p4), (5, .int x)]) hx hb dX0_law_100 hl (k := 7) rfl (mk_inc _) (by decide) rfl (fun ls hl => ?_)
              refine lv_goto (tgt := 7) hx hb dX0_law_103 (by decide) ?_
              exact L_1ih  (i + 1) x (by omega) (by first | (rw [itr_s, ← qx]; done) | (rw [itr_s, ← qx]; first | (simp [x_lawStep, em6, ec6, c_2, c_6, c_7, c_8, c_8', up_s, up_n, nI_1, b2i]; done) | (simp_all [x_lawStep]; done) | grind [x_lawStep])) (by omega) ls (lv_sub hl [2, 3, 4, 5, 6, 7, 0] rfl)
            · -- c_8: Rr 60 i ≤ p1
              refine lv_iload hx hb dX0_law_64 (lv_at hl 6 rfl) ?_
              refine lv_ldc (v := (-1000000)) hx hb hown (hts _ q147) dX0_law_66 ?_
              refine lv_icmp_eq (tgt := 96) hx hb dX0_law_68 (by decide) (fun c_9 => ?_) (fun c_9 => ?_)
              · -- c_9: x = (-1000000)
                refine lv_iload hx hb dX0_law_96 (lv_at hl 7 rfl) ?_
                refine lv_istore (lv' := [(5, .int (nI i)), (7, .ref (xea G 6 i)), (0, .ref h), (1, .int p1), (2, .int p2), (3, .int p3), (4, .int p4), (6, .int (nI i))]) hx hb dX0_law_98 hl (by decide) rfl (fun ls hl => ?_)
                refine lv_iinc (v := nI (i + 1)) (lv' := [(6, .int (nI (i + 1))), (5, .int (nI i)), (7, .ref (xea G 6 i)), (0, .ref h), (1, .int p1), (2, .int p2), (3, .int p3), (4, .int p4)]) hx hb dX0_law_100 hl (k := 7) rfl (mk_inc _) (by decide) rfl (fun ls hl => ?_)
                refine lv_goto (tgt := 7) hx hb dX0_law_103 (by decide) ?_
                exact L_1ih  (i + 1) (nI i) (by omega) (by first | (rw [itr_s, ← qx]; done) | (rw [itr_s, ← qx]; first | (simp [x_lawStep, em6, ec6, c_2, c_6, c_7, c_8, c_8', c_9, up_s, up_n, nI_1, b2i]; done) | (simp_all [x_lawStep]; done) | grind [x_lawStep])) (by omega) ls (lv_sub hl [3, 4, 5, 6, 7, 1, 0] rfl)
              · -- c_9: x ≠ (-1000000)
                refine lv_aload hx hb dX0_law_71 (lv_at hl 0 rfl) ?_
                refine xo_6_0 X M (k := i) k_5 dX0_law_73 ?_
                refine lv_aload_n hx hb dX0_law_76 rfl (lv_at hl 1 rfl) ?_
                refine xg_6 X M dX0_law_77 ?_
                refine lv_iload hx hb dX0_law_80 (lv_at hl 6 rfl) ?_
                have k_10 : x.toNatClampNeg < (F 6).toNatClampNeg := (by have h9 := vp_lt (vp_or hb9 c_9 (Nat.le_refl _)); omega)
                refine xl_get_6 X M (k := x.toNatClampNeg) (nJ_of (vp_ge (vp_or hb9 c_9 (Nat.le_refl _)))) k_10 hl.1 ⟨Nat.le_of_ble_eq_true rfl, Nat.le_of_ble_eq_true rfl⟩ ⟨Nat.le_of_ble_eq_true rfl, Nat.le_of_ble_eq_true rfl⟩ (Nat.le_of_ble_eq_true rfl) dX0_law_82 ?_
                refine xk_6 X M (k := x.toNatClampNeg) k_10 dX0_law_87 ?_
                refine xo_6_0 X M (k := x.toNatClampNeg) k_10 dX0_law_90 ?_
                refine lb_icmp_lt (tgt := 100) hx hb dX0_law_93 (by decide) (fun c_11 c_11' => ?_) (fun c_11 c_11' => ?_)
                · -- c_11: Rr 60 i < Rr 60 x.toNatClampNeg
                  refine lv_iinc (v := nI (i + 1)) (lv' := [(6, .int (nI (i + 1))), (7, .ref (xea G 6 i)), (0, .ref h), (1, .int p1), (2, .int p2), (3, .int p3), (4, .int p4), (5, .int x)]) hx hb dX0_law_100 hl (k := 7) rfl (mk_inc _) (by decide) rfl (fun ls hl => ?_)
                  refine lv_goto (tgt := 7) hx hb dX0_law_103 (by decide) ?_
                  exact L_1ih  (i + 1) x (by omega) (by first | (rw [itr_s, ← qx]; done) | (rw [itr_s, ← qx]; first | (simp [x_lawStep, em6, ec6, c_2, c_6, c_7, c_8, c_8', c_9, c_11, c_11', up_s, up_n, nI_1, b2i]; done) | (simp_all [x_lawStep]; done) | grind [x_lawStep])) (by omega) ls (lv_sub hl [2, 3, 4, 5, 6, 7, 0] rfl)
                · -- c_11: Rr 60 i ≥ Rr 60 x.toNatClampNeg
                  refine lv_iload hx hb dX0_law_96 (lv_at hl 7 rfl) ?_
                  refine lv_istore (lv' := [(5, .int (nI i)), (7, .ref (xea G 6 i)), (0, .ref h), (1, .int p1), (2, .int p2), (3, .int p3), (4, .int p4), (6, .int (nI i))]) hx hb dX0_law_98 hl (by decide) rfl (fun ls hl => ?_)
                  refine lv_iinc (v := nI (i + 1)) (lv' := [(6, .int (nI (i + 1))), (5, .int (nI i)), (7, .ref (xea G 6 i)), (0, .ref h), (1, .int p1), (2, .int p2), (3, .int p3), (4, .int p4)]) hx hb dX0_law_100 hl (k := 7) rfl (mk_inc _) (by decide) rfl (fun ls hl => ?_)
                  refine lv_goto (tgt := 7) hx hb dX0_law_103 (by decide) ?_
                  exact L_1ih  (i + 1) (nI i) (by omega) (by first | (rw [itr_s, ← qx]; done) | (rw [itr_s, ← qx]; first | (simp [x_lawStep, em6, ec6, c_2, c_6, c_7, c_8, c_8', c_9, c_11, c_11', up_s, up_n, nI_1, b2i]; done) | (simp_all [x_lawStep]; done) | grind [x_lawStep])) (by omega) ls (lv_sub hl [3, 4, 5, 6, 7, 1, 0] rfl)
  exact L_1 ((n6 - 0) + 1) 0 (-1000000) (Nat.zero_le _) (by first | rfl | (simp only [itr]; assumption) | (simp [itr, em6, ec6, up_s, up_n, nI_1, b2i]; done)) (Nat.lt_succ_self _) ls (lv_sub hl [2, 3, 4, 5, 6, 1, 0] rfl)

def x_holds (n : Int32) (Rr : Nat → Nat → Int32) (day what : Int32) : Int32 := if inB 0 999 day = false then (-1000001) else if what = 0 then x_law n Rr day 0 0 0 else if inB 10 17 what = true then x_law n Rr day 1 (what - 10) 0 else if inB 20 27 what = true then x_law n Rr day 2 (what - 20) 0 else if inB 30 37 what = true then x_law n Rr day 3 (what - 30) 1 else if inB 40 51 what = true then x_law n Rr day 4 (what - 40) 0 else (-1000001)
set_option maxHeartbeats 4000000 in
set_option maxRecDepth 100000 in
theorem metX0_holds (l : Launch) (D : va_G) (dA : Nat → ClassId) (A : Nat → Prop) (e0 h : Nat) (G : xG) (T : va_W) (F : Nat → Int32) (Rr : Nat → Nat → Int32) (p1 : Int32) (p2 : Int32) : Met l yX0_holds (ws_ yX0_holds cX0_holds 3 (some .int)) ({ frames := 4, cells := 0, slots := 0, locals := 91 } : Room) (va_Pc [.ref h, .int p1, .int p2] (xPre D dA A e0 h G T F Rr)) (vp_Si (fun r => r = x_holds (F 6) Rr p1 p2)) 0 0 (fun _ => False) := by
  refine Met.ofW (cc := cX0_holds) (maxL := 3) (ret := (some .int)) (by decide) rfl ?_
  intro p e s m args below meth c s₁ B hml hv
  obtain ⟨rfl, hC, hP, hD, hI⟩ := hv
  have hx := B.exec
  have hb := B.bytes
  have hr := B.returns
  have hts := atoms_spec (ws := (ws_ yX0_holds cX0_holds 3 (some .int))) B.pre
  have hts : ∀ w ∈ lw_all, w.before _ s = true := fun w h => hts w (List.mem_cons_of_mem _ h)
  have hown : s.vm.findClass RX0 = some m.cls := findClass_of_methodNamed B.named
  have hlocks := B.notSynchronized
  have S : CallFix p m c cX0_holds 3 s ([.ref h, .int p1, .int p2] : List Value).toArray lw_all RX0 := ⟨hx, hb, hml, hown, hts⟩
  have X : xX RX0 p s m ([.ref h, .int p1, .int p2] : List Value).toArray c cX0_holds 3 D dA A e0 := ⟨S, hC⟩
  have M : xM D dA A e0 h G T s F Rr s.heap [] := ⟨hP, hD, va_S.rf, hI⟩
  have hl := lv_entry ([.ref h, .int p1, .int p2]) (n := 3) (Nat.le_of_ble_eq_true rfl)
  rw [lg_entry_eq]
  generalize (lg_sl ([.ref h, .int p1, .int p2]) ++ List.replicate (3 - (lg_sl ([.ref h, .int p1, .int p2])).length) Slot.unset).toArray = ls at hl ⊢
  have hl : lv_has ls 3 [(0, .ref h), (1, .int p1), (2, .int p2)] := hl
  refine lv_iload_n hx hb dX0_holds_0 rfl (lv_at hl 1 rfl) ?_
  refine s_cI (v := b2i (inB 0 999 p1)) (As := [.int p1]) (rest := []) S (metX0_isDay l p1) (va_cwS 1 hts (lw_S q824 q825 q57 q826) rfl rfl rfl (by decide +kernel) ⟨Nat.le_of_ble_eq_true rfl, Nat.le_of_ble_eq_true rfl⟩) rfl hl.1 rfl (Nat.le_of_ble_eq_true rfl) dX0_holds_1 ⟨Nat.le_of_ble_eq_true rfl, Nat.le_of_ble_eq_true rfl⟩ ?_
  refine lz_if_ne (tgt := 10) hx hb dX0_holds_4 (by decide) (fun c_1 => ?_) (fun c_1 => ?_)
  · -- c_1: inB 0 999 p1 = true
    refine lv_iload_n hx hb dX0_holds_10 rfl (lv_at hl 2 rfl) ?_
    refine lv_if_ne (tgt := 23) hx hb dX0_holds_11 (by decide) (fun c_2 => ?_) (fun c_2 => ?_)
    · -- c_2: p2 ≠ 0
      refine lv_iload_n hx hb dX0_holds_23 rfl (lv_at hl 2 rfl) ?_
      refine lv_i2l (v := p2.toInt64) hx hb dX0_holds_24 rfl ?_
      refine lv_ldc2 (v := 10) hx hb hown (hts _ q831) dX0_holds_25 ?_
      refine lv_ldc2 (v := 17) hx hb hown (hts _ q832) dX0_holds_28 ?_
      refine s_cI (v := b2i (inB 10 17 p2)) (As := [.long p2.toInt64, .long 10, .long 17]) (rest := []) S (metX0_isInI l p2 10 17 p2.toInt64 10 17 rfl rfl rfl) (va_cwS 3 hts (lw_S q230 q231 q57 q232) rfl rfl rfl (by decide +kernel) ⟨Nat.le_of_ble_eq_true rfl, Nat.le_of_ble_eq_true rfl⟩) rfl hl.1 rfl (Nat.le_of_ble_eq_true rfl) dX0_holds_31 ⟨Nat.le_of_ble_eq_true rfl, Nat.le_of_ble_eq_true rfl⟩ ?_
      refine lz_if_eq (tgt := 49) hx hb dX0_holds_34 (by decide) (fun c_3 => ?_) (fun c_3 => ?_)
      · -- c_3: inB 10 17 p2 = false
        refine lv_iload_n hx hb dX0_holds_49 rfl (lv_at hl 2 rfl) ?_
        refine lv_i2l (v := p2.toInt64) hx hb dX0_holds_50 rfl ?_
        refine lv_ldc2 (v := 20) hx hb hown (hts _ q833) dX0_holds_51 ?_
        refine lv_ldc2 (v := 27) hx hb hown (hts _ q834) dX0_holds_54 ?_
        refine s_cI (v := b2i (inB 20 27 p2)) (As := [.long p2.toInt64, .long 20, .long 27]) (rest := []) S (metX0_isInI l p2 20 27 p2.toInt64 20 27 rfl rfl rfl) (va_cwS 3 hts (lw_S q230 q231 q57 q232) rfl rfl rfl (by decide +kernel) ⟨Nat.le_of_ble_eq_true rfl, Nat.le_of_ble_eq_true rfl⟩) rfl hl.1 rfl (Nat.le_of_ble_eq_true rfl) dX0_holds_57 ⟨Nat.le_of_ble_eq_true rfl, Nat.le_of_ble_eq_true rfl⟩ ?_
        refine lz_if_eq (tgt := 75) hx hb dX0_holds_60 (by decide) (fun c_4 => ?_) (fun c_4 => ?_)
        · -- c_4: inB 20 27 p2 = false
          refine lv_iload_n hx hb dX0_holds_75 rfl (lv_at hl 2 rfl) ?_
          refine lv_i2l (v := p2.toInt64) hx hb dX0_holds_76 rfl ?_
          refine lv_ldc2 (v := 30) hx hb hown (hts _ q835) dX0_holds_77 ?_
          refine lv_ldc2 (v := 37) hx hb hown (hts _ q836) dX0_holds_80 ?_
          refine s_cI (v := b2i (inB 30 37 p2)) (As := [.long p2.toInt64, .long 30, .long 37]) (rest := []) S (metX0_isInI l p2 30 37 p2.toInt64 30 37 rfl rfl rfl) (va_cwS 3 hts (lw_S q230 q231 q57 q232) rfl rfl rfl (by decide +kernel) ⟨Nat.le_of_ble_eq_true rfl, Nat.le_of_ble_eq_true rfl⟩) rfl hl.1 rfl (Nat.le_of_ble_eq_true rfl) dX0_holds_83 ⟨Nat.le_of_ble_eq_true rfl, Nat.le_of_ble_eq_true rfl⟩ ?_
          refine lz_if_eq (tgt := 101) hx hb dX0_holds_86 (by decide) (fun c_5 => ?_) (fun c_5 => ?_)
          · -- c_5: inB 30 37 p2 = false
            refine lv_iload_n hx hb dX0_holds_101 rfl (lv_at hl 2 rfl) ?_
            refine lv_i2l (v := p2.toInt64) hx hb dX0_holds_102 rfl ?_
            refine lv_ldc2 (v := 40) hx hb hown (hts _ q837) dX0_holds_103 ?_
            refine lv_ldc2 (v := 51) hx hb hown (hts _ q838) dX0_holds_106 ?_
            refine s_cI (v := b2i (inB 40 51 p2)) (As := [.long p2.toInt64, .long 40, .long 51]) (rest := []) S (metX0_isInI l p2 40 51 p2.toInt64 40 51 rfl rfl rfl) (va_cwS 3 hts (lw_S q230 q231 q57 q232) rfl rfl rfl (by decide +kernel) ⟨Nat.le_of_ble_eq_true rfl, Nat.le_of_ble_eq_true rfl⟩) rfl hl.1 rfl (Nat.le_of_ble_eq_true rfl) dX0_holds_109 ⟨Nat.le_of_ble_eq_true rfl, Nat.le_of_ble_eq_true rfl⟩ ?_
            refine lz_if_eq (tgt := 129) hx hb dX0_holds_112 (by decide) (fun c_6 => ?_) (fun c_6 => ?_)
            · -- c_6: inB 40 51 p2 = false
              refine lv_ldc (v := (-1000001)) hx hb hown (hts _ q234) dX0_holds_129 ?_
              exact W.iret (v := (-1000001)) hx hb hr (fun t9 ht9 hW9 => ⟨_, rfl, (by first | (simp [x_holds, c_1, c_2, c_3, c_4, c_5, c_6, up_s, up_n, nI_1, b2i]; done) | (simp_all [x_holds]; done) | grind [x_holds]), ht9⟩) (fun _ h9 => by cases h9) dX0_holds_131
            · -- c_6: inB 40 51 p2 = true
              refine lv_aload_n hx hb dX0_holds_115 rfl (lv_at hl 0 rfl) ?_
              refine lv_iload_n hx hb dX0_holds_116 rfl (lv_at hl 1 rfl) ?_
              refine lv_iconst (v := 4) hx hb dX0_holds_117 (by decide) ?_
              refine lv_iload_n hx hb dX0_holds_118 rfl (lv_at hl 2 rfl) ?_
              refine lv_bipush (v := 40) hx hb dX0_holds_119 (by decide) ?_
              refine lv_isub hx hb dX0_holds_121 ?_
              refine lv_iconst (v := 0) hx hb dX0_holds_122 (by decide) ?_
              refine x_cQ (v := x_law (F 6) Rr p1 4 (p2 - 40) 0) (As := [.int p1, .int 4, .int (p2 - 40), .int 0]) (rest := []) X M (metX0_law l D dA A e0 h G T F Rr p1 4 (p2 - 40) 0) (cwV 4 hts (lw_V q827 q829 qs13 q57 q830) rfl rfl rfl (by decide +kernel) ⟨Nat.le_of_ble_eq_true rfl, Nat.le_of_ble_eq_true rfl⟩) rfl hl.1 rfl (Nat.le_of_ble_eq_true rfl) dX0_holds_123 ⟨Nat.le_of_ble_eq_true rfl, Nat.le_of_ble_eq_true rfl⟩ ?_
              refine lv_goto (tgt := 131) hx hb dX0_holds_126 (by decide) ?_
              exact W.iret (v := x_law (F 6) Rr p1 4 (p2 - 40) 0) hx hb hr (fun t9 ht9 hW9 => ⟨_, rfl, (by first | (simp [x_holds, c_1, c_2, c_3, c_4, c_5, c_6, up_s, up_n, nI_1, b2i]; done) | (simp_all [x_holds]; done) | grind [x_holds]), ht9⟩) (fun _ h9 => by cases h9) dX0_holds_131
          · -- c_5: inB 30 37 p2 = true
            refine lv_aload_n hx hb dX0_holds_89 rfl (lv_at hl 0 rfl) ?_
            refine lv_iload_n hx hb dX0_holds_90 rfl (lv_at hl 1 rfl) ?_
            refine lv_iconst (v := 3) hx hb dX0_holds_91 (by decide) ?_
            refine lv_iload_n hx hb dX0_holds_92 rfl (lv_at hl 2 rfl) ?_
            refine lv_bipush (v := 30) hx hb dX0_holds_93 (by decide) ?_
            refine lv_isub hx hb dX0_holds_95 ?_
            refine lv_iconst (v := 1) hx hb dX0_holds_96 (by decide) ?_
            refine x_cQ (v := x_law (F 6) Rr p1 3 (p2 - 30) 1) (As := [.int p1, .int 3, .int (p2 - 30), .int 1]) (rest := []) X M (metX0_law l D dA A e0 h G T F Rr p1 3 (p2 - 30) 1) (cwV 4 hts (lw_V q827 q829 qs13 q57 q830) rfl rfl rfl (by decide +kernel) ⟨Nat.le_of_ble_eq_true rfl, Nat.le_of_ble_eq_true rfl⟩) rfl hl.1 rfl (Nat.le_of_ble_eq_true rfl) dX0_holds_97 ⟨Nat.le_of_ble_eq_true rfl, Nat.le_of_ble_eq_true rfl⟩ ?_
            exact W.iret (v := x_law (F 6) Rr p1 3 (p2 - 30) 1) hx hb hr (fun t9 ht9 hW9 => ⟨_, rfl, (by first | (simp [x_holds, c_1, c_2, c_3, c_4, c_5, up_s, up_n, nI_1, b2i]; done) | (simp_all [x_holds]; done) | grind [x_holds]), ht9⟩) (fun _ h9 => by cases h9) dX0_holds_100
        · -- c_4: inB 20 27 p2 = true
          refine lv_aload_n hx hb dX0_holds_63 rfl (lv_at hl 0 rfl) ?_
          refine lv_iload_n hx hb dX0_holds_64 rfl (lv_at hl 1 rfl) ?_
          refine lv_iconst (v := 2) hx hb dX0_holds_65 (by decide) ?_
          refine lv_iload_n hx hb dX0_holds_66 rfl (lv_at hl 2 rfl) ?_
          refine lv_bipush (v := 20) hx hb dX0_holds_67 (by decide) ?_
          refine lv_isub hx hb dX0_holds_69 ?_
          refine lv_iconst (v := 0) hx hb dX0_holds_70 (by decide) ?_
          refine x_cQ (v := x_law (F 6) Rr p1 2 (p2 - 20) 0) (As := [.int p1, .int 2, .int (p2 - 20), .int 0]) (rest := []) X M (metX0_law l D dA A e0 h G T F Rr p1 2 (p2 - 20) 0) (cwV 4 hts (lw_V q827 q829 qs13 q57 q830) rfl rfl rfl (by decide +kernel) ⟨Nat.le_of_ble_eq_true rfl, Nat.le_of_ble_eq_true rfl⟩) rfl hl.1 rfl (Nat.le_of_ble_eq_true rfl) dX0_holds_71 ⟨Nat.le_of_ble_eq_true rfl, Nat.le_of_ble_eq_true rfl⟩ ?_
          exact W.iret (v := x_law (F 6) Rr p1 2 (p2 - 20) 0) hx hb hr (fun t9 ht9 hW9 => ⟨_, rfl, (by first | (simp [x_holds, c_1, c_2, c_3, c_4, up_s, up_n, nI_1, b2i]; done) | (simp_all [x_holds]; done) | grind [x_holds]), ht9⟩) (fun _ h9 => by cases h9) dX0_holds_74
      · -- c_3: inB 10 17 p2 = true
        refine lv_aload_n hx hb dX0_holds_37 rfl (lv_at hl 0 rfl) ?_
        refine lv_iload_n hx hb dX0_holds_38 rfl (lv_at hl 1 rfl) ?_
        refine lv_iconst (v := 1) hx hb dX0_holds_39 (by decide) ?_
        refine lv_iload_n hx hb dX0_holds_40 rfl (lv_at hl 2 rfl) ?_
        refine lv_bipush (v := 10) hx hb dX0_holds_41 (by decide) ?_
        refine lv_isub hx hb dX0_holds_43 ?_
        refine lv_iconst (v := 0) hx hb dX0_holds_44 (by decide) ?_
        refine x_cQ (v := x_law (F 6) Rr p1 1 (p2 - 10) 0) (As := [.int p1, .int 1, .int (p2 - 10), .int 0]) (rest := []) X M (metX0_law l D dA A e0 h G T F Rr p1 1 (p2 - 10) 0) (cwV 4 hts (lw_V q827 q829 qs13 q57 q830) rfl rfl rfl (by decide +kernel) ⟨Nat.le_of_ble_eq_true rfl, Nat.le_of_ble_eq_true rfl⟩) rfl hl.1 rfl (Nat.le_of_ble_eq_true rfl) dX0_holds_45 ⟨Nat.le_of_ble_eq_true rfl, Nat.le_of_ble_eq_true rfl⟩ ?_
        exact W.iret (v := x_law (F 6) Rr p1 1 (p2 - 10) 0) hx hb hr (fun t9 ht9 hW9 => ⟨_, rfl, (by first | (simp [x_holds, c_1, c_2, c_3, up_s, up_n, nI_1, b2i]; done) | (simp_all [x_holds]; done) | grind [x_holds]), ht9⟩) (fun _ h9 => by cases h9) dX0_holds_48
    · -- c_2: p2 = 0
      refine lv_aload_n hx hb dX0_holds_14 rfl (lv_at hl 0 rfl) ?_
      refine lv_iload_n hx hb dX0_holds_15 rfl (lv_at hl 1 rfl) ?_
      refine lv_iconst (v := 0) hx hb dX0_holds_16 (by decide) ?_
      refine lv_iconst (v := 0) hx hb dX0_holds_17 (by decide) ?_
      refine lv_iconst (v := 0) hx hb dX0_holds_18 (by decide) ?_
      refine x_cQ (v := x_law (F 6) Rr p1 0 0 0) (As := [.int p1, .int 0, .int 0, .int 0]) (rest := []) X M (metX0_law l D dA A e0 h G T F Rr p1 0 0 0) (cwV 4 hts (lw_V q827 q829 qs13 q57 q830) rfl rfl rfl (by decide +kernel) ⟨Nat.le_of_ble_eq_true rfl, Nat.le_of_ble_eq_true rfl⟩) rfl hl.1 rfl (Nat.le_of_ble_eq_true rfl) dX0_holds_19 ⟨Nat.le_of_ble_eq_true rfl, Nat.le_of_ble_eq_true rfl⟩ ?_
      exact W.iret (v := x_law (F 6) Rr p1 0 0 0) hx hb hr (fun t9 ht9 hW9 => ⟨_, rfl, (by first | (simp [x_holds, c_1, c_2, up_s, up_n, nI_1, b2i]; done) | (simp_all [x_holds]; done) | grind [x_holds]), ht9⟩) (fun _ h9 => by cases h9) dX0_holds_22
  · -- c_1: inB 0 999 p1 = false
    refine lv_ldc (v := (-1000001)) hx hb hown (hts _ q234) dX0_holds_7 ?_
    exact W.iret (v := (-1000001)) hx hb hr (fun t9 ht9 hW9 => ⟨_, rfl, (by first | (simp [x_holds, c_1, up_s, up_n, nI_1, b2i]; done) | (simp_all [x_holds]; done) | grind [x_holds]), ht9⟩) (fun _ h9 => by cases h9) dX0_holds_9

def x_owedStep (n : Int32) (Rr : Nat → Nat → Int32) (c : Nat) (day : Int32) (w : Nat) (sum : Int32) : Int32 := sum + (if Rr 100 (9 * c + (w + 1)) ≤ x_law n Rr day 2 (nI w) 0 then 0 else Rr 100 (9 * c + (w + 1)) * x_law n Rr day 1 (nI w) 0)
def x_owedBy (n : Int32) (Rr : Nat → Nat → Int32) (c g : Nat) (day : Int32) : Int32 := itr (x_owedStep n Rr c day) 8 (Rr 100 (9 * c + 0) * x_law n Rr day 0 0 0) * Rr 3 g / 100
set_option maxHeartbeats 4000000 in
set_option maxRecDepth 100000 in
theorem metX0_owedBy (l : Launch) (D : va_G) (dA : Nat → ClassId) (A : Nat → Prop) (e0 h : Nat) (G : xG) (T : va_W) (F : Nat → Int32) (Rr : Nat → Nat → Int32) (c1 : Nat) (g1 : Nat) (p3 : Int32) (hc1 : c1 < (F 10).toNatClampNeg) (hg1 : g1 < 9) : Met l yX0_owedBy (ws_ yX0_owedBy cX0_owedBy 7 (some .int)) ({ frames := 4, cells := 0, slots := 0, locals := 91 } : Room) (va_Pc [.ref h, .int (nI c1), .int (nI g1), .int p3] (xPre D dA A e0 h G T F Rr)) (vp_Si (fun r => r = x_owedBy (F 6) Rr c1 g1 p3)) 0 0 (fun _ => False) := by
  refine Met.ofW (cc := cX0_owedBy) (maxL := 7) (ret := (some .int)) (by decide) rfl ?_
  intro p e s m args below meth c s₁ B hml hv
  obtain ⟨rfl, hC, hP, hD, hI⟩ := hv
  have hx := B.exec
  have hb := B.bytes
  have hr := B.returns
  have hts := atoms_spec (ws := (ws_ yX0_owedBy cX0_owedBy 7 (some .int))) B.pre
  have hts : ∀ w ∈ lw_all, w.before _ s = true := fun w h => hts w (List.mem_cons_of_mem _ h)
  have hown : s.vm.findClass RX0 = some m.cls := findClass_of_methodNamed B.named
  have hlocks := B.notSynchronized
  have S : CallFix p m c cX0_owedBy 7 s ([.ref h, .int (nI c1), .int (nI g1), .int p3] : List Value).toArray lw_all RX0 := ⟨hx, hb, hml, hown, hts⟩
  have X : xX RX0 p s m ([.ref h, .int (nI c1), .int (nI g1), .int p3] : List Value).toArray c cX0_owedBy 7 D dA A e0 := ⟨S, hC⟩
  have M : xM D dA A e0 h G T s F Rr s.heap [] := ⟨hP, hD, va_S.rf, hI⟩
  have hl := lv_entry ([.ref h, .int (nI c1), .int (nI g1), .int p3]) (n := 7) (Nat.le_of_ble_eq_true rfl)
  rw [lg_entry_eq]
  generalize (lg_sl ([.ref h, .int (nI c1), .int (nI g1), .int p3]) ++ List.replicate (7 - (lg_sl ([.ref h, .int (nI c1), .int (nI g1), .int p3])).length) Slot.unset).toArray = ls at hl ⊢
  have hl : lv_has ls 7 [(0, .ref h), (1, .int (nI c1)), (2, .int (nI g1)), (3, .int p3)] := hl
  have h10 : cnB (F 10) 16 := hI.2.1.1
  obtain ⟨n10, hn10, en10⟩ := cnB_ex h10 (n := 16) rfl
  have em10 : (F 10).toNatClampNeg = n10 := by rw [en10]; exact nI_clamp (by omega)
  have ec10 : (nI n10).toNatClampNeg = n10 := nI_clamp (by omega)
  refine lv_aload_n hx hb dX0_owedBy_0 rfl (lv_at hl 0 rfl) ?_
  refine xg_10 X M dX0_owedBy_1 ?_
  refine lv_iload_n hx hb dX0_owedBy_4 rfl (lv_at hl 1 rfl) ?_
  have k_1 : c1 < (F 10).toNatClampNeg := (by omega)
  refine xl_get_10 X M (k := c1) rfl k_1 hl.1 ⟨Nat.le_of_ble_eq_true rfl, Nat.le_of_ble_eq_true rfl⟩ ⟨Nat.le_of_ble_eq_true rfl, Nat.le_of_ble_eq_true rfl⟩ (Nat.le_of_ble_eq_true rfl) dX0_owedBy_5 ?_
  refine xk_10 X M (k := c1) k_1 dX0_owedBy_10 ?_
  refine lv_astore (lv' := [(4, .ref (xea G 10 c1)), (0, .ref h), (1, .int (nI c1)), (2, .int (nI g1)), (3, .int p3)]) hx hb dX0_owedBy_13 hl (by decide) rfl (fun ls hl => ?_)
  refine lv_aload hx hb dX0_owedBy_15 (lv_at hl 0 rfl) ?_
  refine lv_iconst (v := 0) hx hb dX0_owedBy_17 (by decide) ?_
  refine xc_get X M (k := c1) k_1 (i := 0) (by omega) dX0_owedBy_18 ?_
  refine lv_aload_n hx hb dX0_owedBy_19 rfl (lv_at hl 1 rfl) ?_
  refine lv_iload_n hx hb dX0_owedBy_20 rfl (lv_at hl 4 rfl) ?_
  refine lv_iconst (v := 0) hx hb dX0_owedBy_21 (by decide) ?_
  refine lv_iconst (v := 0) hx hb dX0_owedBy_22 (by decide) ?_
  refine lv_iconst (v := 0) hx hb dX0_owedBy_23 (by decide) ?_
  refine x_cQ (v := x_law (F 6) Rr p3 0 0 0) (As := [.int p3, .int 0, .int 0, .int 0]) (rest := [.int (Rr 100 (9 * c1 + 0))]) X M (metX0_law l D dA A e0 h G T F Rr p3 0 0 0) (cwV 4 hts (lw_V q827 q829 qs13 q57 q830) rfl rfl rfl (by decide +kernel) ⟨Nat.le_of_ble_eq_true rfl, Nat.le_of_ble_eq_true rfl⟩) rfl hl.1 rfl (Nat.le_of_ble_eq_true rfl) dX0_owedBy_24 ⟨Nat.le_of_ble_eq_true rfl, Nat.le_of_ble_eq_true rfl⟩ ?_
  refine lv_imul hx hb dX0_owedBy_27 ?_
  refine lv_istore (lv' := [(5, .int ((Rr 100 (9 * c1 + 0)) * (x_law (F 6) Rr p3 0 0 0))), (4, .ref (xea G 10 c1)), (0, .ref h), (1, .int (nI c1)), (2, .int (nI g1)), (3, .int p3)]) hx hb dX0_owedBy_28 hl (by decide) rfl (fun ls hl => ?_)
  refine lv_iconst (v := 0) hx hb dX0_owedBy_30 (by decide) ?_
  refine lv_istore (lv' := [(6, .int 0), (5, .int ((Rr 100 (9 * c1 + 0)) * (x_law (F 6) Rr p3 0 0 0))), (4, .ref (xea G 10 c1)), (0, .ref h), (1, .int (nI c1)), (2, .int (nI g1)), (3, .int p3)]) hx hb dX0_owedBy_31 hl (by decide) rfl (fun ls hl => ?_)
  have L_2 : ∀ (fuL_2 : Nat) (i : Nat) (x : Int32), (i ≤ 8) → (x = itr (x_owedStep (F 6) Rr c1 p3) i (Rr 100 (9 * c1 + 0) * x_law (F 6) Rr p3 0 0 0)) → 8 - i < fuL_2 → ∀ ls, lv_has ls 7 [(0, .ref h), (1, .int (nI c1)), (2, .int (nI g1)), (3, .int p3), (4, .ref (xea G 10 c1)), (5, .int x), (6, .int (nI i))] → W p l e ({ frames := 4, cells := 0, slots := 0, locals := 91 } : Room) s m ([.ref h, .int (nI c1), .int (nI g1), .int p3] : List Value).toArray below meth c s.heap [] 0 0 (MQ below (vp_Si (fun r => r = x_owedBy (F 6) Rr c1 g1 p3)) ([.ref h, .int (nI c1), .int (nI g1), .int p3] : List Value).toArray s 0 0 (fun _ => False)) (F0 m 33 ls []) := by
    intro fuL_2
    induction fuL_2 with
    | zero => intro i x hi qx hfuL_2; exact absurd hfuL_2 (Nat.not_lt_zero _)
    | succ fuL_2 L_2ih =>
      intro i x hi qx hfuL_2 ls hl
      refine lv_iload hx hb dX0_owedBy_33 (lv_at hl 6 rfl) ?_
      refine lv_bipush (v := 8) hx hb dX0_owedBy_35 (by decide) ?_
      refine ln_icmp_ge (tgt := 91) hx hb (a := i) (b := 8) (by omega) (by omega) dX0_owedBy_37 (by decide) (fun c_3 => ?_) (fun c_3 => ?_)
      · -- c_3: nI i ≥ 8
        have ei : i = 8 := by omega
        rw [ei] at qx
        refine lv_iload hx hb dX0_owedBy_91 (lv_at hl 5 rfl) ?_
        refine lv_aload_n hx hb dX0_owedBy_93 rfl (lv_at hl 0 rfl) ?_
        refine xg_3 X M dX0_owedBy_94 ?_
        refine lv_iload_n hx hb dX0_owedBy_97 rfl (lv_at hl 2 rfl) ?_
        refine xr_3 X M (f := Rr 3) rfl (j := g1) (vp_in_nI (by omega) (by omega)) (nI_clamp (by omega)) dX0_owedBy_98 ?_
        refine lv_imul hx hb dX0_owedBy_99 ?_
        refine lv_bipush (v := 100) hx hb dX0_owedBy_100 (by decide) ?_
        refine lv_idiv hx hb dX0_owedBy_102 (by decide) ?_
        exact W.iret (v := (x * (Rr 3 g1)) / 100) hx hb hr (fun t9 ht9 hW9 => ⟨_, rfl, (by unfold x_owedBy; rw [qx]), ht9⟩) (fun _ h9 => by cases h9) dX0_owedBy_103
      · -- c_3: nI i < 8
        refine lv_iload hx hb dX0_owedBy_40 (lv_at hl 5 rfl) ?_
        refine lv_aload hx hb dX0_owedBy_42 (lv_at hl 4 rfl) ?_
        refine lv_iload hx hb dX0_owedBy_44 (lv_at hl 6 rfl) ?_
        refine lv_iconst (v := 1) hx hb dX0_owedBy_46 (by decide) ?_
        refine lv_iadd hx hb dX0_owedBy_47 ?_
        refine lv_asi (y := nI (i + 1)) (nI_add i 1) ?_
        refine xc_get X M (k := c1) k_1 (i := (i + 1)) (by omega) dX0_owedBy_48 ?_
        refine lv_aload_n hx hb dX0_owedBy_49 rfl (lv_at hl 0 rfl) ?_
        refine lv_iload_n hx hb dX0_owedBy_50 rfl (lv_at hl 3 rfl) ?_
        refine lv_iconst (v := 2) hx hb dX0_owedBy_51 (by decide) ?_
        refine lv_iload hx hb dX0_owedBy_52 (lv_at hl 6 rfl) ?_
        refine lv_iconst (v := 0) hx hb dX0_owedBy_54 (by decide) ?_
        refine x_cQ (v := x_law (F 6) Rr p3 2 (nI i) 0) (As := [.int p3, .int 2, .int (nI i), .int 0]) (rest := [.int (Rr 100 (9 * c1 + (i + 1))), .int x]) X M (metX0_law l D dA A e0 h G T F Rr p3 2 (nI i) 0) (cwV 4 hts (lw_V q827 q829 qs13 q57 q830) rfl rfl rfl (by decide +kernel) ⟨Nat.le_of_ble_eq_true rfl, Nat.le_of_ble_eq_true rfl⟩) rfl hl.1 rfl (Nat.le_of_ble_eq_true rfl) dX0_owedBy_55 ⟨Nat.le_of_ble_eq_true rfl, Nat.le_of_ble_eq_true rfl⟩ ?_
        refine lb_icmp_le (tgt := 81) hx hb dX0_owedBy_58 (by decide) (fun c_4 c_4' => ?_) (fun c_4 c_4' => ?_)
        · -- c_4: Rr 100 (9 * c1 + (i + 1)) ≤ x_law (F 6) Rr p3 2 (nI i) 0
          refine lv_iconst (v := 0) hx hb dX0_owedBy_81 (by decide) ?_
          refine lv_iadd hx hb dX0_owedBy_82 ?_
          refine lv_istore (lv' := [(5, .int (x + 0)), (0, .ref h), (1, .int (nI c1)), (2, .int (nI g1)), (3, .int p3), (4, .ref (xea G 10 c1)), (6, .int (nI i))]) hx hb dX0_owedBy_83 hl (by decide) rfl (fun ls hl => ?_)
          refine lv_iinc (v := nI (i + 1)) (lv' := [(6, .int (nI (i + 1))), (5, .int (x + 0)), (0, .ref h), (1, .int (nI c1)), (2, .int (nI g1)), (3, .int p3), (4, .ref (xea G 10 c1))]) hx hb dX0_owedBy_85 hl (k := 6) rfl (mk_inc _) (by decide) rfl (fun ls hl => ?_)
          refine lv_goto (tgt := 33) hx hb dX0_owedBy_88 (by decide) ?_
          exact L_2ih  (i + 1) (x + 0) (by omega) (by first | (rw [itr_s, ← qx]; done) | (rw [itr_s, ← qx]; first | (simp [x_owedStep, em10, ec10, c_3, c_4, c_4', up_s, up_n, nI_1, b2i]; done) | (simp_all [x_owedStep]; done) | grind [x_owedStep])) (by omega) ls (lv_sub hl [2, 3, 4, 5, 6, 1, 0] rfl)
        · -- c_4: Rr 100 (9 * c1 + (i + 1)) > x_law (F 6) Rr p3 2 (nI i) 0
          refine lv_aload hx hb dX0_owedBy_61 (lv_at hl 4 rfl) ?_
          refine lv_iload hx hb dX0_owedBy_63 (lv_at hl 6 rfl) ?_
          refine lv_iconst (v := 1) hx hb dX0_owedBy_65 (by decide) ?_
          refine lv_iadd hx hb dX0_owedBy_66 ?_
          refine lv_asi (y := nI (i + 1)) (nI_add i 1) ?_
          refine xc_get X M (k := c1) k_1 (i := (i + 1)) (by omega) dX0_owedBy_67 ?_
          refine lv_aload_n hx hb dX0_owedBy_68 rfl (lv_at hl 0 rfl) ?_
          refine lv_iload_n hx hb dX0_owedBy_69 rfl (lv_at hl 3 rfl) ?_
          refine lv_iconst (v := 1) hx hb dX0_owedBy_70 (by decide) ?_
          refine lv_iload hx hb dX0_owedBy_71 (lv_at hl 6 rfl) ?_
          refine lv_iconst (v := 0) hx hb dX0_owedBy_73 (by decide) ?_
          refine x_cQ (v := x_law (F 6) Rr p3 1 (nI i) 0) (As := [.int p3, .int 1, .int (nI i), .int 0]) (rest := [.int (Rr 100 (9 * c1 + (i + 1))), .int x]) X M (metX0_law l D dA A e0 h G T F Rr p3 1 (nI i) 0) (cwV 4 hts (lw_V q827 q829 qs13 q57 q830) rfl rfl rfl (by decide +kernel) ⟨Nat.le_of_ble_eq_true rfl, Nat.le_of_ble_eq_true rfl⟩) rfl hl.1 rfl (Nat.le_of_ble_eq_true rfl) dX0_owedBy_74 ⟨Nat.le_of_ble_eq_true rfl, Nat.le_of_ble_eq_true rfl⟩ ?_
          refine lv_imul hx hb dX0_owedBy_77 ?_
          refine lv_goto (tgt := 82) hx hb dX0_owedBy_78 (by decide) ?_
          refine lv_iadd hx hb dX0_owedBy_82 ?_
          refine lv_istore (lv' := [(5, .int (x + ((Rr 100 (9 * c1 + (i + 1))) * (x_law (F 6) Rr p3 1 (nI i) 0)))), (0, .ref h), (1, .int (nI c1)), (2, .int (nI g1)), (3, .int p3), (4, .ref (xea G 10 c1)), (6, .int (nI i))]) hx hb dX0_owedBy_83 hl (by decide) rfl (fun ls hl => ?_)
          refine lv_iinc (v := nI (i + 1)) (lv' := [(6, .int (nI (i + 1))), (5, .int (x + ((Rr 100 (9 * c1 + (i + 1))) * (x_law (F 6) Rr p3 1 (nI i) 0)))), (0, .ref h), (1, .int (nI c1)), (2, .int (nI g1)), (3, .int p3), (4, .ref (xea G 10 c1))]) hx hb dX0_owedBy_85 hl (k := 6) rfl (mk_inc _) (by decide) rfl (fun ls hl => ?_)
          refine lv_goto (tgt := 33) hx hb dX0_owedBy_88 (by decide) ?_
          exact L_2ih  (i + 1) (x + ((Rr 100 (9 * c1 + (i + 1))) * (x_law (F 6) Rr p3 1 (nI i) 0))) (by omega) (by first | (rw [itr_s, ← qx]; done) | (rw [itr_s, ← qx]; first | (simp [x_owedStep, em10, ec10, c_3, c_4, c_4', up_s, up_n, nI_1, b2i]; done) | (simp_all [x_owedStep]; done) | grind [x_owedStep])) (by omega) ls (lv_sub hl [2, 3, 4, 5, 6, 1, 0] rfl)
  exact L_2 ((8 - 0) + 1) 0 ((Rr 100 (9 * c1 + 0)) * (x_law (F 6) Rr p3 0 0 0)) (Nat.zero_le _) (by first | rfl | (simp only [itr]; assumption) | (simp [itr, em10, ec10, up_s, up_n, nI_1, b2i]; done)) (Nat.lt_succ_self _) ls (lv_sub hl [3, 4, 5, 6, 2, 1, 0] rfl)

