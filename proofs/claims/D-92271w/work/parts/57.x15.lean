/-! THE SYSTEM, 13: the trail, the passes -/
def x_beg (b : Int32) (u : Nat × (Nat → Int32)) : Nat × (Nat → Int32) := if u.1 < 16 then (u.1 + 1, upd u.2 u.1 b) else u
theorem x_beg_le {b : Int32} {u : Nat × (Nat → Int32)} (h : u.1 ≤ 16) : (x_beg b u).1 ≤ 16 := by
  unfold x_beg; split
  · show u.1 + 1 ≤ 16; omega
  · exact h
set_option maxHeartbeats 4000000 in
set_option maxRecDepth 100000 in
theorem metX1_begins (l : Launch) (D : va_G) (dA : Nat → ClassId) (A : Nat → Prop) (e0 : Nat) (t : Nat) (bd : Nat) (n : Nat) (f : Nat → Int32) (hn : n ≤ 16) (b : Int32) : Met l yX1_begins (ws_ yX1_begins cX1_begins 2 none) ({ frames := 0, cells := 0, slots := 0, locals := 0 } : Room) (va_Pc [.ref t, .int b] (fun U => xC D dA A e0 U ∧ va_P D xCl [(t, .inr (3, [.ref bd, .int (nI n)])), (bd, .inl (dA 0, 16, .inl f))] U.heap ∧ va_D A [(t, .inr (3, [.ref bd, .int (nI n)])), (bd, .inl (dA 0, 16, .inl f))])) (va_Qv (fun u => u = x_beg b (n, f)) (fun u t9 => va_P D xCl [(t, .inr (3, [.ref bd, .int (nI u.1)])), (bd, .inl (dA 0, 16, .inl u.2))] t9.heap ∧ va_D A [(t, .inr (3, [.ref bd, .int (nI u.1)])), (bd, .inl (dA 0, 16, .inl u.2))]) A) 0 0 A := by
  refine Met.ofW (cc := cX1_begins) (maxL := 2) (ret := none) (by decide) rfl ?_
  intro p e s m args below meth c s₁ B hml hv
  obtain ⟨rfl, hC, hP, hD⟩ := hv
  have hx := B.exec
  have hb := B.bytes
  have hr := B.returns
  have hts := atoms_spec (ws := (ws_ yX1_begins cX1_begins 2 none)) B.pre
  have hts : ∀ w ∈ lw_all, w.before _ s = true := fun w h => hts w (List.mem_cons_of_mem _ h)
  have hown : s.vm.findClass RX1 = some m.cls := findClass_of_methodNamed B.named
  have hlocks := B.notSynchronized
  have S : CallFix p m c cX1_begins 2 s ([.ref t, .int b] : List Value).toArray lw_all RX1 := ⟨hx, hb, hml, hown, hts⟩
  have X : xX RX1 p s m ([.ref t, .int b] : List Value).toArray c cX1_begins 2 D dA A e0 := ⟨S, hC⟩
  have M : gM D A s [(t, .inr (3, [.ref bd, .int (nI n)])), (bd, .inl (dA 0, 16, .inl f))] s.heap [] := ⟨hP, hD, va_S.rf⟩
  have hl := lv_entry ([.ref t, .int b]) (n := 2) (Nat.le_of_ble_eq_true rfl)
  rw [lg_entry_eq]
  generalize (lg_sl ([.ref t, .int b]) ++ List.replicate (2 - (lg_sl ([.ref t, .int b])).length) Slot.unset).toArray = ls at hl ⊢
  have hl : lv_has ls 2 [(0, .ref t), (1, .int b)] := hl
  refine lv_aload_n hx hb dX1_begins_0 rfl (lv_at hl 0 rfl) ?_
  refine va_get (cl := xCl) (ci := 3) (fs := [.ref bd, .int (nI n)]) X.hx X.hb X.hts in_X1 X.ow X.K M.1 0 rfl rfl 1 (by decide) (X.hts _ q139) (fun _ h9 => h9) rfl dX1_begins_1 ?_
  refine lv_bipush (v := 16) hx hb dX1_begins_4 (by decide) ?_
  refine ln_icmp_ge (tgt := 26) hx hb (a := n) (b := 16) (by omega) (by omega) dX1_begins_6 (by decide) (fun c_1 => ?_) (fun c_1 => ?_)
  · -- c_1: nI n ≥ 16
    exact W.vret hx hb hr (fun t9 ht9 hW9 => ⟨⟨(n, f), rfl, (by simp [x_beg, c_1]), by rw [ht9]; exact M.1, M.2.1⟩, M.2.2.F ht9⟩) M.2.2.2.2 dX1_begins_26
  · -- c_1: nI n < 16
    refine lv_aload_n hx hb dX1_begins_9 rfl (lv_at hl 0 rfl) ?_
    refine va_get (cl := xCl) (ci := 3) (fs := [.ref bd, .int (nI n)]) X.hx X.hb X.hts in_X1 X.ow X.K M.1 0 rfl rfl 0 (by decide) (X.hts _ q137) (fun _ h9 => h9) rfl dX1_begins_10 ?_
    refine lv_aload_n hx hb dX1_begins_13 rfl (lv_at hl 0 rfl) ?_
    refine lv_dup hx hb dX1_begins_14 rfl ?_
    refine va_get (cl := xCl) (ci := 3) (fs := [.ref bd, .int (nI n)]) X.hx X.hb X.hts in_X1 X.ow X.K M.1 0 rfl rfl 1 (by decide) (X.hts _ q139) (fun _ h9 => h9) rfl dX1_begins_15 ?_
    refine lv_dup_x1 hx hb dX1_begins_18 rfl rfl ?_
    refine lv_iconst (v := 1) hx hb dX1_begins_19 (by decide) ?_
    refine lv_iadd hx hb dX1_begins_20 ?_
    refine lv_asi (y := nI (n + 1)) (nI_add n 1) ?_
    refine va_put (cl := xCl) (D := D) (ci := 3) (fs := [.ref bd, .int (nI n)]) (v := .int (nI (n + 1))) (ty := .int) X.hx X.hb X.hts in_X1 tyX1 tyX1_ok nmX1 X.ow X.K M.1 M.2.1 M.2.2 0 rfl rfl 1 (by decide) (X.hts _ q139) (fun _ h9 => h9) rfl (by decide +kernel) rfl rfl (Nat.le_of_ble_eq_true rfl) dX1_begins_21 (fun H locs hP hD hS => ?_)
    have M : gM D A s [(t, .inr (3, [.ref bd, .int (nI (n + 1))])), (bd, .inl (dA 0, 16, .inl f))] H locs := ⟨hP, hD, hS⟩
    refine lv_iload_n hx hb dX1_begins_24 rfl (lv_at hl 1 rfl) ?_
    refine g_iast (n := 16) (f := f) (j := n) X M.1 M.2.1 M.2.2 1 0 rfl rfl (vp_in_nI (by omega) (by omega)) (nI_clamp (by omega)) dX1_begins_25 (fun H locs hP hD hS => ?_)
    have M : gM D A s [(t, .inr (3, [.ref bd, .int (nI (n + 1))])), (bd, .inl (dA 0, 16, .inl (upd f n b)))] H locs := ⟨hP, hD, hS⟩
    exact W.vret hx hb hr (fun t9 ht9 hW9 => ⟨⟨(n + 1, upd f n b), rfl, (by simp [x_beg, c_1]), by rw [ht9]; exact M.1, M.2.1⟩, M.2.2.F ht9⟩) M.2.2.2.2 dX1_begins_26

set_option maxHeartbeats 4000000 in
set_option maxRecDepth 100000 in
theorem metX10_size_X10 (l : Launch) (D : va_G) (dA : Nat → ClassId) (A : Nat → Prop) (e0 : Nat) (a : Nat) (v0 : Int32) (v1 : Int32) (v2 : Int32) (v3 : Int32) (v4 : Int32) (v5 : Int32) (t : Nat) (bd : Nat) (n : Nat) (f : Nat → Int32) (hn : n ≤ 16) : Met l yX10_size (ws_ yX10_size cX10_size 2 (some .int)) ({ frames := 1, cells := 0, slots := 0, locals := 21 } : Room) (va_Pc [.ref a, .ref t] (fun U => xC D dA A e0 U ∧ va_P D xCl [(a, .inr (8, [.int v0, .int v1, .int v2, .int v3, .int v4, .int v5])), (t, .inr (3, [.ref bd, .int (nI n)])), (bd, .inl (dA 0, 16, .inl f))] U.heap ∧ va_D A [(a, .inr (8, [.int v0, .int v1, .int v2, .int v3, .int v4, .int v5])), (t, .inr (3, [.ref bd, .int (nI n)])), (bd, .inl (dA 0, 16, .inl f))])) (va_Qi (fun r u => r = v5 - v4 ∧ u = x_beg 10 (n, f)) (fun u t9 => va_P D xCl [(a, .inr (8, [.int v0, .int v1, .int v2, .int v3, .int v4, .int v5])), (t, .inr (3, [.ref bd, .int (nI u.1)])), (bd, .inl (dA 0, 16, .inl u.2))] t9.heap ∧ va_D A [(a, .inr (8, [.int v0, .int v1, .int v2, .int v3, .int v4, .int v5])), (t, .inr (3, [.ref bd, .int (nI u.1)])), (bd, .inl (dA 0, 16, .inl u.2))]) A) 0 0 A := by
  refine Met.ofW (cc := cX10_size) (maxL := 2) (ret := (some .int)) (by decide) rfl ?_
  intro p e s m args below meth c s₁ B hml hv
  obtain ⟨rfl, hC, hP, hD⟩ := hv
  have hx := B.exec
  have hb := B.bytes
  have hr := B.returns
  have hts := atoms_spec (ws := (ws_ yX10_size cX10_size 2 (some .int))) B.pre
  have hts : ∀ w ∈ lw_all, w.before _ s = true := fun w h => hts w (List.mem_cons_of_mem _ h)
  have hown : s.vm.findClass RX10 = some m.cls := findClass_of_methodNamed B.named
  have hlocks := B.notSynchronized
  have S : CallFix p m c cX10_size 2 s ([.ref a, .ref t] : List Value).toArray lw_all RX10 := ⟨hx, hb, hml, hown, hts⟩
  have X : xX RX10 p s m ([.ref a, .ref t] : List Value).toArray c cX10_size 2 D dA A e0 := ⟨S, hC⟩
  have M : gM D A s [(a, .inr (8, [.int v0, .int v1, .int v2, .int v3, .int v4, .int v5])), (t, .inr (3, [.ref bd, .int (nI n)])), (bd, .inl (dA 0, 16, .inl f))] s.heap [] := ⟨hP, hD, va_S.rf⟩
  have hl := lv_entry ([.ref a, .ref t]) (n := 2) (Nat.le_of_ble_eq_true rfl)
  rw [lg_entry_eq]
  generalize (lg_sl ([.ref a, .ref t]) ++ List.replicate (2 - (lg_sl ([.ref a, .ref t])).length) Slot.unset).toArray = ls at hl ⊢
  have hl : lv_has ls 2 [(0, .ref a), (1, .ref t)] := hl
  refine lv_aload_n hx hb dX10_size_0 rfl (lv_at hl 1 rfl) ?_
  refine lv_bipush (v := 10) hx hb dX10_size_1 (by decide) ?_
  have hPc := M.1.sub (ws' := [(t, .inr (3, [.ref bd, .int (nI n)])), (bd, .inl (dA 0, 16, .inl f))]) [1, 2] rfl
  have hDc := M.2.1.sub (ws' := [(t, .inr (3, [.ref bd, .int (nI n)])), (bd, .inl (dA 0, 16, .inl f))]) [1, 2] (by decide) rfl
  have hFc := va_free (wc := [(t, .inr (3, [.ref bd, .int (nI n)])), (bd, .inl (dA 0, 16, .inl f))]) M.2.1 M.2.2 X.hA [1, 2] rfl
  refine va_callv (va_runV (As := [.int 10]) (rest := []) X.1 (metX1_begins l D dA (va_A [(t, .inr (3, [.ref bd, .int (nI n)])), (bd, .inl (dA 0, 16, .inl f))] s.heap.size) e0 t bd n f (by first | assumption | omega) 10) (cwV 1 hts (lw_V q1352 q1343 q1344 q61 q1345) rfl rfl rfl (by decide +kernel) ⟨Nat.le_of_ble_eq_true rfl, Nat.le_of_ble_eq_true rfl⟩) ⟨gPre_blindD, va_recv (cl := xCl) X.K M.1 (ci := 3) (q0 := 1) rfl rfl, fun U hU hW => ⟨rfl, X.Cn M.2.2 hFc hU hW, by rw [hU]; exact hPc, hDc.self⟩⟩ rfl rfl hl.1 rfl (lv_room (Nat.le_of_ble_eq_true rfl)) dX10_size_3 ⟨Nat.le_of_ble_eq_true rfl, Nat.le_of_ble_eq_true rfl⟩) M.2.2 (fun q _ h => hFc q h) hFc (fun u9 t9 H locs ht9 hvm9 hp9 hB9 hz9 hk9 hS => ?_)
  obtain ⟨hP1, hD1⟩ := hB9
  rw [ht9] at hP1
  obtain ⟨hP, hD⟩ := va_join (wr := [(a, .inr (8, [.int v0, .int v1, .int v2, .int v3, .int v4, .int v5]))]) (w1 := [(t, .inr (3, [.ref bd, .int (nI u9.1)])), (bd, .inl (dA 0, 16, .inl u9.2))]) M.1 M.2.1 [1, 2] [0] rfl rfl (by decide) (by decide) hk9 hFc hP1 hD1
  have M : gM D A s [(a, .inr (8, [.int v0, .int v1, .int v2, .int v3, .int v4, .int v5])), (t, .inr (3, [.ref bd, .int (nI u9.1)])), (bd, .inl (dA 0, 16, .inl u9.2))] H locs := ⟨hP, hD, hS⟩
  subst hp9
  refine lv_aload_n hx hb dX10_size_6 rfl (lv_at hl 0 rfl) ?_
  refine va_get (cl := xCl) (ci := 8) (fs := [.int v0, .int v1, .int v2, .int v3, .int v4, .int v5]) X.hx X.hb X.hts in_X10 X.ow X.K M.1 0 rfl rfl 5 (by decide) (X.hts _ q1102) (fun _ h9 => h9) rfl dX10_size_7 ?_
  refine lv_aload_n hx hb dX10_size_10 rfl (lv_at hl 0 rfl) ?_
  refine va_get (cl := xCl) (ci := 8) (fs := [.int v0, .int v1, .int v2, .int v3, .int v4, .int v5]) X.hx X.hb X.hts in_X10 X.ow X.K M.1 0 rfl rfl 4 (by decide) (X.hts _ q1100) (fun _ h9 => h9) rfl dX10_size_11 ?_
  refine lv_isub hx hb dX10_size_14 ?_
  exact W.iret (v := v5 - v4) hx hb hr (fun t9 ht9 hW9 => ⟨⟨_, x_beg 10 (n, f), rfl, ⟨rfl, rfl⟩, by rw [ht9]; exact M.1, M.2.1⟩, M.2.2.F ht9⟩) M.2.2.2.2 dX10_size_15

set_option maxHeartbeats 4000000 in
set_option maxRecDepth 100000 in
theorem metX10_size_X11 (l : Launch) (D : va_G) (dA : Nat → ClassId) (A : Nat → Prop) (e0 : Nat) (a : Nat) (v0 : Int32) (v1 : Int32) (v2 : Int32) (v3 : Int32) (v4 : Int32) (v5 : Int32) (t : Nat) (bd : Nat) (n : Nat) (f : Nat → Int32) (hn : n ≤ 16) : Met l yX10_size (ws_ yX10_size cX10_size 2 (some .int)) ({ frames := 1, cells := 0, slots := 0, locals := 21 } : Room) (va_Pc [.ref a, .ref t] (fun U => xC D dA A e0 U ∧ va_P D xCl [(a, .inr (9, [.int v0, .int v1, .int v2, .int v3, .int v4, .int v5])), (t, .inr (3, [.ref bd, .int (nI n)])), (bd, .inl (dA 0, 16, .inl f))] U.heap ∧ va_D A [(a, .inr (9, [.int v0, .int v1, .int v2, .int v3, .int v4, .int v5])), (t, .inr (3, [.ref bd, .int (nI n)])), (bd, .inl (dA 0, 16, .inl f))])) (va_Qi (fun r u => r = v5 - v4 ∧ u = x_beg 10 (n, f)) (fun u t9 => va_P D xCl [(a, .inr (9, [.int v0, .int v1, .int v2, .int v3, .int v4, .int v5])), (t, .inr (3, [.ref bd, .int (nI u.1)])), (bd, .inl (dA 0, 16, .inl u.2))] t9.heap ∧ va_D A [(a, .inr (9, [.int v0, .int v1, .int v2, .int v3, .int v4, .int v5])), (t, .inr (3, [.ref bd, .int (nI u.1)])), (bd, .inl (dA 0, 16, .inl u.2))]) A) 0 0 A := by
  refine Met.ofW (cc := cX10_size) (maxL := 2) (ret := (some .int)) (by decide) rfl ?_
  intro p e s m args below meth c s₁ B hml hv
  obtain ⟨rfl, hC, hP, hD⟩ := hv
  have hx := B.exec
  have hb := B.bytes
  have hr := B.returns
  have hts := atoms_spec (ws := (ws_ yX10_size cX10_size 2 (some .int))) B.pre
  have hts : ∀ w ∈ lw_all, w.before _ s = true := fun w h => hts w (List.mem_cons_of_mem _ h)
  have hown : s.vm.findClass RX10 = some m.cls := findClass_of_methodNamed B.named
  have hlocks := B.notSynchronized
  have S : CallFix p m c cX10_size 2 s ([.ref a, .ref t] : List Value).toArray lw_all RX10 := ⟨hx, hb, hml, hown, hts⟩
  have X : xX RX10 p s m ([.ref a, .ref t] : List Value).toArray c cX10_size 2 D dA A e0 := ⟨S, hC⟩
  have M : gM D A s [(a, .inr (9, [.int v0, .int v1, .int v2, .int v3, .int v4, .int v5])), (t, .inr (3, [.ref bd, .int (nI n)])), (bd, .inl (dA 0, 16, .inl f))] s.heap [] := ⟨hP, hD, va_S.rf⟩
  have hl := lv_entry ([.ref a, .ref t]) (n := 2) (Nat.le_of_ble_eq_true rfl)
  rw [lg_entry_eq]
  generalize (lg_sl ([.ref a, .ref t]) ++ List.replicate (2 - (lg_sl ([.ref a, .ref t])).length) Slot.unset).toArray = ls at hl ⊢
  have hl : lv_has ls 2 [(0, .ref a), (1, .ref t)] := hl
  refine lv_aload_n hx hb dX10_size_0 rfl (lv_at hl 1 rfl) ?_
  refine lv_bipush (v := 10) hx hb dX10_size_1 (by decide) ?_
  have hPc := M.1.sub (ws' := [(t, .inr (3, [.ref bd, .int (nI n)])), (bd, .inl (dA 0, 16, .inl f))]) [1, 2] rfl
  have hDc := M.2.1.sub (ws' := [(t, .inr (3, [.ref bd, .int (nI n)])), (bd, .inl (dA 0, 16, .inl f))]) [1, 2] (by decide) rfl
  have hFc := va_free (wc := [(t, .inr (3, [.ref bd, .int (nI n)])), (bd, .inl (dA 0, 16, .inl f))]) M.2.1 M.2.2 X.hA [1, 2] rfl
  refine va_callv (va_runV (As := [.int 10]) (rest := []) X.1 (metX1_begins l D dA (va_A [(t, .inr (3, [.ref bd, .int (nI n)])), (bd, .inl (dA 0, 16, .inl f))] s.heap.size) e0 t bd n f (by first | assumption | omega) 10) (cwV 1 hts (lw_V q1352 q1343 q1344 q61 q1345) rfl rfl rfl (by decide +kernel) ⟨Nat.le_of_ble_eq_true rfl, Nat.le_of_ble_eq_true rfl⟩) ⟨gPre_blindD, va_recv (cl := xCl) X.K M.1 (ci := 3) (q0 := 1) rfl rfl, fun U hU hW => ⟨rfl, X.Cn M.2.2 hFc hU hW, by rw [hU]; exact hPc, hDc.self⟩⟩ rfl rfl hl.1 rfl (lv_room (Nat.le_of_ble_eq_true rfl)) dX10_size_3 ⟨Nat.le_of_ble_eq_true rfl, Nat.le_of_ble_eq_true rfl⟩) M.2.2 (fun q _ h => hFc q h) hFc (fun u9 t9 H locs ht9 hvm9 hp9 hB9 hz9 hk9 hS => ?_)
  obtain ⟨hP1, hD1⟩ := hB9
  rw [ht9] at hP1
  obtain ⟨hP, hD⟩ := va_join (wr := [(a, .inr (9, [.int v0, .int v1, .int v2, .int v3, .int v4, .int v5]))]) (w1 := [(t, .inr (3, [.ref bd, .int (nI u9.1)])), (bd, .inl (dA 0, 16, .inl u9.2))]) M.1 M.2.1 [1, 2] [0] rfl rfl (by decide) (by decide) hk9 hFc hP1 hD1
  have M : gM D A s [(a, .inr (9, [.int v0, .int v1, .int v2, .int v3, .int v4, .int v5])), (t, .inr (3, [.ref bd, .int (nI u9.1)])), (bd, .inl (dA 0, 16, .inl u9.2))] H locs := ⟨hP, hD, hS⟩
  subst hp9
  refine lv_aload_n hx hb dX10_size_6 rfl (lv_at hl 0 rfl) ?_
  refine va_get (cl := xCl) (ci := 9) (fs := [.int v0, .int v1, .int v2, .int v3, .int v4, .int v5]) X.hx X.hb X.hts in_X11 X.ow X.K M.1 0 rfl rfl 5 (by decide) (X.hts _ q1102) (fun _ h9 => h9) rfl dX10_size_7 ?_
  refine lv_aload_n hx hb dX10_size_10 rfl (lv_at hl 0 rfl) ?_
  refine va_get (cl := xCl) (ci := 9) (fs := [.int v0, .int v1, .int v2, .int v3, .int v4, .int v5]) X.hx X.hb X.hts in_X11 X.ow X.K M.1 0 rfl rfl 4 (by decide) (X.hts _ q1100) (fun _ h9 => h9) rfl dX10_size_11 ?_
  refine lv_isub hx hb dX10_size_14 ?_
  exact W.iret (v := v5 - v4) hx hb hr (fun t9 ht9 hW9 => ⟨⟨_, x_beg 10 (n, f), rfl, ⟨rfl, rfl⟩, by rw [ht9]; exact M.1, M.2.1⟩, M.2.2.F ht9⟩) M.2.2.2.2 dX10_size_15

set_option maxHeartbeats 4000000 in
set_option maxRecDepth 100000 in
theorem metX10_size_X12 (l : Launch) (D : va_G) (dA : Nat → ClassId) (A : Nat → Prop) (e0 : Nat) (a : Nat) (v0 : Int32) (v1 : Int32) (v2 : Int32) (v3 : Int32) (v4 : Int32) (v5 : Int32) (t : Nat) (bd : Nat) (n : Nat) (f : Nat → Int32) (hn : n ≤ 16) : Met l yX10_size (ws_ yX10_size cX10_size 2 (some .int)) ({ frames := 1, cells := 0, slots := 0, locals := 21 } : Room) (va_Pc [.ref a, .ref t] (fun U => xC D dA A e0 U ∧ va_P D xCl [(a, .inr (10, [.int v0, .int v1, .int v2, .int v3, .int v4, .int v5])), (t, .inr (3, [.ref bd, .int (nI n)])), (bd, .inl (dA 0, 16, .inl f))] U.heap ∧ va_D A [(a, .inr (10, [.int v0, .int v1, .int v2, .int v3, .int v4, .int v5])), (t, .inr (3, [.ref bd, .int (nI n)])), (bd, .inl (dA 0, 16, .inl f))])) (va_Qi (fun r u => r = v5 - v4 ∧ u = x_beg 10 (n, f)) (fun u t9 => va_P D xCl [(a, .inr (10, [.int v0, .int v1, .int v2, .int v3, .int v4, .int v5])), (t, .inr (3, [.ref bd, .int (nI u.1)])), (bd, .inl (dA 0, 16, .inl u.2))] t9.heap ∧ va_D A [(a, .inr (10, [.int v0, .int v1, .int v2, .int v3, .int v4, .int v5])), (t, .inr (3, [.ref bd, .int (nI u.1)])), (bd, .inl (dA 0, 16, .inl u.2))]) A) 0 0 A := by
  refine Met.ofW (cc := cX10_size) (maxL := 2) (ret := (some .int)) (by decide) rfl ?_
  intro p e s m args below meth c s₁ B hml hv
  obtain ⟨rfl, hC, hP, hD⟩ := hv
  have hx := B.exec
  have hb := B.bytes
  have hr := B.returns
  have hts := atoms_spec (ws := (ws_ yX10_size cX10_size 2 (some .int))) B.pre
  have hts : ∀ w ∈ lw_all, w.before _ s = true := fun w h => hts w (List.mem_cons_of_mem _ h)
  have hown : s.vm.findClass RX10 = some m.cls := findClass_of_methodNamed B.named
  have hlocks := B.notSynchronized
  have S : CallFix p m c cX10_size 2 s ([.ref a, .ref t] : List Value).toArray lw_all RX10 := ⟨hx, hb, hml, hown, hts⟩
  have X : xX RX10 p s m ([.ref a, .ref t] : List Value).toArray c cX10_size 2 D dA A e0 := ⟨S, hC⟩
  have M : gM D A s [(a, .inr (10, [.int v0, .int v1, .int v2, .int v3, .int v4, .int v5])), (t, .inr (3, [.ref bd, .int (nI n)])), (bd, .inl (dA 0, 16, .inl f))] s.heap [] := ⟨hP, hD, va_S.rf⟩
  have hl := lv_entry ([.ref a, .ref t]) (n := 2) (Nat.le_of_ble_eq_true rfl)
  rw [lg_entry_eq]
  generalize (lg_sl ([.ref a, .ref t]) ++ List.replicate (2 - (lg_sl ([.ref a, .ref t])).length) Slot.unset).toArray = ls at hl ⊢
  have hl : lv_has ls 2 [(0, .ref a), (1, .ref t)] := hl
  refine lv_aload_n hx hb dX10_size_0 rfl (lv_at hl 1 rfl) ?_
  refine lv_bipush (v := 10) hx hb dX10_size_1 (by decide) ?_
  have hPc := M.1.sub (ws' := [(t, .inr (3, [.ref bd, .int (nI n)])), (bd, .inl (dA 0, 16, .inl f))]) [1, 2] rfl
  have hDc := M.2.1.sub (ws' := [(t, .inr (3, [.ref bd, .int (nI n)])), (bd, .inl (dA 0, 16, .inl f))]) [1, 2] (by decide) rfl
  have hFc := va_free (wc := [(t, .inr (3, [.ref bd, .int (nI n)])), (bd, .inl (dA 0, 16, .inl f))]) M.2.1 M.2.2 X.hA [1, 2] rfl
  refine va_callv (va_runV (As := [.int 10]) (rest := []) X.1 (metX1_begins l D dA (va_A [(t, .inr (3, [.ref bd, .int (nI n)])), (bd, .inl (dA 0, 16, .inl f))] s.heap.size) e0 t bd n f (by first | assumption | omega) 10) (cwV 1 hts (lw_V q1352 q1343 q1344 q61 q1345) rfl rfl rfl (by decide +kernel) ⟨Nat.le_of_ble_eq_true rfl, Nat.le_of_ble_eq_true rfl⟩) ⟨gPre_blindD, va_recv (cl := xCl) X.K M.1 (ci := 3) (q0 := 1) rfl rfl, fun U hU hW => ⟨rfl, X.Cn M.2.2 hFc hU hW, by rw [hU]; exact hPc, hDc.self⟩⟩ rfl rfl hl.1 rfl (lv_room (Nat.le_of_ble_eq_true rfl)) dX10_size_3 ⟨Nat.le_of_ble_eq_true rfl, Nat.le_of_ble_eq_true rfl⟩) M.2.2 (fun q _ h => hFc q h) hFc (fun u9 t9 H locs ht9 hvm9 hp9 hB9 hz9 hk9 hS => ?_)
  obtain ⟨hP1, hD1⟩ := hB9
  rw [ht9] at hP1
  obtain ⟨hP, hD⟩ := va_join (wr := [(a, .inr (10, [.int v0, .int v1, .int v2, .int v3, .int v4, .int v5]))]) (w1 := [(t, .inr (3, [.ref bd, .int (nI u9.1)])), (bd, .inl (dA 0, 16, .inl u9.2))]) M.1 M.2.1 [1, 2] [0] rfl rfl (by decide) (by decide) hk9 hFc hP1 hD1
  have M : gM D A s [(a, .inr (10, [.int v0, .int v1, .int v2, .int v3, .int v4, .int v5])), (t, .inr (3, [.ref bd, .int (nI u9.1)])), (bd, .inl (dA 0, 16, .inl u9.2))] H locs := ⟨hP, hD, hS⟩
  subst hp9
  refine lv_aload_n hx hb dX10_size_6 rfl (lv_at hl 0 rfl) ?_
  refine va_get (cl := xCl) (ci := 10) (fs := [.int v0, .int v1, .int v2, .int v3, .int v4, .int v5]) X.hx X.hb X.hts in_X12 X.ow X.K M.1 0 rfl rfl 5 (by decide) (X.hts _ q1102) (fun _ h9 => h9) rfl dX10_size_7 ?_
  refine lv_aload_n hx hb dX10_size_10 rfl (lv_at hl 0 rfl) ?_
  refine va_get (cl := xCl) (ci := 10) (fs := [.int v0, .int v1, .int v2, .int v3, .int v4, .int v5]) X.hx X.hb X.hts in_X12 X.ow X.K M.1 0 rfl rfl 4 (by decide) (X.hts _ q1100) (fun _ h9 => h9) rfl dX10_size_11 ?_
  refine lv_isub hx hb dX10_size_14 ?_
  exact W.iret (v := v5 - v4) hx hb hr (fun t9 ht9 hW9 => ⟨⟨_, x_beg 10 (n, f), rfl, ⟨rfl, rfl⟩, by rw [ht9]; exact M.1, M.2.1⟩, M.2.2.F ht9⟩) M.2.2.2.2 dX10_size_15

set_option maxHeartbeats 4000000 in
set_option maxRecDepth 100000 in
theorem metX10_size_X13 (l : Launch) (D : va_G) (dA : Nat → ClassId) (A : Nat → Prop) (e0 : Nat) (a : Nat) (v0 : Int32) (v1 : Int32) (v2 : Int32) (v3 : Int32) (v4 : Int32) (v5 : Int32) (t : Nat) (bd : Nat) (n : Nat) (f : Nat → Int32) (hn : n ≤ 16) : Met l yX10_size (ws_ yX10_size cX10_size 2 (some .int)) ({ frames := 1, cells := 0, slots := 0, locals := 21 } : Room) (va_Pc [.ref a, .ref t] (fun U => xC D dA A e0 U ∧ va_P D xCl [(a, .inr (11, [.int v0, .int v1, .int v2, .int v3, .int v4, .int v5])), (t, .inr (3, [.ref bd, .int (nI n)])), (bd, .inl (dA 0, 16, .inl f))] U.heap ∧ va_D A [(a, .inr (11, [.int v0, .int v1, .int v2, .int v3, .int v4, .int v5])), (t, .inr (3, [.ref bd, .int (nI n)])), (bd, .inl (dA 0, 16, .inl f))])) (va_Qi (fun r u => r = v5 - v4 ∧ u = x_beg 10 (n, f)) (fun u t9 => va_P D xCl [(a, .inr (11, [.int v0, .int v1, .int v2, .int v3, .int v4, .int v5])), (t, .inr (3, [.ref bd, .int (nI u.1)])), (bd, .inl (dA 0, 16, .inl u.2))] t9.heap ∧ va_D A [(a, .inr (11, [.int v0, .int v1, .int v2, .int v3, .int v4, .int v5])), (t, .inr (3, [.ref bd, .int (nI u.1)])), (bd, .inl (dA 0, 16, .inl u.2))]) A) 0 0 A := by
  refine Met.ofW (cc := cX10_size) (maxL := 2) (ret := (some .int)) (by decide) rfl ?_
  intro p e s m args below meth c s₁ B hml hv
  obtain ⟨rfl, hC, hP, hD⟩ := hv
  have hx := B.exec
  have hb := B.bytes
  have hr := B.returns
  have hts := atoms_spec (ws := (ws_ yX10_size cX10_size 2 (some .int))) B.pre
  have hts : ∀ w ∈ lw_all, w.before _ s = true := fun w h => hts w (List.mem_cons_of_mem _ h)
  have hown : s.vm.findClass RX10 = some m.cls := findClass_of_methodNamed B.named
  have hlocks := B.notSynchronized
  have S : CallFix p m c cX10_size 2 s ([.ref a, .ref t] : List Value).toArray lw_all RX10 := ⟨hx, hb, hml, hown, hts⟩
  have X : xX RX10 p s m ([.ref a, .ref t] : List Value).toArray c cX10_size 2 D dA A e0 := ⟨S, hC⟩
  have M : gM D A s [(a, .inr (11, [.int v0, .int v1, .int v2, .int v3, .int v4, .int v5])), (t, .inr (3, [.ref bd, .int (nI n)])), (bd, .inl (dA 0, 16, .inl f))] s.heap [] := ⟨hP, hD, va_S.rf⟩
  have hl := lv_entry ([.ref a, .ref t]) (n := 2) (Nat.le_of_ble_eq_true rfl)
  rw [lg_entry_eq]
  generalize (lg_sl ([.ref a, .ref t]) ++ List.replicate (2 - (lg_sl ([.ref a, .ref t])).length) Slot.unset).toArray = ls at hl ⊢
  have hl : lv_has ls 2 [(0, .ref a), (1, .ref t)] := hl
  refine lv_aload_n hx hb dX10_size_0 rfl (lv_at hl 1 rfl) ?_
  refine lv_bipush (v := 10) hx hb dX10_size_1 (by decide) ?_
  have hPc := M.1.sub (ws' := [(t, .inr (3, [.ref bd, .int (nI n)])), (bd, .inl (dA 0, 16, .inl f))]) [1, 2] rfl
  have hDc := M.2.1.sub (ws' := [(t, .inr (3, [.ref bd, .int (nI n)])), (bd, .inl (dA 0, 16, .inl f))]) [1, 2] (by decide) rfl
  have hFc := va_free (wc := [(t, .inr (3, [.ref bd, .int (nI n)])), (bd, .inl (dA 0, 16, .inl f))]) M.2.1 M.2.2 X.hA [1, 2] rfl
  refine va_callv (va_runV (As := [.int 10]) (rest := []) X.1 (metX1_begins l D dA (va_A [(t, .inr (3, [.ref bd, .int (nI n)])), (bd, .inl (dA 0, 16, .inl f))] s.heap.size) e0 t bd n f (by first | assumption | omega) 10) (cwV 1 hts (lw_V q1352 q1343 q1344 q61 q1345) rfl rfl rfl (by decide +kernel) ⟨Nat.le_of_ble_eq_true rfl, Nat.le_of_ble_eq_true rfl⟩) ⟨gPre_blindD, va_recv (cl := xCl) X.K M.1 (ci := 3) (q0 := 1) rfl rfl, fun U hU hW => ⟨rfl, X.Cn M.2.2 hFc hU hW, by rw [hU]; exact hPc, hDc.self⟩⟩ rfl rfl hl.1 rfl (lv_room (Nat.le_of_ble_eq_true rfl)) dX10_size_3 ⟨Nat.le_of_ble_eq_true rfl, Nat.le_of_ble_eq_true rfl⟩) M.2.2 (fun q _ h => hFc q h) hFc (fun u9 t9 H locs ht9 hvm9 hp9 hB9 hz9 hk9 hS => ?_)
  obtain ⟨hP1, hD1⟩ := hB9
  rw [ht9] at hP1
  obtain ⟨hP, hD⟩ := va_join (wr := [(a, .inr (11, [.int v0, .int v1, .int v2, .int v3, .int v4, .int v5]))]) (w1 := [(t, .inr (3, [.ref bd, .int (nI u9.1)])), (bd, .inl (dA 0, 16, .inl u9.2))]) M.1 M.2.1 [1, 2] [0] rfl rfl (by decide) (by decide) hk9 hFc hP1 hD1
  have M : gM D A s [(a, .inr (11, [.int v0, .int v1, .int v2, .int v3, .int v4, .int v5])), (t, .inr (3, [.ref bd, .int (nI u9.1)])), (bd, .inl (dA 0, 16, .inl u9.2))] H locs := ⟨hP, hD, hS⟩
  subst hp9
  refine lv_aload_n hx hb dX10_size_6 rfl (lv_at hl 0 rfl) ?_
  refine va_get (cl := xCl) (ci := 11) (fs := [.int v0, .int v1, .int v2, .int v3, .int v4, .int v5]) X.hx X.hb X.hts in_X13 X.ow X.K M.1 0 rfl rfl 5 (by decide) (X.hts _ q1102) (fun _ h9 => h9) rfl dX10_size_7 ?_
  refine lv_aload_n hx hb dX10_size_10 rfl (lv_at hl 0 rfl) ?_
  refine va_get (cl := xCl) (ci := 11) (fs := [.int v0, .int v1, .int v2, .int v3, .int v4, .int v5]) X.hx X.hb X.hts in_X13 X.ow X.K M.1 0 rfl rfl 4 (by decide) (X.hts _ q1100) (fun _ h9 => h9) rfl dX10_size_11 ?_
  refine lv_isub hx hb dX10_size_14 ?_
  exact W.iret (v := v5 - v4) hx hb hr (fun t9 ht9 hW9 => ⟨⟨_, x_beg 10 (n, f), rfl, ⟨rfl, rfl⟩, by rw [ht9]; exact M.1, M.2.1⟩, M.2.2.F ht9⟩) M.2.2.2.2 dX10_size_15

set_option maxHeartbeats 4000000 in
set_option maxRecDepth 100000 in
theorem metX10_size_X14 (l : Launch) (D : va_G) (dA : Nat → ClassId) (A : Nat → Prop) (e0 : Nat) (a : Nat) (v0 : Int32) (v1 : Int32) (v2 : Int32) (v3 : Int32) (v4 : Int32) (v5 : Int32) (t : Nat) (bd : Nat) (n : Nat) (f : Nat → Int32) (hn : n ≤ 16) : Met l yX10_size (ws_ yX10_size cX10_size 2 (some .int)) ({ frames := 1, cells := 0, slots := 0, locals := 21 } : Room) (va_Pc [.ref a, .ref t] (fun U => xC D dA A e0 U ∧ va_P D xCl [(a, .inr (12, [.int v0, .int v1, .int v2, .int v3, .int v4, .int v5])), (t, .inr (3, [.ref bd, .int (nI n)])), (bd, .inl (dA 0, 16, .inl f))] U.heap ∧ va_D A [(a, .inr (12, [.int v0, .int v1, .int v2, .int v3, .int v4, .int v5])), (t, .inr (3, [.ref bd, .int (nI n)])), (bd, .inl (dA 0, 16, .inl f))])) (va_Qi (fun r u => r = v5 - v4 ∧ u = x_beg 10 (n, f)) (fun u t9 => va_P D xCl [(a, .inr (12, [.int v0, .int v1, .int v2, .int v3, .int v4, .int v5])), (t, .inr (3, [.ref bd, .int (nI u.1)])), (bd, .inl (dA 0, 16, .inl u.2))] t9.heap ∧ va_D A [(a, .inr (12, [.int v0, .int v1, .int v2, .int v3, .int v4, .int v5])), (t, .inr (3, [.ref bd, .int (nI u.1)])), (bd, .inl (dA 0, 16, .inl u.2))]) A) 0 0 A := by
  refine Met.ofW (cc := cX10_size) (maxL := 2) (ret := (some .int)) (by decide) rfl ?_
  intro p e s m args below meth c s₁ B hml hv
  obtain ⟨rfl, hC, hP, hD⟩ := hv
  have hx := B.exec
  have hb := B.bytes
  have hr := B.returns
  have hts := atoms_spec (ws := (ws_ yX10_size cX10_size 2 (some .int))) B.pre
  have hts : ∀ w ∈ lw_all, w.before _ s = true := fun w h => hts w (List.mem_cons_of_mem _ h)
  have hown : s.vm.findClass RX10 = some m.cls := findClass_of_methodNamed B.named
  have hlocks := B.notSynchronized
  have S : CallFix p m c cX10_size 2 s ([.ref a, .ref t] : List Value).toArray lw_all RX10 := ⟨hx, hb, hml, hown, hts⟩
  have X : xX RX10 p s m ([.ref a, .ref t] : List Value).toArray c cX10_size 2 D dA A e0 := ⟨S, hC⟩
  have M : gM D A s [(a, .inr (12, [.int v0, .int v1, .int v2, .int v3, .int v4, .int v5])), (t, .inr (3, [.ref bd, .int (nI n)])), (bd, .inl (dA 0, 16, .inl f))] s.heap [] := ⟨hP, hD, va_S.rf⟩
  have hl := lv_entry ([.ref a, .ref t]) (n := 2) (Nat.le_of_ble_eq_true rfl)
  rw [lg_entry_eq]
  generalize (lg_sl ([.ref a, .ref t]) ++ List.replicate (2 - (lg_sl ([.ref a, .ref t])).length) Slot.unset).toArray = ls at hl ⊢
  have hl : lv_has ls 2 [(0, .ref a), (1, .ref t)] := hl
  refine lv_aload_n hx hb dX10_size_0 rfl (lv_at hl 1 rfl) ?_
  refine lv_bipush (v := 10) hx hb dX10_size_1 (by decide) ?_
  have hPc := M.1.sub (ws' := [(t, .inr (3, [.ref bd, .int (nI n)])), (bd, .inl (dA 0, 16, .inl f))]) [1, 2] rfl
  have hDc := M.2.1.sub (ws' := [(t, .inr (3, [.ref bd, .int (nI n)])), (bd, .inl (dA 0, 16, .inl f))]) [1, 2] (by decide) rfl
  have hFc := va_free (wc := [(t, .inr (3, [.ref bd, .int (nI n)])), (bd, .inl (dA 0, 16, .inl f))]) M.2.1 M.2.2 X.hA [1, 2] rfl
  refine va_callv (va_runV (As := [.int 10]) (rest := []) X.1 (metX1_begins l D dA (va_A [(t, .inr (3, [.ref bd, .int (nI n)])), (bd, .inl (dA 0, 16, .inl f))] s.heap.size) e0 t bd n f (by first | assumption | omega) 10) (cwV 1 hts (lw_V q1352 q1343 q1344 q61 q1345) rfl rfl rfl (by decide +kernel) ⟨Nat.le_of_ble_eq_true rfl, Nat.le_of_ble_eq_true rfl⟩) ⟨gPre_blindD, va_recv (cl := xCl) X.K M.1 (ci := 3) (q0 := 1) rfl rfl, fun U hU hW => ⟨rfl, X.Cn M.2.2 hFc hU hW, by rw [hU]; exact hPc, hDc.self⟩⟩ rfl rfl hl.1 rfl (lv_room (Nat.le_of_ble_eq_true rfl)) dX10_size_3 ⟨Nat.le_of_ble_eq_true rfl, Nat.le_of_ble_eq_true rfl⟩) M.2.2 (fun q _ h => hFc q h) hFc (fun u9 t9 H locs ht9 hvm9 hp9 hB9 hz9 hk9 hS => ?_)
  obtain ⟨hP1, hD1⟩ := hB9
  rw [ht9] at hP1
  obtain ⟨hP, hD⟩ := va_join (wr := [(a, .inr (12, [.int v0, .int v1, .int v2, .int v3, .int v4, .int v5]))]) (w1 := [(t, .inr (3, [.ref bd, .int (nI u9.1)])), (bd, .inl (dA 0, 16, .inl u9.2))]) M.1 M.2.1 [1, 2] [0] rfl rfl (by decide) (by decide) hk9 hFc hP1 hD1
  have M : gM D A s [(a, .inr (12, [.int v0, .int v1, .int v2, .int v3, .int v4, .int v5])), (t, .inr (3, [.ref bd, .int (nI u9.1)])), (bd, .inl (dA 0, 16, .inl u9.2))] H locs := ⟨hP, hD, hS⟩
  subst hp9
  refine lv_aload_n hx hb dX10_size_6 rfl (lv_at hl 0 rfl) ?_
  refine va_get (cl := xCl) (ci := 12) (fs := [.int v0, .int v1, .int v2, .int v3, .int v4, .int v5]) X.hx X.hb X.hts in_X14 X.ow X.K M.1 0 rfl rfl 5 (by decide) (X.hts _ q1102) (fun _ h9 => h9) rfl dX10_size_7 ?_
  refine lv_aload_n hx hb dX10_size_10 rfl (lv_at hl 0 rfl) ?_
  refine va_get (cl := xCl) (ci := 12) (fs := [.int v0, .int v1, .int v2, .int v3, .int v4, .int v5]) X.hx X.hb X.hts in_X14 X.ow X.K M.1 0 rfl rfl 4 (by decide) (X.hts _ q1100) (fun _ h9 => h9) rfl dX10_size_11 ?_
  refine lv_isub hx hb dX10_size_14 ?_
  exact W.iret (v := v5 - v4) hx hb hr (fun t9 ht9 hW9 => ⟨⟨_, x_beg 10 (n, f), rfl, ⟨rfl, rfl⟩, by rw [ht9]; exact M.1, M.2.1⟩, M.2.2.F ht9⟩) M.2.2.2.2 dX10_size_15

