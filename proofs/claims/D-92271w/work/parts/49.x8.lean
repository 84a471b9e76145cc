/-! THE SYSTEM, 6: what is thrown -/
set_option maxHeartbeats 4000000 in
set_option maxRecDepth 100000 in
theorem metJ3_init_2_X3 (l : Launch) (D : va_G) (dA : Nat → ClassId) (A : Nat → Prop) (e0 : Nat) (a : Nat) : Met l yJ3_init_2 (ws_ yJ3_init_2 cJ3_init_2 5 none) ({ frames := 1, cells := 0, slots := 0, locals := 40 } : Room) (va_Pc [.ref a, .null, .null, .int 0, .int 0] (fun U => xC D dA A e0 U ∧ va_P D xCl [(a, .inr (13, [.null, .null, .null, .null, .null, .int 0, .int 0]))] U.heap ∧ va_D A [(a, .inr (13, [.null, .null, .null, .null, .null, .int 0, .int 0]))])) (va_Qv (fun _ : Unit => True) (fun _ t => va_P D xCl [(a, .inr (13, [.null, .null, .null, .null, .null, .int 0, .int 0]))] t.heap ∧ va_D A [(a, .inr (13, [.null, .null, .null, .null, .null, .int 0, .int 0]))]) A) 0 0 A := by
  refine Met.ofW (cc := cJ3_init_2) (maxL := 5) (ret := none) (by decide) rfl ?_
  intro p e s m args below meth c s₁ B hml hv
  obtain ⟨rfl, hC, hP, hD⟩ := hv
  have hx := B.exec
  have hb := B.bytes
  have hr := B.returns
  have hts := atoms_spec (ws := (ws_ yJ3_init_2 cJ3_init_2 5 none)) B.pre
  have hts : ∀ w ∈ lw_all, w.before _ s = true := fun w h => hts w (List.mem_cons_of_mem _ h)
  have hown : s.vm.findClass RJ3 = some m.cls := findClass_of_methodNamed B.named
  have hlocks := B.notSynchronized
  have S : CallFix p m c cJ3_init_2 5 s ([.ref a, .null, .null, .int 0, .int 0] : List Value).toArray lw_all RJ3 := ⟨hx, hb, hml, hown, hts⟩
  have X : xX RJ3 p s m ([.ref a, .null, .null, .int 0, .int 0] : List Value).toArray c cJ3_init_2 5 D dA A e0 := ⟨S, hC⟩
  have hin : meth.name = "<init>" := (name_of_methodNamed B.named B.method).1
  have M : gM D A s [(a, .inr (13, [.null, .null, .null, .null, .null, .int 0, .int 0]))] s.heap [] := ⟨hP, hD, va_S.rf⟩
  have hl := lv_entry ([.ref a, .null, .null, .int 0, .int 0]) (n := 5) (Nat.le_of_ble_eq_true rfl)
  rw [lg_entry_eq]
  generalize (lg_sl ([.ref a, .null, .null, .int 0, .int 0]) ++ List.replicate (5 - (lg_sl ([.ref a, .null, .null, .int 0, .int 0])).length) Slot.unset).toArray = ls at hl ⊢
  have hl : lv_has ls 5 [(0, .ref a), (1, .null), (2, .null), (3, .int 0), (4, .int 0)] := hl
  obtain ⟨us, hus, husz⟩ := zq_ex X.Z.2.2.1.1
  obtain ⟨sp, hsp, hspz⟩ := zq_ex X.Z.2.2.2.1
  refine lv_aload_n hx hb dJ3_init_2_0 rfl (lv_at hl 0 rfl) ?_
  refine W.objInit hx hb hown (hts _ q260) (hts _ q100) (hts _ q101) rfl (by rw [hml]; exact hl.1) rfl dJ3_init_2_1 (Nat.le_of_ble_eq_true rfl) (Nat.le_of_ble_eq_true rfl) ?_
  refine W.eq (g2 := F0 m 4 ls []) rfl ?_
  refine lv_aload_n hx hb dJ3_init_2_4 rfl (lv_at hl 0 rfl) ?_
  refine lv_aload_n hx hb dJ3_init_2_5 rfl (lv_at hl 0 rfl) ?_
  refine va_put (cl := xCl) (D := D) (ci := 13) (fs := [.null, .null, .null, .null, .null, .int 0, .int 0]) (v := .ref a) (ty := .object "java/lang/Throwable") X.hx X.hb X.hts in_X3 tyX3 tyX3_ok nmX3 X.ow X.K M.1 M.2.1 M.2.2 0 rfl rfl 0 (by decide) (X.hts _ q291) (fun _ h9 => h9) rfl (by decide +kernel) rfl rfl (Nat.le_of_ble_eq_true rfl) dJ3_init_2_6 (fun H locs hP hD hS => ?_)
  have M : gM D A s [(a, .inr (13, [.ref a, .null, .null, .null, .null, .int 0, .int 0]))] H locs := ⟨hP, hD, hS⟩
  refine lv_aload_n hx hb dJ3_init_2_9 rfl (lv_at hl 0 rfl) ?_
  refine va_gets X.hx X.hb husz M.2.2 X.ow (X.hts _ q261) (fun _ h9 => h9) dJ3_init_2_10 ?_
  refine va_put (cl := xCl) (D := D) (ci := 13) (fs := [.ref a, .null, .null, .null, .null, .int 0, .int 0]) (v := us) (ty := .array (.object "java/lang/StackTraceElement")) X.hx X.hb X.hts in_X3 tyX3 tyX3_ok nmX3 X.ow X.K M.1 M.2.1 M.2.2 0 rfl rfl 1 (by decide) (X.hts _ q292) (fun _ h9 => h9) rfl (by decide +kernel) (by rcases hus with rfl | ⟨z9, rfl⟩ <;> rfl) (by rcases hus with rfl | ⟨z9, rfl⟩ <;> rfl) (Nat.le_of_ble_eq_true rfl) dJ3_init_2_13 (fun H locs hP hD hS => ?_)
  have M : gM D A s [(a, .inr (13, [.ref a, us, .null, .null, .null, .int 0, .int 0]))] H locs := ⟨hP, hD, hS⟩
  refine lv_aload_n hx hb dJ3_init_2_16 rfl (lv_at hl 0 rfl) ?_
  refine va_gets X.hx X.hb hspz M.2.2 X.ow (X.hts _ q263) (fun _ h9 => h9) dJ3_init_2_17 ?_
  refine va_put (cl := xCl) (D := D) (ci := 13) (fs := [.ref a, us, .null, .null, .null, .int 0, .int 0]) (v := sp) (ty := .object "java/util/List") X.hx X.hb X.hts in_X3 tyX3 tyX3_ok nmX3 X.ow X.K M.1 M.2.1 M.2.2 0 rfl rfl 2 (by decide) (X.hts _ q293) (fun _ h9 => h9) rfl (by decide +kernel) (by rcases hsp with rfl | ⟨z9, rfl⟩ <;> rfl) (by rcases hsp with rfl | ⟨z9, rfl⟩ <;> rfl) (Nat.le_of_ble_eq_true rfl) dJ3_init_2_20 (fun H locs hP hD hS => ?_)
  have M : gM D A s [(a, .inr (13, [.ref a, us, sp, .null, .null, .int 0, .int 0]))] H locs := ⟨hP, hD, hS⟩
  refine lv_iload hx hb dJ3_init_2_23 (lv_at hl 4 rfl) ?_
  refine lv_if_eq (tgt := 36) hx hb dJ3_init_2_25 (by decide) (fun c_1 => ?_) (fun c_1 => absurd c_1 (by decide))
  refine lv_aload_n hx hb dJ3_init_2_36 rfl (lv_at hl 0 rfl) ?_
  refine lv_null hx hb dJ3_init_2_37 ?_
  refine va_put (cl := xCl) (D := D) (ci := 13) (fs := [.ref a, us, sp, .null, .null, .int 0, .int 0]) (v := .null) (ty := .array (.object "java/lang/StackTraceElement")) X.hx X.hb X.hts in_X3 tyX3 tyX3_ok nmX3 X.ow X.K M.1 M.2.1 M.2.2 0 rfl rfl 1 (by decide) (X.hts _ q292) (fun _ h9 => h9) rfl (by decide +kernel) rfl rfl (Nat.le_of_ble_eq_true rfl) dJ3_init_2_38 (fun H locs hP hD hS => ?_)
  have M : gM D A s [(a, .inr (13, [.ref a, .null, sp, .null, .null, .int 0, .int 0]))] H locs := ⟨hP, hD, hS⟩
  refine lv_aload_n hx hb dJ3_init_2_41 rfl (lv_at hl 0 rfl) ?_
  refine lv_aload_nN hx hb dJ3_init_2_42 rfl (lv_at hl 1 rfl) ?_
  refine va_put (cl := xCl) (D := D) (ci := 13) (fs := [.ref a, .null, sp, .null, .null, .int 0, .int 0]) (v := .null) (ty := .object "java/lang/String") X.hx X.hb X.hts in_X3 tyX3 tyX3_ok nmX3 X.ow X.K M.1 M.2.1 M.2.2 0 rfl rfl 3 (by decide) (X.hts _ q290) (fun _ h9 => h9) rfl (by decide +kernel) rfl rfl (Nat.le_of_ble_eq_true rfl) dJ3_init_2_43 (fun H locs hP hD hS => ?_)
  have M : gM D A s [(a, .inr (13, [.ref a, .null, sp, .null, .null, .int 0, .int 0]))] H locs := ⟨hP, hD, hS⟩
  refine lv_aload_n hx hb dJ3_init_2_46 rfl (lv_at hl 0 rfl) ?_
  refine lv_aload_nN hx hb dJ3_init_2_47 rfl (lv_at hl 2 rfl) ?_
  refine va_put (cl := xCl) (D := D) (ci := 13) (fs := [.ref a, .null, sp, .null, .null, .int 0, .int 0]) (v := .null) (ty := .object "java/lang/Throwable") X.hx X.hb X.hts in_X3 tyX3 tyX3_ok nmX3 X.ow X.K M.1 M.2.1 M.2.2 0 rfl rfl 0 (by decide) (X.hts _ q291) (fun _ h9 => h9) rfl (by decide +kernel) rfl rfl (Nat.le_of_ble_eq_true rfl) dJ3_init_2_48 (fun H locs hP hD hS => ?_)
  have M : gM D A s [(a, .inr (13, [.null, .null, sp, .null, .null, .int 0, .int 0]))] H locs := ⟨hP, hD, hS⟩
  refine lv_iload_n hx hb dJ3_init_2_51 rfl (lv_at hl 3 rfl) ?_
  refine lv_if_ne (tgt := 60) hx hb dJ3_init_2_52 (by decide) (fun c_2 => absurd c_2 (by decide)) (fun c_2 => ?_)
  refine lv_aload_n hx hb dJ3_init_2_55 rfl (lv_at hl 0 rfl) ?_
  refine lv_null hx hb dJ3_init_2_56 ?_
  refine va_put (cl := xCl) (D := D) (ci := 13) (fs := [.null, .null, sp, .null, .null, .int 0, .int 0]) (v := .null) (ty := .object "java/util/List") X.hx X.hb X.hts in_X3 tyX3 tyX3_ok nmX3 X.ow X.K M.1 M.2.1 M.2.2 0 rfl rfl 2 (by decide) (X.hts _ q293) (fun _ h9 => h9) rfl (by decide +kernel) rfl rfl (Nat.le_of_ble_eq_true rfl) dJ3_init_2_57 (fun H locs hP hD hS => ?_)
  have M : gM D A s [(a, .inr (13, [.null, .null, .null, .null, .null, .int 0, .int 0]))] H locs := ⟨hP, hD, hS⟩
  exact W.vret hx hb hr (fun t9 ht9 hW9 => ⟨⟨(), rfl, trivial, by rw [ht9]; exact M.1, M.2.1⟩, M.2.2.F ht9⟩) M.2.2.2.2 dJ3_init_2_60

set_option maxHeartbeats 4000000 in
set_option maxRecDepth 100000 in
theorem metJ4_init_X3 (l : Launch) (D : va_G) (dA : Nat → ClassId) (A : Nat → Prop) (e0 : Nat) (a : Nat) : Met l yJ4_init (ws_ yJ4_init cJ4_init 5 none) ({ frames := 2, cells := 0, slots := 0, locals := 64 } : Room) (va_Pc [.ref a, .null, .null, .int 0, .int 0] (fun U => xC D dA A e0 U ∧ va_P D xCl [(a, .inr (13, [.null, .null, .null, .null, .null, .int 0, .int 0]))] U.heap ∧ va_D A [(a, .inr (13, [.null, .null, .null, .null, .null, .int 0, .int 0]))])) (va_Qv (fun _ : Unit => True) (fun _ t => va_P D xCl [(a, .inr (13, [.null, .null, .null, .null, .null, .int 0, .int 0]))] t.heap ∧ va_D A [(a, .inr (13, [.null, .null, .null, .null, .null, .int 0, .int 0]))]) A) 0 0 A := by
  refine Met.ofW (cc := cJ4_init) (maxL := 5) (ret := none) (by decide) rfl ?_
  intro p e s m args below meth c s₁ B hml hv
  obtain ⟨rfl, hC, hP, hD⟩ := hv
  have hx := B.exec
  have hb := B.bytes
  have hr := B.returns
  have hts := atoms_spec (ws := (ws_ yJ4_init cJ4_init 5 none)) B.pre
  have hts : ∀ w ∈ lw_all, w.before _ s = true := fun w h => hts w (List.mem_cons_of_mem _ h)
  have hown : s.vm.findClass RJ4 = some m.cls := findClass_of_methodNamed B.named
  have hlocks := B.notSynchronized
  have S : CallFix p m c cJ4_init 5 s ([.ref a, .null, .null, .int 0, .int 0] : List Value).toArray lw_all RJ4 := ⟨hx, hb, hml, hown, hts⟩
  have X : xX RJ4 p s m ([.ref a, .null, .null, .int 0, .int 0] : List Value).toArray c cJ4_init 5 D dA A e0 := ⟨S, hC⟩
  have hin : meth.name = "<init>" := (name_of_methodNamed B.named B.method).1
  have M : gM D A s [(a, .inr (13, [.null, .null, .null, .null, .null, .int 0, .int 0]))] s.heap [] := ⟨hP, hD, va_S.rf⟩
  have hl := lv_entry ([.ref a, .null, .null, .int 0, .int 0]) (n := 5) (Nat.le_of_ble_eq_true rfl)
  rw [lg_entry_eq]
  generalize (lg_sl ([.ref a, .null, .null, .int 0, .int 0]) ++ List.replicate (5 - (lg_sl ([.ref a, .null, .null, .int 0, .int 0])).length) Slot.unset).toArray = ls at hl ⊢
  have hl : lv_has ls 5 [(0, .ref a), (1, .null), (2, .null), (3, .int 0), (4, .int 0)] := hl
  refine lv_aload_n hx hb dJ4_init_0 rfl (lv_at hl 0 rfl) ?_
  refine lv_aload_nN hx hb dJ4_init_1 rfl (lv_at hl 1 rfl) ?_
  refine lv_aload_nN hx hb dJ4_init_2 rfl (lv_at hl 2 rfl) ?_
  refine lv_iload_n hx hb dJ4_init_3 rfl (lv_at hl 3 rfl) ?_
  refine lv_iload hx hb dJ4_init_4 (lv_at hl 4 rfl) ?_
  have hPc := M.1.sub (ws' := [(a, .inr (13, [.null, .null, .null, .null, .null, .int 0, .int 0]))]) [0] rfl
  have hDc := M.2.1.sub (ws' := [(a, .inr (13, [.null, .null, .null, .null, .null, .int 0, .int 0]))]) [0] (by decide) rfl
  have hFc := va_free (wc := [(a, .inr (13, [.null, .null, .null, .null, .null, .int 0, .int 0]))]) M.2.1 M.2.2 X.hA [0] rfl
  refine va_callv (va_runI (As := [.null, .null, .int 0, .int 0]) (rest := []) X.1 (metJ3_init_2_X3 l D dA (va_A [(a, .inr (13, [.null, .null, .null, .null, .null, .int 0, .int 0]))] s.heap.size) e0 a) (cwI 4 hts (lw_meth q286) rfl rfl rfl (hts _ q63) (hts _ q284) (hts _ q285) rfl (by decide +kernel) ⟨Nat.le_of_ble_eq_true rfl, Nat.le_of_ble_eq_true rfl⟩) ⟨gPre_blindD, fun U hU hW => ⟨rfl, X.Cn M.2.2 hFc hU hW, by rw [hU]; exact hPc, hDc.self⟩⟩ rfl rfl hl.1 rfl (lv_room (Nat.le_of_ble_eq_true rfl)) dJ4_init_6 ⟨Nat.le_of_ble_eq_true rfl, Nat.le_of_ble_eq_true rfl⟩) M.2.2 (fun q _ h => hFc q h) hFc (fun u9 t9 H locs ht9 hvm9 hp9 hB9 hz9 hk9 hS => ?_)
  obtain ⟨hP1, hD1⟩ := hB9
  rw [ht9] at hP1
  obtain ⟨hP, hD⟩ := va_join (wr := []) (w1 := [(a, .inr (13, [.null, .null, .null, .null, .null, .int 0, .int 0]))]) M.1 M.2.1 [0] [] rfl rfl (by decide) (by decide) hk9 hFc hP1 hD1
  have M : gM D A s [(a, .inr (13, [.null, .null, .null, .null, .null, .int 0, .int 0]))] H locs := ⟨hP, hD, hS⟩
  exact W.vret hx hb hr (fun t9 ht9 hW9 => ⟨⟨(), rfl, trivial, by rw [ht9]; exact M.1, M.2.1⟩, M.2.2.F ht9⟩) M.2.2.2.2 dJ4_init_9

set_option maxHeartbeats 4000000 in
set_option maxRecDepth 100000 in
theorem metX3_init (l : Launch) (D : va_G) (dA : Nat → ClassId) (A : Nat → Prop) (e0 : Nat) (a : Nat) (n : Int32) : Met l yX3_init (ws_ yX3_init cX3_init 2 none) ({ frames := 3, cells := 0, slots := 0, locals := 88 } : Room) (va_Pc [.ref a, .int n] (fun U => xC D dA A e0 U ∧ va_P D xCl [(a, .inr (13, [.null, .null, .null, .null, .null, .int 0, .int 0]))] U.heap ∧ va_D A [(a, .inr (13, [.null, .null, .null, .null, .null, .int 0, .int 0]))])) (va_Qv (fun _ : Unit => True) (fun _ t => va_P D xCl [(a, .inr (13, [.null, .null, .null, .null, .null, .int 0, .int n]))] t.heap ∧ va_D A [(a, .inr (13, [.null, .null, .null, .null, .null, .int 0, .int n]))]) A) 0 0 A := by
  refine Met.ofW (cc := cX3_init) (maxL := 2) (ret := none) (by decide) rfl ?_
  intro p e s m args below meth c s₁ B hml hv
  obtain ⟨rfl, hC, hP, hD⟩ := hv
  have hx := B.exec
  have hb := B.bytes
  have hr := B.returns
  have hts := atoms_spec (ws := (ws_ yX3_init cX3_init 2 none)) B.pre
  have hts : ∀ w ∈ lw_all, w.before _ s = true := fun w h => hts w (List.mem_cons_of_mem _ h)
  have hown : s.vm.findClass RX3 = some m.cls := findClass_of_methodNamed B.named
  have hlocks := B.notSynchronized
  have S : CallFix p m c cX3_init 2 s ([.ref a, .int n] : List Value).toArray lw_all RX3 := ⟨hx, hb, hml, hown, hts⟩
  have X : xX RX3 p s m ([.ref a, .int n] : List Value).toArray c cX3_init 2 D dA A e0 := ⟨S, hC⟩
  have hin : meth.name = "<init>" := (name_of_methodNamed B.named B.method).1
  have M : gM D A s [(a, .inr (13, [.null, .null, .null, .null, .null, .int 0, .int 0]))] s.heap [] := ⟨hP, hD, va_S.rf⟩
  have hl := lv_entry ([.ref a, .int n]) (n := 2) (Nat.le_of_ble_eq_true rfl)
  rw [lg_entry_eq]
  generalize (lg_sl ([.ref a, .int n]) ++ List.replicate (2 - (lg_sl ([.ref a, .int n])).length) Slot.unset).toArray = ls at hl ⊢
  have hl : lv_has ls 2 [(0, .ref a), (1, .int n)] := hl
  refine lv_aload_n hx hb dX3_init_0 rfl (lv_at hl 0 rfl) ?_
  refine lv_null hx hb dX3_init_1 ?_
  refine lv_null hx hb dX3_init_2 ?_
  refine lv_iconst (v := 0) hx hb dX3_init_3 (by decide) ?_
  refine lv_iconst (v := 0) hx hb dX3_init_4 (by decide) ?_
  have hPc := M.1.sub (ws' := [(a, .inr (13, [.null, .null, .null, .null, .null, .int 0, .int 0]))]) [0] rfl
  have hDc := M.2.1.sub (ws' := [(a, .inr (13, [.null, .null, .null, .null, .null, .int 0, .int 0]))]) [0] (by decide) rfl
  have hFc := va_free (wc := [(a, .inr (13, [.null, .null, .null, .null, .null, .int 0, .int 0]))]) M.2.1 M.2.2 X.hA [0] rfl
  refine va_callv (va_runI (As := [.null, .null, .int 0, .int 0]) (rest := []) X.1 (metJ4_init_X3 l D dA (va_A [(a, .inr (13, [.null, .null, .null, .null, .null, .int 0, .int 0]))] s.heap.size) e0 a) (cwI 4 hts (lw_meth q283) rfl rfl rfl (hts _ q64) (hts _ q281) (hts _ q282) rfl (by decide +kernel) ⟨Nat.le_of_ble_eq_true rfl, Nat.le_of_ble_eq_true rfl⟩) ⟨gPre_blindD, fun U hU hW => ⟨rfl, X.Cn M.2.2 hFc hU hW, by rw [hU]; exact hPc, hDc.self⟩⟩ rfl rfl hl.1 rfl (lv_room (Nat.le_of_ble_eq_true rfl)) dX3_init_5 ⟨Nat.le_of_ble_eq_true rfl, Nat.le_of_ble_eq_true rfl⟩) M.2.2 (fun q _ h => hFc q h) hFc (fun u9 t9 H locs ht9 hvm9 hp9 hB9 hz9 hk9 hS => ?_)
  obtain ⟨hP1, hD1⟩ := hB9
  rw [ht9] at hP1
  obtain ⟨hP, hD⟩ := va_join (wr := []) (w1 := [(a, .inr (13, [.null, .null, .null, .null, .null, .int 0, .int 0]))]) M.1 M.2.1 [0] [] rfl rfl (by decide) (by decide) hk9 hFc hP1 hD1
  have M : gM D A s [(a, .inr (13, [.null, .null, .null, .null, .null, .int 0, .int 0]))] H locs := ⟨hP, hD, hS⟩
  refine lv_aload_n hx hb dX3_init_8 rfl (lv_at hl 0 rfl) ?_
  refine lv_iload_n hx hb dX3_init_9 rfl (lv_at hl 1 rfl) ?_
  refine va_putF (cl := xCl) (D := D) (ci := 13) (fs := [.null, .null, .null, .null, .null, .int 0, .int 0]) (v := .int n) (ty := .int) X.hx X.hb X.hts in_X3 tyX3 tyX3_ok nmX3 X.ow X.K M.1 M.2.1 M.2.2 0 rfl rfl 6 (by decide) (X.hts _ q287) (fun _ h9 => h9) rfl hin rfl (by decide +kernel) rfl rfl (Nat.le_of_ble_eq_true rfl) dX3_init_10 (fun H locs hP hD hS => ?_)
  have M : gM D A s [(a, .inr (13, [.null, .null, .null, .null, .null, .int 0, .int n]))] H locs := ⟨hP, hD, hS⟩
  exact W.vret hx hb hr (fun t9 ht9 hW9 => ⟨⟨(), rfl, trivial, by rw [ht9]; exact M.1, M.2.1⟩, M.2.2.F ht9⟩) M.2.2.2.2 dX3_init_13

set_option maxHeartbeats 4000000 in
set_option maxRecDepth 100000 in
theorem metJ3_init_2_X6 (l : Launch) (D : va_G) (dA : Nat → ClassId) (A : Nat → Prop) (e0 : Nat) (a : Nat) : Met l yJ3_init_2 (ws_ yJ3_init_2 cJ3_init_2 5 none) ({ frames := 1, cells := 0, slots := 0, locals := 40 } : Room) (va_Pc [.ref a, .null, .null, .int 0, .int 0] (fun U => xC D dA A e0 U ∧ va_P D xCl [(a, .inr (14, [.null, .null, .null, .null, .null, .int 0, .int 0, .int 0]))] U.heap ∧ va_D A [(a, .inr (14, [.null, .null, .null, .null, .null, .int 0, .int 0, .int 0]))])) (va_Qv (fun _ : Unit => True) (fun _ t => va_P D xCl [(a, .inr (14, [.null, .null, .null, .null, .null, .int 0, .int 0, .int 0]))] t.heap ∧ va_D A [(a, .inr (14, [.null, .null, .null, .null, .null, .int 0, .int 0, .int 0]))]) A) 0 0 A := by
  refine Met.ofW (cc := cJ3_init_2) (maxL := 5) (ret := none) (by decide) rfl ?_
  intro p e s m args below meth c s₁ B hml hv
  obtain ⟨rfl, hC, hP, hD⟩ := hv
  have hx := B.exec
  have hb := B.bytes
  have hr := B.returns
  have hts := atoms_spec (ws := (ws_ yJ3_init_2 cJ3_init_2 5 none)) B.pre
  have hts : ∀ w ∈ lw_all, w.before _ s = true := fun w h => hts w (List.mem_cons_of_mem _ h)
  have hown : s.vm.findClass RJ3 = some m.cls := findClass_of_methodNamed B.named
  have hlocks := B.notSynchronized
  have S : CallFix p m c cJ3_init_2 5 s ([.ref a, .null, .null, .int 0, .int 0] : List Value).toArray lw_all RJ3 := ⟨hx, hb, hml, hown, hts⟩
  have X : xX RJ3 p s m ([.ref a, .null, .null, .int 0, .int 0] : List Value).toArray c cJ3_init_2 5 D dA A e0 := ⟨S, hC⟩
  have hin : meth.name = "<init>" := (name_of_methodNamed B.named B.method).1
  have M : gM D A s [(a, .inr (14, [.null, .null, .null, .null, .null, .int 0, .int 0, .int 0]))] s.heap [] := ⟨hP, hD, va_S.rf⟩
  have hl := lv_entry ([.ref a, .null, .null, .int 0, .int 0]) (n := 5) (Nat.le_of_ble_eq_true rfl)
  rw [lg_entry_eq]
  generalize (lg_sl ([.ref a, .null, .null, .int 0, .int 0]) ++ List.replicate (5 - (lg_sl ([.ref a, .null, .null, .int 0, .int 0])).length) Slot.unset).toArray = ls at hl ⊢
  have hl : lv_has ls 5 [(0, .ref a), (1, .null), (2, .null), (3, .int 0), (4, .int 0)] := hl
  obtain ⟨us, hus, husz⟩ := zq_ex X.Z.2.2.1.1
  obtain ⟨sp, hsp, hspz⟩ := zq_ex X.Z.2.2.2.1
  refine lv_aload_n hx hb dJ3_init_2_0 rfl (lv_at hl 0 rfl) ?_
  refine W.objInit hx hb hown (hts _ q260) (hts _ q100) (hts _ q101) rfl (by rw [hml]; exact hl.1) rfl dJ3_init_2_1 (Nat.le_of_ble_eq_true rfl) (Nat.le_of_ble_eq_true rfl) ?_
  refine W.eq (g2 := F0 m 4 ls []) rfl ?_
  refine lv_aload_n hx hb dJ3_init_2_4 rfl (lv_at hl 0 rfl) ?_
  refine lv_aload_n hx hb dJ3_init_2_5 rfl (lv_at hl 0 rfl) ?_
  refine va_put (cl := xCl) (D := D) (ci := 14) (fs := [.null, .null, .null, .null, .null, .int 0, .int 0, .int 0]) (v := .ref a) (ty := .object "java/lang/Throwable") X.hx X.hb X.hts in_X6 tyX6 tyX6_ok nmX6 X.ow X.K M.1 M.2.1 M.2.2 0 rfl rfl 0 (by decide) (X.hts _ q291) (fun _ h9 => h9) rfl (by decide +kernel) rfl rfl (Nat.le_of_ble_eq_true rfl) dJ3_init_2_6 (fun H locs hP hD hS => ?_)
  have M : gM D A s [(a, .inr (14, [.ref a, .null, .null, .null, .null, .int 0, .int 0, .int 0]))] H locs := ⟨hP, hD, hS⟩
  refine lv_aload_n hx hb dJ3_init_2_9 rfl (lv_at hl 0 rfl) ?_
  refine va_gets X.hx X.hb husz M.2.2 X.ow (X.hts _ q261) (fun _ h9 => h9) dJ3_init_2_10 ?_
  refine va_put (cl := xCl) (D := D) (ci := 14) (fs := [.ref a, .null, .null, .null, .null, .int 0, .int 0, .int 0]) (v := us) (ty := .array (.object "java/lang/StackTraceElement")) X.hx X.hb X.hts in_X6 tyX6 tyX6_ok nmX6 X.ow X.K M.1 M.2.1 M.2.2 0 rfl rfl 1 (by decide) (X.hts _ q292) (fun _ h9 => h9) rfl (by decide +kernel) (by rcases hus with rfl | ⟨z9, rfl⟩ <;> rfl) (by rcases hus with rfl | ⟨z9, rfl⟩ <;> rfl) (Nat.le_of_ble_eq_true rfl) dJ3_init_2_13 (fun H locs hP hD hS => ?_)
  have M : gM D A s [(a, .inr (14, [.ref a, us, .null, .null, .null, .int 0, .int 0, .int 0]))] H locs := ⟨hP, hD, hS⟩
  refine lv_aload_n hx hb dJ3_init_2_16 rfl (lv_at hl 0 rfl) ?_
  refine va_gets X.hx X.hb hspz M.2.2 X.ow (X.hts _ q263) (fun _ h9 => h9) dJ3_init_2_17 ?_
  refine va_put (cl := xCl) (D := D) (ci := 14) (fs := [.ref a, us, .null, .null, .null, .int 0, .int 0, .int 0]) (v := sp) (ty := .object "java/util/List") X.hx X.hb X.hts in_X6 tyX6 tyX6_ok nmX6 X.ow X.K M.1 M.2.1 M.2.2 0 rfl rfl 2 (by decide) (X.hts _ q293) (fun _ h9 => h9) rfl (by decide +kernel) (by rcases hsp with rfl | ⟨z9, rfl⟩ <;> rfl) (by rcases hsp with rfl | ⟨z9, rfl⟩ <;> rfl) (Nat.le_of_ble_eq_true rfl) dJ3_init_2_20 (fun H locs hP hD hS => ?_)
  have M : gM D A s [(a, .inr (14, [.ref a, us, sp, .null, .null, .int 0, .int 0, .int 0]))] H locs := ⟨hP, hD, hS⟩
  refine lv_iload hx hb dJ3_init_2_23 (lv_at hl 4 rfl) ?_
  refine lv_if_eq (tgt := 36) hx hb dJ3_init_2_25 (by decide) (fun c_1 => ?_) (fun c_1 => absurd c_1 (by decide))
  refine lv_aload_n hx hb dJ3_init_2_36 rfl (lv_at hl 0 rfl) ?_
  refine lv_null hx hb dJ3_init_2_37 ?_
  refine va_put (cl := xCl) (D := D) (ci := 14) (fs := [.ref a, us, sp, .null, .null, .int 0, .int 0, .int 0]) (v := .null) (ty := .array (.object "java/lang/StackTraceElement")) X.hx X.hb X.hts in_X6 tyX6 tyX6_ok nmX6 X.ow X.K M.1 M.2.1 M.2.2 0 rfl rfl 1 (by decide) (X.hts _ q292) (fun _ h9 => h9) rfl (by decide +kernel) rfl rfl (Nat.le_of_ble_eq_true rfl) dJ3_init_2_38 (fun H locs hP hD hS => ?_)
  have M : gM D A s [(a, .inr (14, [.ref a, .null, sp, .null, .null, .int 0, .int 0, .int 0]))] H locs := ⟨hP, hD, hS⟩
  refine lv_aload_n hx hb dJ3_init_2_41 rfl (lv_at hl 0 rfl) ?_
  refine lv_aload_nN hx hb dJ3_init_2_42 rfl (lv_at hl 1 rfl) ?_
  refine va_put (cl := xCl) (D := D) (ci := 14) (fs := [.ref a, .null, sp, .null, .null, .int 0, .int 0, .int 0]) (v := .null) (ty := .object "java/lang/String") X.hx X.hb X.hts in_X6 tyX6 tyX6_ok nmX6 X.ow X.K M.1 M.2.1 M.2.2 0 rfl rfl 3 (by decide) (X.hts _ q290) (fun _ h9 => h9) rfl (by decide +kernel) rfl rfl (Nat.le_of_ble_eq_true rfl) dJ3_init_2_43 (fun H locs hP hD hS => ?_)
  have M : gM D A s [(a, .inr (14, [.ref a, .null, sp, .null, .null, .int 0, .int 0, .int 0]))] H locs := ⟨hP, hD, hS⟩
  refine lv_aload_n hx hb dJ3_init_2_46 rfl (lv_at hl 0 rfl) ?_
  refine lv_aload_nN hx hb dJ3_init_2_47 rfl (lv_at hl 2 rfl) ?_
  refine va_put (cl := xCl) (D := D) (ci := 14) (fs := [.ref a, .null, sp, .null, .null, .int 0, .int 0, .int 0]) (v := .null) (ty := .object "java/lang/Throwable") X.hx X.hb X.hts in_X6 tyX6 tyX6_ok nmX6 X.ow X.K M.1 M.2.1 M.2.2 0 rfl rfl 0 (by decide) (X.hts _ q291) (fun _ h9 => h9) rfl (by decide +kernel) rfl rfl (Nat.le_of_ble_eq_true rfl) dJ3_init_2_48 (fun H locs hP hD hS => ?_)
  have M : gM D A s [(a, .inr (14, [.null, .null, sp, .null, .null, .int 0, .int 0, .int 0]))] H locs := ⟨hP, hD, hS⟩
  refine lv_iload_n hx hb dJ3_init_2_51 rfl (lv_at hl 3 rfl) ?_
  refine lv_if_ne (tgt := 60) hx hb dJ3_init_2_52 (by decide) (fun c_2 => absurd c_2 (by decide)) (fun c_2 => ?_)
  refine lv_aload_n hx hb dJ3_init_2_55 rfl (lv_at hl 0 rfl) ?_
  refine lv_null hx hb dJ3_init_2_56 ?_
  refine va_put (cl := xCl) (D := D) (ci := 14) (fs := [.null, .null, sp, .null, .null, .int 0, .int 0, .int 0]) (v := .null) (ty := .object "java/util/List") X.hx X.hb X.hts in_X6 tyX6 tyX6_ok nmX6 X.ow X.K M.1 M.2.1 M.2.2 0 rfl rfl 2 (by decide) (X.hts _ q293) (fun _ h9 => h9) rfl (by decide +kernel) rfl rfl (Nat.le_of_ble_eq_true rfl) dJ3_init_2_57 (fun H locs hP hD hS => ?_)
  have M : gM D A s [(a, .inr (14, [.null, .null, .null, .null, .null, .int 0, .int 0, .int 0]))] H locs := ⟨hP, hD, hS⟩
  exact W.vret hx hb hr (fun t9 ht9 hW9 => ⟨⟨(), rfl, trivial, by rw [ht9]; exact M.1, M.2.1⟩, M.2.2.F ht9⟩) M.2.2.2.2 dJ3_init_2_60

set_option maxHeartbeats 4000000 in
set_option maxRecDepth 100000 in
theorem metJ4_init_X6 (l : Launch) (D : va_G) (dA : Nat → ClassId) (A : Nat → Prop) (e0 : Nat) (a : Nat) : Met l yJ4_init (ws_ yJ4_init cJ4_init 5 none) ({ frames := 2, cells := 0, slots := 0, locals := 64 } : Room) (va_Pc [.ref a, .null, .null, .int 0, .int 0] (fun U => xC D dA A e0 U ∧ va_P D xCl [(a, .inr (14, [.null, .null, .null, .null, .null, .int 0, .int 0, .int 0]))] U.heap ∧ va_D A [(a, .inr (14, [.null, .null, .null, .null, .null, .int 0, .int 0, .int 0]))])) (va_Qv (fun _ : Unit => True) (fun _ t => va_P D xCl [(a, .inr (14, [.null, .null, .null, .null, .null, .int 0, .int 0, .int 0]))] t.heap ∧ va_D A [(a, .inr (14, [.null, .null, .null, .null, .null, .int 0, .int 0, .int 0]))]) A) 0 0 A := by
  refine Met.ofW (cc := cJ4_init) (maxL := 5) (ret := none) (by decide) rfl ?_
  intro p e s m args below meth c s₁ B hml hv
  obtain ⟨rfl, hC, hP, hD⟩ := hv
  have hx := B.exec
  have hb := B.bytes
  have hr := B.returns
  have hts := atoms_spec (ws := (ws_ yJ4_init cJ4_init 5 none)) B.pre
  have hts : ∀ w ∈ lw_all, w.before _ s = true := fun w h => hts w (List.mem_cons_of_mem _ h)
  have hown : s.vm.findClass RJ4 = some m.cls := findClass_of_methodNamed B.named
  have hlocks := B.notSynchronized
  have S : CallFix p m c cJ4_init 5 s ([.ref a, .null, .null, .int 0, .int 0] : List Value).toArray lw_all RJ4 := ⟨hx, hb, hml, hown, hts⟩
  have X : xX RJ4 p s m ([.ref a, .null, .null, .int 0, .int 0] : List Value).toArray c cJ4_init 5 D dA A e0 := ⟨S, hC⟩
  have hin : meth.name = "<init>" := (name_of_methodNamed B.named B.method).1
  have M : gM D A s [(a, .inr (14, [.null, .null, .null, .null, .null, .int 0, .int 0, .int 0]))] s.heap [] := ⟨hP, hD, va_S.rf⟩
  have hl := lv_entry ([.ref a, .null, .null, .int 0, .int 0]) (n := 5) (Nat.le_of_ble_eq_true rfl)
  rw [lg_entry_eq]
  generalize (lg_sl ([.ref a, .null, .null, .int 0, .int 0]) ++ List.replicate (5 - (lg_sl ([.ref a, .null, .null, .int 0, .int 0])).length) Slot.unset).toArray = ls at hl ⊢
  have hl : lv_has ls 5 [(0, .ref a), (1, .null), (2, .null), (3, .int 0), (4, .int 0)] := hl
  refine lv_aload_n hx hb dJ4_init_0 rfl (lv_at hl 0 rfl) ?_
  refine lv_aload_nN hx hb dJ4_init_1 rfl (lv_at hl 1 rfl) ?_
  refine lv_aload_nN hx hb dJ4_init_2 rfl (lv_at hl 2 rfl) ?_
  refine lv_iload_n hx hb dJ4_init_3 rfl (lv_at hl 3 rfl) ?_
  refine lv_iload hx hb dJ4_init_4 (lv_at hl 4 rfl) ?_
  have hPc := M.1.sub (ws' := [(a, .inr (14, [.null, .null, .null, .null, .null, .int 0, .int 0, .int 0]))]) [0] rfl
  have hDc := M.2.1.sub (ws' := [(a, .inr (14, [.null, .null, .null, .null, .null, .int 0, .int 0, .int 0]))]) [0] (by decide) rfl
  have hFc := va_free (wc := [(a, .inr (14, [.null, .null, .null, .null, .null, .int 0, .int 0, .int 0]))]) M.2.1 M.2.2 X.hA [0] rfl
  refine va_callv (va_runI (As := [.null, .null, .int 0, .int 0]) (rest := []) X.1 (metJ3_init_2_X6 l D dA (va_A [(a, .inr (14, [.null, .null, .null, .null, .null, .int 0, .int 0, .int 0]))] s.heap.size) e0 a) (cwI 4 hts (lw_meth q286) rfl rfl rfl (hts _ q63) (hts _ q284) (hts _ q285) rfl (by decide +kernel) ⟨Nat.le_of_ble_eq_true rfl, Nat.le_of_ble_eq_true rfl⟩) ⟨gPre_blindD, fun U hU hW => ⟨rfl, X.Cn M.2.2 hFc hU hW, by rw [hU]; exact hPc, hDc.self⟩⟩ rfl rfl hl.1 rfl (lv_room (Nat.le_of_ble_eq_true rfl)) dJ4_init_6 ⟨Nat.le_of_ble_eq_true rfl, Nat.le_of_ble_eq_true rfl⟩) M.2.2 (fun q _ h => hFc q h) hFc (fun u9 t9 H locs ht9 hvm9 hp9 hB9 hz9 hk9 hS => ?_)
  obtain ⟨hP1, hD1⟩ := hB9
  rw [ht9] at hP1
  obtain ⟨hP, hD⟩ := va_join (wr := []) (w1 := [(a, .inr (14, [.null, .null, .null, .null, .null, .int 0, .int 0, .int 0]))]) M.1 M.2.1 [0] [] rfl rfl (by decide) (by decide) hk9 hFc hP1 hD1
  have M : gM D A s [(a, .inr (14, [.null, .null, .null, .null, .null, .int 0, .int 0, .int 0]))] H locs := ⟨hP, hD, hS⟩
  exact W.vret hx hb hr (fun t9 ht9 hW9 => ⟨⟨(), rfl, trivial, by rw [ht9]; exact M.1, M.2.1⟩, M.2.2.F ht9⟩) M.2.2.2.2 dJ4_init_9

set_option maxHeartbeats 4000000 in
set_option maxRecDepth 100000 in
theorem metX6_init (l : Launch) (D : va_G) (dA : Nat → ClassId) (A : Nat → Prop) (e0 : Nat) (a : Nat) (n : Int32) (pl : Int32) : Met l yX6_init (ws_ yX6_init cX6_init 3 none) ({ frames := 3, cells := 0, slots := 0, locals := 88 } : Room) (va_Pc [.ref a, .int n, .int pl] (fun U => xC D dA A e0 U ∧ va_P D xCl [(a, .inr (14, [.null, .null, .null, .null, .null, .int 0, .int 0, .int 0]))] U.heap ∧ va_D A [(a, .inr (14, [.null, .null, .null, .null, .null, .int 0, .int 0, .int 0]))])) (va_Qv (fun _ : Unit => True) (fun _ t => va_P D xCl [(a, .inr (14, [.null, .null, .null, .null, .null, .int 0, .int n, .int pl]))] t.heap ∧ va_D A [(a, .inr (14, [.null, .null, .null, .null, .null, .int 0, .int n, .int pl]))]) A) 0 0 A := by
  refine Met.ofW (cc := cX6_init) (maxL := 3) (ret := none) (by decide) rfl ?_
  intro p e s m args below meth c s₁ B hml hv
  obtain ⟨rfl, hC, hP, hD⟩ := hv
  have hx := B.exec
  have hb := B.bytes
  have hr := B.returns
  have hts := atoms_spec (ws := (ws_ yX6_init cX6_init 3 none)) B.pre
  have hts : ∀ w ∈ lw_all, w.before _ s = true := fun w h => hts w (List.mem_cons_of_mem _ h)
  have hown : s.vm.findClass RX6 = some m.cls := findClass_of_methodNamed B.named
  have hlocks := B.notSynchronized
  have S : CallFix p m c cX6_init 3 s ([.ref a, .int n, .int pl] : List Value).toArray lw_all RX6 := ⟨hx, hb, hml, hown, hts⟩
  have X : xX RX6 p s m ([.ref a, .int n, .int pl] : List Value).toArray c cX6_init 3 D dA A e0 := ⟨S, hC⟩
  have hin : meth.name = "<init>" := (name_of_methodNamed B.named B.method).1
  have M : gM D A s [(a, .inr (14, [.null, .null, .null, .null, .null, .int 0, .int 0, .int 0]))] s.heap [] := ⟨hP, hD, va_S.rf⟩
  have hl := lv_entry ([.ref a, .int n, .int pl]) (n := 3) (Nat.le_of_ble_eq_true rfl)
  rw [lg_entry_eq]
  generalize (lg_sl ([.ref a, .int n, .int pl]) ++ List.replicate (3 - (lg_sl ([.ref a, .int n, .int pl])).length) Slot.unset).toArray = ls at hl ⊢
  have hl : lv_has ls 3 [(0, .ref a), (1, .int n), (2, .int pl)] := hl
  refine lv_aload_n hx hb dX6_init_0 rfl (lv_at hl 0 rfl) ?_
  refine lv_null hx hb dX6_init_1 ?_
  refine lv_null hx hb dX6_init_2 ?_
  refine lv_iconst (v := 0) hx hb dX6_init_3 (by decide) ?_
  refine lv_iconst (v := 0) hx hb dX6_init_4 (by decide) ?_
  have hPc := M.1.sub (ws' := [(a, .inr (14, [.null, .null, .null, .null, .null, .int 0, .int 0, .int 0]))]) [0] rfl
  have hDc := M.2.1.sub (ws' := [(a, .inr (14, [.null, .null, .null, .null, .null, .int 0, .int 0, .int 0]))]) [0] (by decide) rfl
  have hFc := va_free (wc := [(a, .inr (14, [.null, .null, .null, .null, .null, .int 0, .int 0, .int 0]))]) M.2.1 M.2.2 X.hA [0] rfl
  refine va_callv (va_runI (As := [.null, .null, .int 0, .int 0]) (rest := []) X.1 (metJ4_init_X6 l D dA (va_A [(a, .inr (14, [.null, .null, .null, .null, .null, .int 0, .int 0, .int 0]))] s.heap.size) e0 a) (cwI 4 hts (lw_meth q283) rfl rfl rfl (hts _ q64) (hts _ q691) (hts _ q282) rfl (by decide +kernel) ⟨Nat.le_of_ble_eq_true rfl, Nat.le_of_ble_eq_true rfl⟩) ⟨gPre_blindD, fun U hU hW => ⟨rfl, X.Cn M.2.2 hFc hU hW, by rw [hU]; exact hPc, hDc.self⟩⟩ rfl rfl hl.1 rfl (lv_room (Nat.le_of_ble_eq_true rfl)) dX6_init_5 ⟨Nat.le_of_ble_eq_true rfl, Nat.le_of_ble_eq_true rfl⟩) M.2.2 (fun q _ h => hFc q h) hFc (fun u9 t9 H locs ht9 hvm9 hp9 hB9 hz9 hk9 hS => ?_)
  obtain ⟨hP1, hD1⟩ := hB9
  rw [ht9] at hP1
  obtain ⟨hP, hD⟩ := va_join (wr := []) (w1 := [(a, .inr (14, [.null, .null, .null, .null, .null, .int 0, .int 0, .int 0]))]) M.1 M.2.1 [0] [] rfl rfl (by decide) (by decide) hk9 hFc hP1 hD1
  have M : gM D A s [(a, .inr (14, [.null, .null, .null, .null, .null, .int 0, .int 0, .int 0]))] H locs := ⟨hP, hD, hS⟩
  refine lv_aload_n hx hb dX6_init_8 rfl (lv_at hl 0 rfl) ?_
  refine lv_iload_n hx hb dX6_init_9 rfl (lv_at hl 1 rfl) ?_
  refine va_putF (cl := xCl) (D := D) (ci := 14) (fs := [.null, .null, .null, .null, .null, .int 0, .int 0, .int 0]) (v := .int n) (ty := .int) X.hx X.hb X.hts in_X6 tyX6 tyX6_ok nmX6 X.ow X.K M.1 M.2.1 M.2.2 0 rfl rfl 6 (by decide) (X.hts _ q692) (fun _ h9 => h9) rfl hin rfl (by decide +kernel) rfl rfl (Nat.le_of_ble_eq_true rfl) dX6_init_10 (fun H locs hP hD hS => ?_)
  have M : gM D A s [(a, .inr (14, [.null, .null, .null, .null, .null, .int 0, .int n, .int 0]))] H locs := ⟨hP, hD, hS⟩
  refine lv_aload_n hx hb dX6_init_13 rfl (lv_at hl 0 rfl) ?_
  refine lv_iload_n hx hb dX6_init_14 rfl (lv_at hl 2 rfl) ?_
  refine va_putF (cl := xCl) (D := D) (ci := 14) (fs := [.null, .null, .null, .null, .null, .int 0, .int n, .int 0]) (v := .int pl) (ty := .int) X.hx X.hb X.hts in_X6 tyX6 tyX6_ok nmX6 X.ow X.K M.1 M.2.1 M.2.2 0 rfl rfl 7 (by decide) (X.hts _ q694) (fun _ h9 => h9) rfl hin rfl (by decide +kernel) rfl rfl (Nat.le_of_ble_eq_true rfl) dX6_init_15 (fun H locs hP hD hS => ?_)
  have M : gM D A s [(a, .inr (14, [.null, .null, .null, .null, .null, .int 0, .int n, .int pl]))] H locs := ⟨hP, hD, hS⟩
  exact W.vret hx hb hr (fun t9 ht9 hW9 => ⟨⟨(), rfl, trivial, by rw [ht9]; exact M.1, M.2.1⟩, M.2.2.F ht9⟩) M.2.2.2.2 dX6_init_18


set_option maxHeartbeats 4000000 in
set_option maxRecDepth 100000 in
theorem metX0_must_t (l : Launch) (n : Int32) : Met l yX0_must (ws_ yX0_must cX0_must 2 none) ({ frames := 0, cells := 0, slots := 0, locals := 0 } : Room) (va_Pc [.int 1, .int n] (fun _ => True)) (va_Sv (fun _ => True)) 0 0 (fun _ => False) := by
  refine Met.ofW (cc := cX0_must) (maxL := 2) (ret := none) (by decide) rfl ?_
  intro p e s m args below meth c s₁ B hml hv
  obtain ⟨rfl, -⟩ := hv
  have hx := B.exec
  have hb := B.bytes
  have hr := B.returns
  have hts := atoms_spec (ws := (ws_ yX0_must cX0_must 2 none)) B.pre
  have hts : ∀ w ∈ lw_all, w.before _ s = true := fun w h => hts w (List.mem_cons_of_mem _ h)
  have hl := lv_entry ([.int 1, .int n]) (n := 2) (Nat.le_of_ble_eq_true rfl)
  rw [lg_entry_eq]
  generalize (lg_sl ([.int 1, .int n]) ++ List.replicate (2 - (lg_sl ([.int 1, .int n])).length) Slot.unset).toArray = ls at hl ⊢
  have hl : lv_has ls 2 [(0, .int 1), (1, .int n)] := hl
  refine lv_iload_n hx hb dX0_must_0 rfl (lv_at hl 0 rfl) ?_
  refine lv_if_ne (tgt := 13) hx hb dX0_must_1 (by decide) (fun c_1 => ?_) (fun c_1 => absurd c_1 (by decide))
  exact W.vret hx hb hr (fun t9 ht9 hW9 => ⟨rfl, trivial, ht9⟩) (fun _ h9 => by cases h9) dX0_must_13

set_option maxHeartbeats 4000000 in
set_option maxRecDepth 100000 in
theorem metX0_must_f (l : Launch) (D : va_G) (dA : Nat → ClassId) (A : Nat → Prop) (e0 : Nat) (n : Int32) : vx_Met l yX0_must (ws_ yX0_must cX0_must 2 none) ({ frames := 4, cells := 1, slots := 7, locals := 109 } : Room) (va_Pc [.int 0, .int n] (fun U => xC D dA A e0 U ∧ va_P D xCl [] U.heap ∧ va_D A [])) (fun _ _ _ _ => False) (xThr D A n) 1 7 A := by
  refine vx_ofW (cc := cX0_must) (maxL := 2) (ret := none) (by decide) rfl ?_
  intro p e s m args below meth c s₁ B hml htb hv
  obtain ⟨rfl, hC, hP, hD⟩ := hv
  have hx := B.exec
  have hb := B.bytes
  have hr := B.returns
  have hts := atoms_spec (ws := (ws_ yX0_must cX0_must 2 none)) B.pre
  have hts : ∀ w ∈ lw_all, w.before _ s = true := fun w h => hts w (List.mem_cons_of_mem _ h)
  have hown : s.vm.findClass RX0 = some m.cls := findClass_of_methodNamed B.named
  have hlocks := B.notSynchronized
  have S : CallFix p m c cX0_must 2 s ([.int 0, .int n] : List Value).toArray lw_all RX0 := ⟨hx, hb, hml, hown, hts⟩
  have X : xX RX0 p s m ([.int 0, .int n] : List Value).toArray c cX0_must 2 D dA A e0 := ⟨S, hC⟩
  have M : gM D A s [] s.heap [] := ⟨hP, hD, va_S.rf⟩
  have hl := lv_entry ([.int 0, .int n]) (n := 2) (Nat.le_of_ble_eq_true rfl)
  rw [lg_entry_eq]
  generalize (lg_sl ([.int 0, .int n]) ++ List.replicate (2 - (lg_sl ([.int 0, .int n])).length) Slot.unset).toArray = ls at hl ⊢
  have hl : lv_has ls 2 [(0, .int 0), (1, .int n)] := hl
  refine lv_iload_n hx hb dX0_must_0 rfl (lv_at hl 0 rfl) ?_
  refine lv_if_ne (tgt := 13) hx hb dX0_must_1 (by decide) (fun c_1 => absurd c_1 (by decide)) (fun c_1 => ?_)
  refine va_new (ci := 13) (fs := [.null, .null, .null, .null, .null, .int 0, .int 0]) X.hx X.hb X.hts in_X3 tyX3 tyX3_ok X.ow (X.hts _ q225) (X.hts _ q238) (X.hts _ q65) X.K M.1 M.2.1 M.2.2 X.hA rfl (fun j hj => by rcases (show j = 0 ∨ j = 1 ∨ j = 2 ∨ j = 3 ∨ j = 4 ∨ j = 5 ∨ j = 6 by omega) with rfl | rfl | rfl | rfl | rfl | rfl | rfl <;> rfl) (Nat.le_of_ble_eq_true rfl) (Nat.le_of_ble_eq_true rfl) dX0_must_4 (fun q_2 H hP hD hS => ?_)
  have M : gM D A s [(q_2, .inr (13, [.null, .null, .null, .null, .null, .int 0, .int 0]))] H _ := ⟨hP, hD, hS⟩
  refine W.widen (k := 1) (n := 7) (Nat.le_of_ble_eq_true rfl) (Nat.le_of_ble_eq_true rfl) ?_
  refine lv_dup hx hb dX0_must_7 rfl ?_
  refine lv_iload_n hx hb dX0_must_8 rfl (lv_at hl 1 rfl) ?_
  have hPc := M.1.sub (ws' := [(q_2, .inr (13, [.null, .null, .null, .null, .null, .int 0, .int 0]))]) [0] rfl
  have hDc := M.2.1.sub (ws' := [(q_2, .inr (13, [.null, .null, .null, .null, .null, .int 0, .int 0]))]) [0] (by decide) rfl
  have hFc := va_free (wc := [(q_2, .inr (13, [.null, .null, .null, .null, .null, .int 0, .int 0]))]) M.2.1 M.2.2 X.hA [0] rfl
  refine va_callv (va_runI (As := [.int n]) (rest := [.ref q_2]) X.1 (metX3_init l D dA (va_A [(q_2, .inr (13, [.null, .null, .null, .null, .null, .int 0, .int 0]))] H.size) e0 q_2 n) (cwI 1 hts (lw_meth q280) rfl rfl rfl (hts _ q65) (hts _ q278) (hts _ q279) rfl (by decide +kernel) ⟨Nat.le_of_ble_eq_true rfl, Nat.le_of_ble_eq_true rfl⟩) ⟨gPre_blindD, fun U hU hW => ⟨rfl, X.Cn M.2.2 hFc hU hW, by rw [hU]; exact hPc, hDc.self⟩⟩ rfl rfl hl.1 rfl (lv_room (Nat.le_of_ble_eq_true rfl)) dX0_must_9 ⟨Nat.le_of_ble_eq_true rfl, Nat.le_of_ble_eq_true rfl⟩) M.2.2 (fun q _ h => hFc q h) hFc (fun u9 t9 H locs ht9 hvm9 hp9 hB9 hz9 hk9 hS => ?_)
  obtain ⟨hP1, hD1⟩ := hB9
  rw [ht9] at hP1
  obtain ⟨hP, hD⟩ := va_join (wr := []) (w1 := [(q_2, .inr (13, [.null, .null, .null, .null, .null, .int 0, .int n]))]) M.1 M.2.1 [0] [] rfl rfl (by decide) (by decide) hk9 hFc hP1 hD1
  have M : gM D A s [(q_2, .inr (13, [.null, .null, .null, .null, .null, .int 0, .int n]))] H locs := ⟨hP, hD, hS⟩
  refine vx_athrow hx hb dX0_must_12 ?_
  obtain ⟨ce9, hce9, hcv9, hcl9⟩ := x_recvN (ci := 13) (q0 := 0) X.K M.1 rfl rfl
  exact vx_out (fun x9 hx9 => (htb x9 hx9).elim) hlocks hce9 hcv9 hcl9 (fun t9 ht9 hA9 => ⟨(), trivial, ⟨rfl, M.2.1.2 0 _ rfl, by rw [ht9]; exact M.1 0 _ rfl⟩, M.2.2.F ht9⟩) M.2.2.2.2 (Nat.le_of_ble_eq_true rfl) (Nat.le_of_ble_eq_true rfl)

