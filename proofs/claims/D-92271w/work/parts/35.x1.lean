/-! LISTS: size, get -/
set_option maxHeartbeats 4000000 in
set_option maxRecDepth 100000 in
theorem metJ16_checkIndex (l : Launch) (p1 : Int32) (p2 : Int32) (h0 : 0 ≤ p1) (h1 : p1 < p2) : Met l yJ16_checkIndex (ws_ yJ16_checkIndex cJ16_checkIndex 3 (some .int)) ({ frames := 0, cells := 0, slots := 0, locals := 0 } : Room) (va_Pc [.int p1, .int p2, .null] (fun _ => True)) (vp_Si (fun r => r = p1)) 0 0 (fun _ => False) := by
  refine Met.ofW (cc := cJ16_checkIndex) (maxL := 3) (ret := (some .int)) (by decide) rfl ?_
  intro p e s m args below meth c s₁ B hml hv
  obtain ⟨rfl, -⟩ := hv
  have hx := B.exec
  have hb := B.bytes
  have hr := B.returns
  have hts := atoms_spec (ws := (ws_ yJ16_checkIndex cJ16_checkIndex 3 (some .int))) B.pre
  have hts : ∀ w ∈ lw_all, w.before _ s = true := fun w h => hts w (List.mem_cons_of_mem _ h)
  have hown : s.vm.findClass RJ16 = some m.cls := findClass_of_methodNamed B.named
  have hlocks := B.notSynchronized
  have S : CallFix p m c cJ16_checkIndex 3 s ([.int p1, .int p2, .null] : List Value).toArray lw_all RJ16 := ⟨hx, hb, hml, hown, hts⟩
  have hl := lv_entry ([.int p1, .int p2, .null]) (n := 3) (Nat.le_of_ble_eq_true rfl)
  rw [lg_entry_eq]
  generalize (lg_sl ([.int p1, .int p2, .null]) ++ List.replicate (3 - (lg_sl ([.int p1, .int p2, .null])).length) Slot.unset).toArray = ls at hl ⊢
  have hl : lv_has ls 3 [(0, .int p1), (1, .int p2), (2, .null)] := hl
  refine lv_iload_n hx hb dJ16_checkIndex_0 rfl (lv_at hl 0 rfl) ?_
  refine lb_if_lt (tgt := 9) hx hb dJ16_checkIndex_1 (by decide) (fun c_1 c_1' => absurd (Int32.not_lt.mpr h0 c_1) (fun h9 => h9)) (fun c_1 c_1' => ?_)
  refine lv_iload_n hx hb dJ16_checkIndex_4 rfl (lv_at hl 0 rfl) ?_
  refine lv_iload_n hx hb dJ16_checkIndex_5 rfl (lv_at hl 1 rfl) ?_
  refine lb_icmp_lt (tgt := 16) hx hb dJ16_checkIndex_6 (by decide) (fun c_2 c_2' => ?_) (fun c_2 c_2' => absurd (Int32.not_lt.mpr c_2 h1) (fun h9 => h9))
  refine lv_iload_n hx hb dJ16_checkIndex_16 rfl (lv_at hl 0 rfl) ?_
  exact W.iret (v := p1) hx hb hr (fun t9 ht9 hW9 => ⟨_, rfl, rfl, ht9⟩) (fun _ h9 => by cases h9) dJ16_checkIndex_17

set_option maxHeartbeats 4000000 in
set_option maxRecDepth 100000 in
theorem metJ17_checkIndex (l : Launch) (p1 : Int32) (p2 : Int32) (h0 : 0 ≤ p1) (h1 : p1 < p2) : Met l yJ17_checkIndex (ws_ yJ17_checkIndex cJ17_checkIndex 2 (some .int)) ({ frames := 1, cells := 0, slots := 0, locals := 22 } : Room) (va_Pc [.int p1, .int p2] (fun _ => True)) (vp_Si (fun r => r = p1)) 0 0 (fun _ => False) := by
  refine Met.ofW (cc := cJ17_checkIndex) (maxL := 2) (ret := (some .int)) (by decide) rfl ?_
  intro p e s m args below meth c s₁ B hml hv
  obtain ⟨rfl, -⟩ := hv
  have hx := B.exec
  have hb := B.bytes
  have hr := B.returns
  have hts := atoms_spec (ws := (ws_ yJ17_checkIndex cJ17_checkIndex 2 (some .int))) B.pre
  have hts : ∀ w ∈ lw_all, w.before _ s = true := fun w h => hts w (List.mem_cons_of_mem _ h)
  have hown : s.vm.findClass RJ17 = some m.cls := findClass_of_methodNamed B.named
  have hlocks := B.notSynchronized
  have S : CallFix p m c cJ17_checkIndex 2 s ([.int p1, .int p2] : List Value).toArray lw_all RJ17 := ⟨hx, hb, hml, hown, hts⟩
  have hl := lv_entry ([.int p1, .int p2]) (n := 2) (Nat.le_of_ble_eq_true rfl)
  rw [lg_entry_eq]
  generalize (lg_sl ([.int p1, .int p2]) ++ List.replicate (2 - (lg_sl ([.int p1, .int p2])).length) Slot.unset).toArray = ls at hl ⊢
  have hl : lv_has ls 2 [(0, .int p1), (1, .int p2)] := hl
  refine lv_iload_n hx hb dJ17_checkIndex_0 rfl (lv_at hl 0 rfl) ?_
  refine lv_iload_n hx hb dJ17_checkIndex_1 rfl (lv_at hl 1 rfl) ?_
  refine lv_null hx hb dJ17_checkIndex_2 ?_
  refine s_cI (v := p1) (As := [.int p1, .int p2, .null]) (rest := []) S (metJ16_checkIndex l p1 p2 h0 h1) (va_cwS 3 hts (lw_S q808 q602 q80 q603) rfl rfl rfl (by decide +kernel) ⟨Nat.le_of_ble_eq_true rfl, Nat.le_of_ble_eq_true rfl⟩) rfl hl.1 rfl (Nat.le_of_ble_eq_true rfl) dJ17_checkIndex_3 ⟨Nat.le_of_ble_eq_true rfl, Nat.le_of_ble_eq_true rfl⟩ ?_
  exact W.iret (v := p1) hx hb hr (fun t9 ht9 hW9 => ⟨_, rfl, rfl, ht9⟩) (fun _ h9 => by cases h9) dJ17_checkIndex_6

set_option maxHeartbeats 4000000 in
set_option maxRecDepth 100000 in
theorem metJ2_size (l : Launch) (D : va_G) (dA : Nat → ClassId) (A : Nat → Prop) (e0 : Nat) (a : Nat) (mc : Int32) (ed : Nat) (n : Int32) : Met l yJ2_size (ws_ yJ2_size cJ2_size 1 (some .int)) ({ frames := 0, cells := 0, slots := 0, locals := 0 } : Room) (va_Pc [.ref a] (fun U => xC D dA A e0 U ∧ va_P D xCl [(a, .inr (2, [.int mc, .ref ed, .int n]))] U.heap)) (vp_Si (fun r => r = n)) 0 0 (fun _ => False) := by
  refine Met.ofW (cc := cJ2_size) (maxL := 1) (ret := (some .int)) (by decide) rfl ?_
  intro p e s m args below meth c s₁ B hml hv
  obtain ⟨rfl, hC, hP⟩ := hv
  have hx := B.exec
  have hb := B.bytes
  have hr := B.returns
  have hts := atoms_spec (ws := (ws_ yJ2_size cJ2_size 1 (some .int))) B.pre
  have hts : ∀ w ∈ lw_all, w.before _ s = true := fun w h => hts w (List.mem_cons_of_mem _ h)
  have hown : s.vm.findClass RJ2 = some m.cls := findClass_of_methodNamed B.named
  have hlocks := B.notSynchronized
  have S : CallFix p m c cJ2_size 1 s ([.ref a] : List Value).toArray lw_all RJ2 := ⟨hx, hb, hml, hown, hts⟩
  have X : xX RJ2 p s m ([.ref a] : List Value).toArray c cJ2_size 1 D dA A e0 := ⟨S, hC⟩
  have M : gQ D s [(a, .inr (2, [.int mc, .ref ed, .int n]))] s.heap [] := ⟨hP, trivial⟩
  have hl := lv_entry ([.ref a]) (n := 1) (Nat.le_of_ble_eq_true rfl)
  rw [lg_entry_eq]
  generalize (lg_sl ([.ref a]) ++ List.replicate (1 - (lg_sl ([.ref a])).length) Slot.unset).toArray = ls at hl ⊢
  have hl : lv_has ls 1 [(0, .ref a)] := hl
  refine lv_aload_n hx hb dJ2_size_0 rfl (lv_at hl 0 rfl) ?_
  refine va_get (cl := xCl) (ci := 2) (fs := [.int mc, .ref ed, .int n]) X.hx X.hb X.hts in_J2 X.ow X.K M.1 0 rfl rfl 2 (by decide) (X.hts _ q119) (fun _ h9 => h9) rfl dJ2_size_1 ?_
  exact W.iret (v := n) hx hb hr (fun t9 ht9 hW9 => ⟨_, rfl, rfl, ht9⟩) (fun _ h9 => by cases h9) dJ2_size_4

set_option maxHeartbeats 4000000 in
set_option maxRecDepth 100000 in
theorem metJ2_elementData (l : Launch) (D : va_G) (dA : Nat → ClassId) (A : Nat → Prop) (e0 : Nat) (a : Nat) (mc : Int32) (ed : Nat) (n : Int32) (cap : Nat) (r : Nat → Option Nat) (k : Nat) (hk : k < cap) (hc : cap < 2 ^ 31) : Met l yJ2_elementData (ws_ yJ2_elementData cJ2_elementData 2 (some (.object "java/lang/Object"))) ({ frames := 0, cells := 0, slots := 0, locals := 0 } : Room) (va_Pc [.ref a, .int (nI k)] (fun U => xC D dA A e0 U ∧ va_P D xCl [(a, .inr (2, [.int mc, .ref ed, .int n])), (ed, .inl (dA 4, cap, .inr (.inr (.inr (.inr r)))))] U.heap)) (va_Sq (fun o => o = r k)) 0 0 (fun _ => False) := by
  refine Met.ofW (cc := cJ2_elementData) (maxL := 2) (ret := (some (.object "java/lang/Object"))) (by decide) rfl ?_
  intro p e s m args below meth c s₁ B hml hv
  obtain ⟨rfl, hC, hP⟩ := hv
  have hx := B.exec
  have hb := B.bytes
  have hr := B.returns
  have hts := atoms_spec (ws := (ws_ yJ2_elementData cJ2_elementData 2 (some (.object "java/lang/Object")))) B.pre
  have hts : ∀ w ∈ lw_all, w.before _ s = true := fun w h => hts w (List.mem_cons_of_mem _ h)
  have hown : s.vm.findClass RJ2 = some m.cls := findClass_of_methodNamed B.named
  have hlocks := B.notSynchronized
  have S : CallFix p m c cJ2_elementData 2 s ([.ref a, .int (nI k)] : List Value).toArray lw_all RJ2 := ⟨hx, hb, hml, hown, hts⟩
  have X : xX RJ2 p s m ([.ref a, .int (nI k)] : List Value).toArray c cJ2_elementData 2 D dA A e0 := ⟨S, hC⟩
  have M : gQ D s [(a, .inr (2, [.int mc, .ref ed, .int n])), (ed, .inl (dA 4, cap, .inr (.inr (.inr (.inr r)))))] s.heap [] := ⟨hP, trivial⟩
  have hl := lv_entry ([.ref a, .int (nI k)]) (n := 2) (Nat.le_of_ble_eq_true rfl)
  rw [lg_entry_eq]
  generalize (lg_sl ([.ref a, .int (nI k)]) ++ List.replicate (2 - (lg_sl ([.ref a, .int (nI k)])).length) Slot.unset).toArray = ls at hl ⊢
  have hl : lv_has ls 2 [(0, .ref a), (1, .int (nI k))] := hl
  refine lv_aload_n hx hb dJ2_elementData_0 rfl (lv_at hl 0 rfl) ?_
  refine va_get (cl := xCl) (ci := 2) (fs := [.int mc, .ref ed, .int n]) X.hx X.hb X.hts in_J2 X.ow X.K M.1 0 rfl rfl 1 (by decide) (X.hts _ q118) (fun _ h9 => h9) rfl dJ2_elementData_1 ?_
  refine lv_iload_n hx hb dJ2_elementData_4 rfl (lv_at hl 1 rfl) ?_
  refine g_aldq (n := cap) (f := r) (j := k) X M.1 1 4 rfl rfl (vp_in_nI (by omega) (by omega)) (nI_clamp (by omega)) dJ2_elementData_5 ?_
  exact W.aret (v := va_rf (r k)) hx hb hr (Or.inl ⟨_, rfl⟩) (va_rf_or _) (fun t9 ht9 hW9 => ⟨_, rfl, rfl, ht9⟩) (fun _ h9 => by cases h9) dJ2_elementData_6

set_option maxHeartbeats 4000000 in
set_option maxRecDepth 100000 in
theorem metJ2_get (l : Launch) (D : va_G) (dA : Nat → ClassId) (A : Nat → Prop) (e0 : Nat) (a : Nat) (mc : Int32) (ed : Nat) (n : Int32) (cap : Nat) (r : Nat → Option Nat) (k : Nat) (hn : 0 ≤ n) (hk : k < n.toNatClampNeg) (hc : n.toNatClampNeg ≤ cap) (hc2 : cap < 2 ^ 31) : Met l yJ2_get (ws_ yJ2_get cJ2_get 2 (some (.object "java/lang/Object"))) ({ frames := 2, cells := 0, slots := 0, locals := 43 } : Room) (va_Pc [.ref a, .int (nI k)] (fun U => xC D dA A e0 U ∧ va_P D xCl [(a, .inr (2, [.int mc, .ref ed, .int n])), (ed, .inl (dA 4, cap, .inr (.inr (.inr (.inr r)))))] U.heap)) (va_Sq (fun o => o = r k)) 0 0 (fun _ => False) := by
  refine Met.ofW (cc := cJ2_get) (maxL := 2) (ret := (some (.object "java/lang/Object"))) (by decide) rfl ?_
  intro p e s m args below meth c s₁ B hml hv
  obtain ⟨rfl, hC, hP⟩ := hv
  have hx := B.exec
  have hb := B.bytes
  have hr := B.returns
  have hts := atoms_spec (ws := (ws_ yJ2_get cJ2_get 2 (some (.object "java/lang/Object")))) B.pre
  have hts : ∀ w ∈ lw_all, w.before _ s = true := fun w h => hts w (List.mem_cons_of_mem _ h)
  have hown : s.vm.findClass RJ2 = some m.cls := findClass_of_methodNamed B.named
  have hlocks := B.notSynchronized
  have S : CallFix p m c cJ2_get 2 s ([.ref a, .int (nI k)] : List Value).toArray lw_all RJ2 := ⟨hx, hb, hml, hown, hts⟩
  have X : xX RJ2 p s m ([.ref a, .int (nI k)] : List Value).toArray c cJ2_get 2 D dA A e0 := ⟨S, hC⟩
  have M : gQ D s [(a, .inr (2, [.int mc, .ref ed, .int n])), (ed, .inl (dA 4, cap, .inr (.inr (.inr (.inr r)))))] s.heap [] := ⟨hP, trivial⟩
  have hl := lv_entry ([.ref a, .int (nI k)]) (n := 2) (Nat.le_of_ble_eq_true rfl)
  rw [lg_entry_eq]
  generalize (lg_sl ([.ref a, .int (nI k)]) ++ List.replicate (2 - (lg_sl ([.ref a, .int (nI k)])).length) Slot.unset).toArray = ls at hl ⊢
  have hl : lv_has ls 2 [(0, .ref a), (1, .int (nI k))] := hl
  have hkn : nI k < n := by rw [nJ_of hn]; exact nI_lt hk (by omega)
  refine lv_iload_n hx hb dJ2_get_0 rfl (lv_at hl 1 rfl) ?_
  refine lv_aload_n hx hb dJ2_get_1 rfl (lv_at hl 0 rfl) ?_
  refine va_get (cl := xCl) (ci := 2) (fs := [.int mc, .ref ed, .int n]) X.hx X.hb X.hts in_J2 X.ow X.K M.1 0 rfl rfl 2 (by decide) (X.hts _ q119) (fun _ h9 => h9) rfl dJ2_get_2 ?_
  refine s_cI (v := (nI k)) (As := [.int (nI k), .int n]) (rest := []) S (metJ17_checkIndex l (nI k) n (nI_pos' (by omega)) hkn) (va_cwS 2 hts (lw_S q805 q806 q83 q807) rfl rfl rfl (by decide +kernel) ⟨Nat.le_of_ble_eq_true rfl, Nat.le_of_ble_eq_true rfl⟩) rfl hl.1 rfl (Nat.le_of_ble_eq_true rfl) dJ2_get_5 ⟨Nat.le_of_ble_eq_true rfl, Nat.le_of_ble_eq_true rfl⟩ ?_
  refine lv_pop hx hb dJ2_get_8 rfl ?_
  refine lv_aload_n hx hb dJ2_get_9 rfl (lv_at hl 0 rfl) ?_
  refine lv_iload_n hx hb dJ2_get_10 rfl (lv_at hl 1 rfl) ?_
  refine va_csq (W.runV (As := [.int (nI k)]) (rest := []) X.1 (metJ2_elementData l D dA A e0 a mc ed n cap r k (by omega) hc2) (cwV 1 hts (lw_V q809 q810 q811 q60 q812) rfl rfl rfl (by decide +kernel) ⟨Nat.le_of_ble_eq_true rfl, Nat.le_of_ble_eq_true rfl⟩) ⟨gPre_blind, va_recv (cl := xCl) X.K M.1 (ci := 2) (q0 := 0) rfl rfl, fun U hU hW => ⟨rfl, X.C (H := s.heap) va_S.rf hU hW, by rw [hU]; exact M.1.sub [0, 1] rfl⟩⟩ rfl rfl hl.1 rfl (lv_room (Nat.le_of_ble_eq_true rfl)) dJ2_get_11 ⟨Nat.le_of_ble_eq_true rfl, Nat.le_of_ble_eq_true rfl⟩) (fun r9 hr9 => ?_)
  subst hr9
  exact W.aret (v := va_rf (r k)) hx hb hr (Or.inl ⟨_, rfl⟩) (va_rf_or _) (fun t9 ht9 hW9 => ⟨_, rfl, rfl, ht9⟩) (fun _ h9 => by cases h9) dJ2_get_14

