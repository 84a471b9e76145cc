/-! LISTS: insertion; objects made -/
set_option maxHeartbeats 4000000 in
set_option maxRecDepth 100000 in
theorem metJ2_rangeCheckForAdd (l : Launch) (D : va_G) (dA : Nat → ClassId) (A : Nat → Prop) (e0 : Nat) (a : Nat) (mc : Int32) (ed : Nat) (n : Nat) (k : Nat) (hk : k ≤ n) (hn60 : n < 60) : Met l yJ2_rangeCheckForAdd (ws_ yJ2_rangeCheckForAdd cJ2_rangeCheckForAdd 2 none) ({ frames := 0, cells := 0, slots := 0, locals := 0 } : Room) (va_Pc [.ref a, .int (nI k)] (fun U => xC D dA A e0 U ∧ va_P D xCl [(a, .inr (2, [.int mc, .ref ed, .int (nI n)]))] U.heap)) (va_Sv (fun _ => True)) 0 0 (fun _ => False) := by
  refine Met.ofW (cc := cJ2_rangeCheckForAdd) (maxL := 2) (ret := none) (by decide) rfl ?_
  intro p e s m args below meth c s₁ B hml hv
  obtain ⟨rfl, hC, hP⟩ := hv
  have hx := B.exec
  have hb := B.bytes
  have hr := B.returns
  have hts := atoms_spec (ws := (ws_ yJ2_rangeCheckForAdd cJ2_rangeCheckForAdd 2 none)) B.pre
  have hts : ∀ w ∈ lw_all, w.before _ s = true := fun w h => hts w (List.mem_cons_of_mem _ h)
  have hown : s.vm.findClass RJ2 = some m.cls := findClass_of_methodNamed B.named
  have hlocks := B.notSynchronized
  have S : CallFix p m c cJ2_rangeCheckForAdd 2 s ([.ref a, .int (nI k)] : List Value).toArray lw_all RJ2 := ⟨hx, hb, hml, hown, hts⟩
  have X : xX RJ2 p s m ([.ref a, .int (nI k)] : List Value).toArray c cJ2_rangeCheckForAdd 2 D dA A e0 := ⟨S, hC⟩
  have M : gQ D s [(a, .inr (2, [.int mc, .ref ed, .int (nI n)]))] s.heap [] := ⟨hP, trivial⟩
  have hl := lv_entry ([.ref a, .int (nI k)]) (n := 2) (Nat.le_of_ble_eq_true rfl)
  rw [lg_entry_eq]
  generalize (lg_sl ([.ref a, .int (nI k)]) ++ List.replicate (2 - (lg_sl ([.ref a, .int (nI k)])).length) Slot.unset).toArray = ls at hl ⊢
  have hl : lv_has ls 2 [(0, .ref a), (1, .int (nI k))] := hl
  refine lv_iload_n hx hb dJ2_rangeCheckForAdd_0 rfl (lv_at hl 1 rfl) ?_
  refine lv_aload_n hx hb dJ2_rangeCheckForAdd_1 rfl (lv_at hl 0 rfl) ?_
  refine va_get (cl := xCl) (ci := 2) (fs := [.int mc, .ref ed, .int (nI n)]) X.hx X.hb X.hts in_J2 X.ow X.K M.1 0 rfl rfl 2 (by decide) (X.hts _ q119) (fun _ h9 => h9) rfl dJ2_rangeCheckForAdd_2 ?_
  refine ln_icmp_gt (tgt := 12) hx hb (a := k) (b := n) (by omega) (by omega) dJ2_rangeCheckForAdd_5 (by decide) (fun c_1 => absurd (Nat.not_lt.mpr hk c_1) (fun h9 => h9)) (fun c_1 => ?_)
  refine lv_iload_n hx hb dJ2_rangeCheckForAdd_8 rfl (lv_at hl 1 rfl) ?_
  refine lb_if_ge (tgt := 25) hx hb dJ2_rangeCheckForAdd_9 (by decide) (fun c_2 c_2' => ?_) (fun c_2 c_2' => absurd ((show ¬ nI k < 0 from nI_pos (by omega)) c_2) (fun h9 => h9))
  exact W.vret hx hb hr (fun t9 ht9 hW9 => ⟨rfl, trivial, ht9⟩) (fun _ h9 => by cases h9) dJ2_rangeCheckForAdd_25

set_option maxHeartbeats 4000000 in
set_option maxRecDepth 100000 in
theorem metJ2_rangeCheckForAddS (l : Launch) (D : va_G) (dA : Nat → ClassId) (A : Nat → Prop) (e0 : Nat) (a : Nat) (mc : Int32) : Met l yJ2_rangeCheckForAdd (ws_ yJ2_rangeCheckForAdd cJ2_rangeCheckForAdd 2 none) ({ frames := 0, cells := 0, slots := 0, locals := 0 } : Room) (va_Pc [.ref a, .int 0] (fun U => xC D dA A e0 U ∧ va_P D xCl [(a, .inr (2, [.int mc, .ref e0, .int 0]))] U.heap)) (va_Sv (fun _ => True)) 0 0 (fun _ => False) := by
  refine Met.ofW (cc := cJ2_rangeCheckForAdd) (maxL := 2) (ret := none) (by decide) rfl ?_
  intro p e s m args below meth c s₁ B hml hv
  obtain ⟨rfl, hC, hP⟩ := hv
  have hx := B.exec
  have hb := B.bytes
  have hr := B.returns
  have hts := atoms_spec (ws := (ws_ yJ2_rangeCheckForAdd cJ2_rangeCheckForAdd 2 none)) B.pre
  have hts : ∀ w ∈ lw_all, w.before _ s = true := fun w h => hts w (List.mem_cons_of_mem _ h)
  have hown : s.vm.findClass RJ2 = some m.cls := findClass_of_methodNamed B.named
  have hlocks := B.notSynchronized
  have S : CallFix p m c cJ2_rangeCheckForAdd 2 s ([.ref a, .int 0] : List Value).toArray lw_all RJ2 := ⟨hx, hb, hml, hown, hts⟩
  have X : xX RJ2 p s m ([.ref a, .int 0] : List Value).toArray c cJ2_rangeCheckForAdd 2 D dA A e0 := ⟨S, hC⟩
  have M : gQ D s [(a, .inr (2, [.int mc, .ref e0, .int 0]))] s.heap [] := ⟨hP, trivial⟩
  have hl := lv_entry ([.ref a, .int 0]) (n := 2) (Nat.le_of_ble_eq_true rfl)
  rw [lg_entry_eq]
  generalize (lg_sl ([.ref a, .int 0]) ++ List.replicate (2 - (lg_sl ([.ref a, .int 0])).length) Slot.unset).toArray = ls at hl ⊢
  have hl : lv_has ls 2 [(0, .ref a), (1, .int 0)] := hl
  refine lv_iload_n hx hb dJ2_rangeCheckForAdd_0 rfl (lv_at hl 1 rfl) ?_
  refine lv_aload_n hx hb dJ2_rangeCheckForAdd_1 rfl (lv_at hl 0 rfl) ?_
  refine va_get (cl := xCl) (ci := 2) (fs := [.int mc, .ref e0, .int 0]) X.hx X.hb X.hts in_J2 X.ow X.K M.1 0 rfl rfl 2 (by decide) (X.hts _ q119) (fun _ h9 => h9) rfl dJ2_rangeCheckForAdd_2 ?_
  refine lb_icmp_gt (tgt := 12) hx hb dJ2_rangeCheckForAdd_5 (by decide) (fun c_1 c_1' => absurd c_1 (by decide)) (fun c_1 c_1' => ?_)
  refine lv_iload_n hx hb dJ2_rangeCheckForAdd_8 rfl (lv_at hl 1 rfl) ?_
  refine lb_if_ge (tgt := 25) hx hb dJ2_rangeCheckForAdd_9 (by decide) (fun c_2 c_2' => ?_) (fun c_2 c_2' => absurd c_2 (by decide))
  exact W.vret hx hb hr (fun t9 ht9 hW9 => ⟨rfl, trivial, ht9⟩) (fun _ h9 => by cases h9) dJ2_rangeCheckForAdd_25

def xIns (n k y0 : Nat) (r : Nat → Option Nat) (u : Nat × Nat × (Nat → Option Nat)) : Prop := (∀ i, i < k → u.2.2 i = r i) ∧ u.2.2 k = some y0 ∧ (∀ i, k ≤ i → i < n → u.2.2 (i + 1) = r i) ∧ n + 1 ≤ u.2.1 ∧ 0 < u.2.1 ∧ u.2.1 ≤ 90
theorem xIns_up {n k y0 ed cap : Nat} {r f : Nat → Option Nat} (hf : ∀ i, i < n → f i = r i) (hk : k ≤ n) (h1 : n + 1 ≤ cap) (h2 : cap ≤ 90) : xIns n k y0 r (ed, cap, va_up (va_cpy f f k (k + 1) (n - k)) k (some y0)) := by
  refine ⟨fun i hi => ?_, up_s _ _ _, fun i h3 h4 => ?_, h1, by show 0 < cap; omega, h2⟩
  · show va_up _ _ _ i = _
    rw [up_n _ _ (by omega)]
    unfold va_cpy
    rw [if_neg (by omega)]
    exact hf i (by omega)
  · show va_up _ _ _ (i + 1) = _
    rw [up_n _ _ (by omega)]
    unfold va_cpy
    rw [if_pos (by omega), show k + (i + 1 - (k + 1)) = i by omega]
    exact hf i h4
theorem cpy0 {cap c2 n i : Nat} {r : Nat → Option Nat} (he : n = cap) (h1 : cap ≤ c2) (hi : i < n) : va_cpy r (fun _ => none) 0 0 (min cap c2) i = r i := by
  unfold va_cpy
  rw [if_pos ⟨Nat.zero_le _, by rw [Nat.min_eq_left h1]; omega⟩, Nat.zero_add, Nat.sub_zero]
theorem xIns_s {y0 ed : Nat} {r : Nat → Option Nat} : xIns 0 0 y0 r (ed, 10, va_up (va_cpy (fun _ => none) (fun _ => none) 0 1 0) 0 (some y0)) := ⟨fun i hi => absurd hi (Nat.not_lt_zero _), (show va_up (va_cpy (fun _ => none) (fun _ => none) 0 1 0) 0 (some y0) 0 = some y0 from up_s _ _ _), fun i h1 h2 => absurd h2 (Nat.not_lt_zero _), by show 0 + 1 ≤ 10; omega, by show 0 < 10; omega, by show 10 ≤ 90; omega⟩
set_option maxHeartbeats 4000000 in
set_option maxRecDepth 100000 in
theorem metJ2_add_3S (l : Launch) (D : va_G) (dA : Nat → ClassId) (A : Nat → Prop) (e0 : Nat) (a : Nat) (mc : Int32) (y0 : Nat) (r : Nat → Option Nat) : Met l yJ2_add_3 (ws_ yJ2_add_3 cJ2_add_3 5 none) ({ frames := 5, cells := 1, slots := 10, locals := 147 } : Room) (va_Pc [.ref a, .int 0, .ref y0] (fun U => xC D dA A e0 U ∧ va_P D xCl [(a, .inr (2, [.int mc, .ref e0, .int 0]))] U.heap ∧ va_D A [(a, .inr (2, [.int mc, .ref e0, .int 0]))] ∧ ∀ y, y = y0 → xAt A U y)) (va_Qv (xIns 0 0 y0 r) (fun u t => va_P D xCl [(a, .inr (2, [.int (mc + 1), .ref u.1, .int (1)])), (u.1, .inl (dA 4, u.2.1, .inr (.inr (.inr (.inr u.2.2)))))] t.heap ∧ va_D A [(a, .inr (2, [.int (mc + 1), .ref u.1, .int (1)])), (u.1, .inl (dA 4, u.2.1, .inr (.inr (.inr (.inr u.2.2)))))]) A) 1 10 A := by
  refine Met.ofW (cc := cJ2_add_3) (maxL := 5) (ret := none) (by decide) rfl ?_
  intro p e s m args below meth c s₁ B hml hv
  obtain ⟨rfl, hC, hP, hD, hE⟩ := hv
  have hx := B.exec
  have hb := B.bytes
  have hr := B.returns
  have hts := atoms_spec (ws := (ws_ yJ2_add_3 cJ2_add_3 5 none)) B.pre
  have hts : ∀ w ∈ lw_all, w.before _ s = true := fun w h => hts w (List.mem_cons_of_mem _ h)
  have hown : s.vm.findClass RJ2 = some m.cls := findClass_of_methodNamed B.named
  have hlocks := B.notSynchronized
  have S : CallFix p m c cJ2_add_3 5 s ([.ref a, .int 0, .ref y0] : List Value).toArray lw_all RJ2 := ⟨hx, hb, hml, hown, hts⟩
  have X : xX RJ2 p s m ([.ref a, .int 0, .ref y0] : List Value).toArray c cJ2_add_3 5 D dA A e0 := ⟨S, hC⟩
  have M : gM D A s [(a, .inr (2, [.int mc, .ref e0, .int 0]))] s.heap [] := ⟨hP, hD, va_S.rf⟩
  have hl := lv_entry ([.ref a, .int 0, .ref y0]) (n := 5) (Nat.le_of_ble_eq_true rfl)
  rw [lg_entry_eq]
  generalize (lg_sl ([.ref a, .int 0, .ref y0]) ++ List.replicate (5 - (lg_sl ([.ref a, .int 0, .ref y0])).length) Slot.unset).toArray = ls at hl ⊢
  have hl : lv_has ls 5 [(0, .ref a), (1, .int 0), (2, .ref y0)] := hl
  refine lv_aload_n hx hb dJ2_add_3_0 rfl (lv_at hl 0 rfl) ?_
  refine lv_iload_n hx hb dJ2_add_3_1 rfl (lv_at hl 1 rfl) ?_
  refine va_csv (W.runV (As := [.int 0]) (rest := []) X.1 (metJ2_rangeCheckForAddS l D dA A e0 a mc) (cwV 1 hts (lw_V q917 q919 qs16 q60 q920) rfl rfl rfl (by decide +kernel) ⟨Nat.le_of_ble_eq_true rfl, Nat.le_of_ble_eq_true rfl⟩) ⟨gPre_blind, va_recv (cl := xCl) X.K M.1 (ci := 2) (q0 := 0) rfl rfl, fun U hU hW => ⟨rfl, X.C M.2.2 hU hW, by rw [hU]; exact M.1.sub [0] rfl⟩⟩ rfl rfl hl.1 rfl (lv_room (Nat.le_of_ble_eq_true rfl)) dJ2_add_3_2 ⟨Nat.le_of_ble_eq_true rfl, Nat.le_of_ble_eq_true rfl⟩) (fun _ => ?_)
  refine lv_aload_n hx hb dJ2_add_3_5 rfl (lv_at hl 0 rfl) ?_
  refine lv_dup hx hb dJ2_add_3_6 rfl ?_
  refine va_get (cl := xCl) (ci := 2) (fs := [.int mc, .ref e0, .int 0]) X.hx X.hb X.hts in_J2 X.ow X.K M.1 0 rfl rfl 0 (by decide) (X.hts _ q121) (u_same (X.hts _ q122)) rfl dJ2_add_3_7 ?_
  refine lv_iconst (v := 1) hx hb dJ2_add_3_10 (by decide) ?_
  refine lv_iadd hx hb dJ2_add_3_11 ?_
  refine va_put (cl := xCl) (D := D) (ci := 2) (fs := [.int mc, .ref e0, .int 0]) (v := .int (mc + 1)) (ty := .int) X.hx X.hb X.hts in_J2 tyJ2 tyJ2_ok nmJ2 X.ow X.K M.1 M.2.1 M.2.2 0 rfl rfl 0 (by decide) (X.hts _ q121) (u_same (X.hts _ q122)) rfl (by decide +kernel) rfl rfl (Nat.le_of_ble_eq_true rfl) dJ2_add_3_12 (fun H locs hP hD hS => ?_)
  have M : gM D A s [(a, .inr (2, [.int (mc + 1), .ref e0, .int 0]))] H locs := ⟨hP, hD, hS⟩
  refine lv_aload_n hx hb dJ2_add_3_15 rfl (lv_at hl 0 rfl) ?_
  refine va_get (cl := xCl) (ci := 2) (fs := [.int (mc + 1), .ref e0, .int 0]) X.hx X.hb X.hts in_J2 X.ow X.K M.1 0 rfl rfl 2 (by decide) (X.hts _ q119) (fun _ h9 => h9) rfl dJ2_add_3_16 ?_
  refine lv_dup hx hb dJ2_add_3_19 rfl ?_
  refine lv_istore_n (lv' := [(3, .int 0), (0, .ref a), (1, .int 0), (2, .ref y0)]) hx hb dJ2_add_3_20 rfl hl (by decide) rfl (fun ls hl => ?_)
  refine lv_aload_n hx hb dJ2_add_3_21 rfl (lv_at hl 1 rfl) ?_
  refine va_get (cl := xCl) (ci := 2) (fs := [.int (mc + 1), .ref e0, .int 0]) X.hx X.hb X.hts in_J2 X.ow X.K M.1 0 rfl rfl 1 (by decide) (X.hts _ q118) (fun _ h9 => h9) rfl dJ2_add_3_22 ?_
  refine lv_dup hx hb dJ2_add_3_25 rfl ?_
  refine lv_astore (lv' := [(4, .ref e0), (3, .int 0), (0, .ref a), (1, .int 0), (2, .ref y0)]) hx hb dJ2_add_3_26 hl (by decide) rfl (fun ls hl => ?_)
  refine va_tlen (v := 0) X.hx X.hb X.Z.2.1 M.2.2 rfl dJ2_add_3_28 ?_
  refine lv_icmp_ne (tgt := 38) hx hb dJ2_add_3_29 (by decide) (fun c_1 => absurd c_1 (by decide)) (fun c_1 => ?_)
  refine lv_aload_n hx hb dJ2_add_3_32 rfl (lv_at hl 2 rfl) ?_
  have hPc := M.1.sub (ws' := [(a, .inr (2, [.int (mc + 1), .ref e0, .int 0]))]) [0] rfl
  have hDc := M.2.1.sub (ws' := [(a, .inr (2, [.int (mc + 1), .ref e0, .int 0]))]) [0] (by decide) rfl
  have hFc := va_free (wc := [(a, .inr (2, [.int (mc + 1), .ref e0, .int 0]))]) M.2.1 M.2.2 X.hA [0] rfl
  refine va_callr (va_runV (As := []) (rest := []) X.1 (metJ2_growS l D dA (va_A [(a, .inr (2, [.int (mc + 1), .ref e0, .int 0]))] H.size) e0 a (mc + 1)) (cwV 0 hts (lw_V q750 q752 qs11 q60 q753) rfl rfl rfl (by decide +kernel) ⟨Nat.le_of_ble_eq_true rfl, Nat.le_of_ble_eq_true rfl⟩) ⟨gPre_blindD, va_recv (cl := xCl) X.K M.1 (ci := 2) (q0 := 0) rfl rfl, fun U hU hW => ⟨rfl, X.Cn M.2.2 hFc hU hW, by rw [hU]; exact hPc, hDc.self⟩⟩ rfl rfl hl.1 rfl (lv_room (Nat.le_of_ble_eq_true rfl)) dJ2_add_3_33 ⟨Nat.le_of_ble_eq_true rfl, Nat.le_of_ble_eq_true rfl⟩) M.2.2 (fun q _ h => hFc q h) hFc (fun u9 a9 t9 H locs ht9 hvm9 hp9 hB9 hz9 hk9 hS => ?_)
  obtain ⟨hP1, hD1⟩ := hB9
  rw [ht9] at hP1
  obtain ⟨hP, hD⟩ := va_join (wr := []) (w1 := [(a, .inr (2, [.int (mc + 1), .ref a9, .int 0])), (a9, .inl (dA 4, 10, .inr (.inr (.inr (.inr (fun _ => none))))))]) M.1 M.2.1 [0] [] rfl rfl (by decide) (by decide) hk9 hFc hP1 hD1
  have M : gM D A s [(a, .inr (2, [.int (mc + 1), .ref a9, .int 0])), (a9, .inl (dA 4, 10, .inr (.inr (.inr (.inr (fun _ => none))))))] H locs := ⟨hP, hD, hS⟩
  refine W.widen (k := 1) (n := 10) (Nat.le_of_ble_eq_true rfl) (Nat.le_of_ble_eq_true rfl) ?_
  refine lv_astore (lv' := [(4, .ref a9), (3, .int 0), (0, .ref a), (1, .int 0), (2, .ref y0)]) hx hb dJ2_add_3_36 hl (by decide) rfl (fun ls hl => ?_)
  refine lv_aload hx hb dJ2_add_3_38 (lv_at hl 0 rfl) ?_
  refine lv_iload_n hx hb dJ2_add_3_40 rfl (lv_at hl 3 rfl) ?_
  refine lv_aload hx hb dJ2_add_3_41 (lv_at hl 0 rfl) ?_
  refine lv_iload_n hx hb dJ2_add_3_43 rfl (lv_at hl 3 rfl) ?_
  refine lv_iconst (v := 1) hx hb dJ2_add_3_44 (by decide) ?_
  refine lv_iadd hx hb dJ2_add_3_45 ?_
  refine lv_asi (y := 1) (by decide) ?_
  refine lv_iload_n hx hb dJ2_add_3_46 rfl (lv_at hl 1 rfl) ?_
  refine lv_iload_n hx hb dJ2_add_3_47 rfl (lv_at hl 3 rfl) ?_
  refine lv_isub hx hb dJ2_add_3_48 ?_
  refine lv_asi (y := 0) (by decide) ?_
  refine va_copyM hx hb (by rw [hml]; exact hl.1.symm) hown (hts _ q1013) (hts _ q379) (hts _ q378) (hts _ q71) X.K M.1 M.2.1 M.2.2 1 1 4 4 rfl rfl rfl rfl (by decide) (by decide) (by decide) (by decide) (by decide) (fun i9 h9 => absurd h9 (Nat.not_lt_zero i9)) (Nat.le_of_ble_eq_true rfl) (Nat.le_of_ble_eq_true rfl) dJ2_add_3_49 (fun H locs hP hD hS => ?_)
  have M : gM D A s [(a, .inr (2, [.int (mc + 1), .ref a9, .int 0])), (a9, .inl (dA 4, 10, .inr (.inr (.inr (.inr (va_cpy (fun _ => none) (fun _ => none) 0 1 0))))))] H locs := ⟨hP, hD, hS⟩
  refine lv_aload hx hb dJ2_add_3_52 (lv_at hl 0 rfl) ?_
  refine lv_iload_n hx hb dJ2_add_3_54 rfl (lv_at hl 3 rfl) ?_
  refine lv_aload_n hx hb dJ2_add_3_55 rfl (lv_at hl 4 rfl) ?_
  refine va_astqM X.hx X.hb X.K M.1 M.2.1 M.2.2 1 4 rfl rfl ((hE y0 rfl).now M.2.2) (show vp_in (nI 0) _ from vp_in_nI (by decide) (by decide)) dJ2_add_3_56 (fun H locs hP hD hS => ?_)
  have M : gM D A s [(a, .inr (2, [.int (mc + 1), .ref a9, .int 0])), (a9, .inl (dA 4, 10, .inr (.inr (.inr (.inr (va_up (va_cpy (fun _ => none) (fun _ => none) 0 1 0) 0 (some y0)))))))] H locs := ⟨hP, hD, hS⟩
  refine lv_aload_n hx hb dJ2_add_3_57 rfl (lv_at hl 2 rfl) ?_
  refine lv_iload_n hx hb dJ2_add_3_58 rfl (lv_at hl 1 rfl) ?_
  refine lv_iconst (v := 1) hx hb dJ2_add_3_59 (by decide) ?_
  refine lv_iadd hx hb dJ2_add_3_60 ?_
  refine lv_asi (y := 1) (by decide) ?_
  refine va_put (cl := xCl) (D := D) (ci := 2) (fs := [.int (mc + 1), .ref a9, .int 0]) (v := .int 1) (ty := .int) X.hx X.hb X.hts in_J2 tyJ2 tyJ2_ok nmJ2 X.ow X.K M.1 M.2.1 M.2.2 0 rfl rfl 2 (by decide) (X.hts _ q119) (fun _ h9 => h9) rfl (by decide +kernel) rfl rfl (Nat.le_of_ble_eq_true rfl) dJ2_add_3_61 (fun H locs hP hD hS => ?_)
  have M : gM D A s [(a, .inr (2, [.int (mc + 1), .ref a9, .int 1])), (a9, .inl (dA 4, 10, .inr (.inr (.inr (.inr (va_up (va_cpy (fun _ => none) (fun _ => none) 0 1 0) 0 (some y0)))))))] H locs := ⟨hP, hD, hS⟩
  exact W.vret hx hb hr (fun t9 ht9 hW9 => ⟨⟨(a9, 10, va_up (va_cpy (fun _ => none) (fun _ => none) 0 1 0) 0 (some y0)), rfl, xIns_s, by rw [ht9]; exact M.1, M.2.1⟩, M.2.2.F ht9⟩) M.2.2.2.2 dJ2_add_3_64

set_option maxHeartbeats 4000000 in
set_option maxRecDepth 100000 in
theorem metJ2_add_3O (l : Launch) (D : va_G) (dA : Nat → ClassId) (A : Nat → Prop) (e0 : Nat) (a : Nat) (mc : Int32) (ed : Nat) (cap : Nat) (r : Nat → Option Nat) (n : Nat) (hc : cap ≤ 90) (hp : 0 < cap) (hn60 : n < 60) (k : Nat) (hkn : k ≤ n) (y0 : Nat) (hnc : n ≤ cap) : Met l yJ2_add_3 (ws_ yJ2_add_3 cJ2_add_3 5 none) ({ frames := 5, cells := 1, slots := 200, locals := 147 } : Room) (va_Pc [.ref a, .int (nI k), .ref y0] (fun U => xC D dA A e0 U ∧ va_P D xCl [(a, .inr (2, [.int mc, .ref ed, .int (nI n)])), (ed, .inl (dA 4, cap, .inr (.inr (.inr (.inr r)))))] U.heap ∧ va_D A [(a, .inr (2, [.int mc, .ref ed, .int (nI n)])), (ed, .inl (dA 4, cap, .inr (.inr (.inr (.inr r)))))] ∧ ∀ y, (y = y0 ∨ ∃ i, i < n ∧ r i = some y) → xAt A U y)) (va_Qv (xIns n k y0 r) (fun u t => va_P D xCl [(a, .inr (2, [.int (mc + 1), .ref u.1, .int (nI (n + 1))])), (u.1, .inl (dA 4, u.2.1, .inr (.inr (.inr (.inr u.2.2)))))] t.heap ∧ va_D A [(a, .inr (2, [.int (mc + 1), .ref u.1, .int (nI (n + 1))])), (u.1, .inl (dA 4, u.2.1, .inr (.inr (.inr (.inr u.2.2)))))]) A) 1 200 A := by
  refine Met.ofW (cc := cJ2_add_3) (maxL := 5) (ret := none) (by decide) rfl ?_
  intro p e s m args below meth c s₁ B hml hv
  obtain ⟨rfl, hC, hP, hD, hE⟩ := hv
  have hx := B.exec
  have hb := B.bytes
  have hr := B.returns
  have hts := atoms_spec (ws := (ws_ yJ2_add_3 cJ2_add_3 5 none)) B.pre
  have hts : ∀ w ∈ lw_all, w.before _ s = true := fun w h => hts w (List.mem_cons_of_mem _ h)
  have hown : s.vm.findClass RJ2 = some m.cls := findClass_of_methodNamed B.named
  have hlocks := B.notSynchronized
  have S : CallFix p m c cJ2_add_3 5 s ([.ref a, .int (nI k), .ref y0] : List Value).toArray lw_all RJ2 := ⟨hx, hb, hml, hown, hts⟩
  have X : xX RJ2 p s m ([.ref a, .int (nI k), .ref y0] : List Value).toArray c cJ2_add_3 5 D dA A e0 := ⟨S, hC⟩
  have M : gM D A s [(a, .inr (2, [.int mc, .ref ed, .int (nI n)])), (ed, .inl (dA 4, cap, .inr (.inr (.inr (.inr r)))))] s.heap [] := ⟨hP, hD, va_S.rf⟩
  have hl := lv_entry ([.ref a, .int (nI k), .ref y0]) (n := 5) (Nat.le_of_ble_eq_true rfl)
  rw [lg_entry_eq]
  generalize (lg_sl ([.ref a, .int (nI k), .ref y0]) ++ List.replicate (5 - (lg_sl ([.ref a, .int (nI k), .ref y0])).length) Slot.unset).toArray = ls at hl ⊢
  have hl : lv_has ls 5 [(0, .ref a), (1, .int (nI k)), (2, .ref y0)] := hl
  refine lv_aload_n hx hb dJ2_add_3_0 rfl (lv_at hl 0 rfl) ?_
  refine lv_iload_n hx hb dJ2_add_3_1 rfl (lv_at hl 1 rfl) ?_
  refine va_csv (W.runV (As := [.int (nI k)]) (rest := []) X.1 (metJ2_rangeCheckForAdd l D dA A e0 a mc ed n k hkn hn60) (cwV 1 hts (lw_V q917 q919 qs16 q60 q920) rfl rfl rfl (by decide +kernel) ⟨Nat.le_of_ble_eq_true rfl, Nat.le_of_ble_eq_true rfl⟩) ⟨gPre_blind, va_recv (cl := xCl) X.K M.1 (ci := 2) (q0 := 0) rfl rfl, fun U hU hW => ⟨rfl, X.C M.2.2 hU hW, by rw [hU]; exact M.1.sub [0] rfl⟩⟩ rfl rfl hl.1 rfl (lv_room (Nat.le_of_ble_eq_true rfl)) dJ2_add_3_2 ⟨Nat.le_of_ble_eq_true rfl, Nat.le_of_ble_eq_true rfl⟩) (fun _ => ?_)
  refine lv_aload_n hx hb dJ2_add_3_5 rfl (lv_at hl 0 rfl) ?_
  refine lv_dup hx hb dJ2_add_3_6 rfl ?_
  refine va_get (cl := xCl) (ci := 2) (fs := [.int mc, .ref ed, .int (nI n)]) X.hx X.hb X.hts in_J2 X.ow X.K M.1 0 rfl rfl 0 (by decide) (X.hts _ q121) (u_same (X.hts _ q122)) rfl dJ2_add_3_7 ?_
  refine lv_iconst (v := 1) hx hb dJ2_add_3_10 (by decide) ?_
  refine lv_iadd hx hb dJ2_add_3_11 ?_
  refine va_put (cl := xCl) (D := D) (ci := 2) (fs := [.int mc, .ref ed, .int (nI n)]) (v := .int (mc + 1)) (ty := .int) X.hx X.hb X.hts in_J2 tyJ2 tyJ2_ok nmJ2 X.ow X.K M.1 M.2.1 M.2.2 0 rfl rfl 0 (by decide) (X.hts _ q121) (u_same (X.hts _ q122)) rfl (by decide +kernel) rfl rfl (Nat.le_of_ble_eq_true rfl) dJ2_add_3_12 (fun H locs hP hD hS => ?_)
  have M : gM D A s [(a, .inr (2, [.int (mc + 1), .ref ed, .int (nI n)])), (ed, .inl (dA 4, cap, .inr (.inr (.inr (.inr r)))))] H locs := ⟨hP, hD, hS⟩
  refine lv_aload_n hx hb dJ2_add_3_15 rfl (lv_at hl 0 rfl) ?_
  refine va_get (cl := xCl) (ci := 2) (fs := [.int (mc + 1), .ref ed, .int (nI n)]) X.hx X.hb X.hts in_J2 X.ow X.K M.1 0 rfl rfl 2 (by decide) (X.hts _ q119) (fun _ h9 => h9) rfl dJ2_add_3_16 ?_
  refine lv_dup hx hb dJ2_add_3_19 rfl ?_
  refine lv_istore_n (lv' := [(3, .int (nI n)), (0, .ref a), (1, .int (nI k)), (2, .ref y0)]) hx hb dJ2_add_3_20 rfl hl (by decide) rfl (fun ls hl => ?_)
  refine lv_aload_n hx hb dJ2_add_3_21 rfl (lv_at hl 1 rfl) ?_
  refine va_get (cl := xCl) (ci := 2) (fs := [.int (mc + 1), .ref ed, .int (nI n)]) X.hx X.hb X.hts in_J2 X.ow X.K M.1 0 rfl rfl 1 (by decide) (X.hts _ q118) (fun _ h9 => h9) rfl dJ2_add_3_22 ?_
  refine lv_dup hx hb dJ2_add_3_25 rfl ?_
  refine lv_astore (lv' := [(4, .ref ed), (3, .int (nI n)), (0, .ref a), (1, .int (nI k)), (2, .ref y0)]) hx hb dJ2_add_3_26 hl (by decide) rfl (fun ls hl => ?_)
  refine va_alen (v := nI cap) X.hx X.hb X.K M.1 1 4 rfl rfl rfl dJ2_add_3_28 ?_
  refine lv_icmp_ne (tgt := 38) hx hb dJ2_add_3_29 (by decide) (fun c_1 => ?_) (fun c_1 => ?_)
  · -- c_1: nI n ≠ nI cap
    have hlt : n < cap := nI_lt_ne c_1 hnc
    refine lv_aload hx hb dJ2_add_3_38 (lv_at hl 0 rfl) ?_
    refine lv_iload_n hx hb dJ2_add_3_40 rfl (lv_at hl 3 rfl) ?_
    refine lv_aload hx hb dJ2_add_3_41 (lv_at hl 0 rfl) ?_
    refine lv_iload_n hx hb dJ2_add_3_43 rfl (lv_at hl 3 rfl) ?_
    refine lv_iconst (v := 1) hx hb dJ2_add_3_44 (by decide) ?_
    refine lv_iadd hx hb dJ2_add_3_45 ?_
    refine lv_asi (y := nI (k + 1)) (nI_add k 1) ?_
    refine lv_iload_n hx hb dJ2_add_3_46 rfl (lv_at hl 1 rfl) ?_
    refine lv_iload_n hx hb dJ2_add_3_47 rfl (lv_at hl 3 rfl) ?_
    refine lv_isub hx hb dJ2_add_3_48 ?_
    refine lv_asi (y := nI (n - k)) (nI_subN (a := n) (b := k) (by omega)) ?_
    have hf9 : ∀ i, i < n → (r) i = r i := fun i hi => rfl
    refine va_copyM hx hb (by rw [hml]; exact hl.1.symm) hown (hts _ q1013) (hts _ q379) (hts _ q378) (hts _ q71) X.K M.1 M.2.1 M.2.2 1 1 4 4 rfl rfl rfl rfl (nI_pos (by omega)) (nI_pos (by omega)) (nI_pos (by omega)) (by rw [nI_clamp (show k < 2 ^ 31 by omega), nI_clamp (show n - k < 2 ^ 31 by omega)]; show k + (n - k) ≤ cap; omega) (by rw [nI_clamp (show k + 1 < 2 ^ 31 by omega), nI_clamp (show n - k < 2 ^ 31 by omega)]; show k + 1 + (n - k) ≤ cap; omega) (fun i9 h9 y9 e9 => (hE y9 (Or.inr (by rw [nI_clamp (show n - k < 2 ^ 31 by omega)] at h9; rw [nI_clamp (show k < 2 ^ 31 by omega)] at e9; exact ⟨k + i9, by omega, (hf9 (k + i9) (by omega)).symm.trans e9⟩))).now M.2.2) (Nat.le_of_ble_eq_true rfl) (Nat.le_of_ble_eq_true rfl) dJ2_add_3_49 (fun H locs hP hD hS => ?_)
    rw [nI_clamp (show k < 2 ^ 31 by omega), nI_clamp (show k + 1 < 2 ^ 31 by omega), nI_clamp (show n - k < 2 ^ 31 by omega)] at hP hD
    have M : gM D A s [(a, .inr (2, [.int (mc + 1), .ref ed, .int (nI n)])), (ed, .inl (dA 4, cap, .inr (.inr (.inr (.inr (va_cpy r r k (k + 1) (n - k)))))))] H locs := ⟨hP, hD, hS⟩
    refine lv_aload hx hb dJ2_add_3_52 (lv_at hl 0 rfl) ?_
    refine lv_iload_n hx hb dJ2_add_3_54 rfl (lv_at hl 3 rfl) ?_
    refine lv_aload_n hx hb dJ2_add_3_55 rfl (lv_at hl 4 rfl) ?_
    refine va_astqM X.hx X.hb X.K M.1 M.2.1 M.2.2 1 4 rfl rfl ((hE y0 (Or.inl rfl)).now M.2.2) (vp_in_nI (by omega) (by omega)) dJ2_add_3_56 (fun H locs hP hD hS => ?_)
    rw [nI_clamp (show k < 2 ^ 31 by omega)] at hP hD
    have M : gM D A s [(a, .inr (2, [.int (mc + 1), .ref ed, .int (nI n)])), (ed, .inl (dA 4, cap, .inr (.inr (.inr (.inr (va_up (va_cpy r r k (k + 1) (n - k)) k (some y0)))))))] H locs := ⟨hP, hD, hS⟩
    refine lv_aload_n hx hb dJ2_add_3_57 rfl (lv_at hl 2 rfl) ?_
    refine lv_iload_n hx hb dJ2_add_3_58 rfl (lv_at hl 1 rfl) ?_
    refine lv_iconst (v := 1) hx hb dJ2_add_3_59 (by decide) ?_
    refine lv_iadd hx hb dJ2_add_3_60 ?_
    refine lv_asi (y := nI (n + 1)) (nI_add n 1) ?_
    refine va_put (cl := xCl) (D := D) (ci := 2) (fs := [.int (mc + 1), .ref ed, .int (nI n)]) (v := .int (nI (n + 1))) (ty := .int) X.hx X.hb X.hts in_J2 tyJ2 tyJ2_ok nmJ2 X.ow X.K M.1 M.2.1 M.2.2 0 rfl rfl 2 (by decide) (X.hts _ q119) (fun _ h9 => h9) rfl (by decide +kernel) rfl rfl (Nat.le_of_ble_eq_true rfl) dJ2_add_3_61 (fun H locs hP hD hS => ?_)
    have M : gM D A s [(a, .inr (2, [.int (mc + 1), .ref ed, .int (nI (n + 1))])), (ed, .inl (dA 4, cap, .inr (.inr (.inr (.inr (va_up (va_cpy r r k (k + 1) (n - k)) k (some y0)))))))] H locs := ⟨hP, hD, hS⟩
    refine W.widen (k := 1) (n := 200) (Nat.le_of_ble_eq_true rfl) (Nat.le_of_ble_eq_true rfl) ?_
    exact W.vret hx hb hr (fun t9 ht9 hW9 => ⟨⟨(ed, cap, va_up (va_cpy r r k (k + 1) (n - k)) k (some y0)), rfl, xIns_up (fun i hi => rfl) hkn hlt hc, by rw [ht9]; exact M.1, M.2.1⟩, M.2.2.F ht9⟩) M.2.2.2.2 dJ2_add_3_64
  · -- c_1: nI n = nI cap
    have he : n = cap := nI_inj c_1 (by omega) (by omega)
    refine lv_aload_n hx hb dJ2_add_3_32 rfl (lv_at hl 2 rfl) ?_
    have hPc := M.1.sub (ws' := [(a, .inr (2, [.int (mc + 1), .ref ed, .int (nI n)])), (ed, .inl (dA 4, cap, .inr (.inr (.inr (.inr r)))))]) [0, 1] rfl
    have hDc := M.2.1.sub (ws' := [(a, .inr (2, [.int (mc + 1), .ref ed, .int (nI n)])), (ed, .inl (dA 4, cap, .inr (.inr (.inr (.inr r)))))]) [0, 1] (by decide) rfl
    have hFc := va_free (wc := [(a, .inr (2, [.int (mc + 1), .ref ed, .int (nI n)])), (ed, .inl (dA 4, cap, .inr (.inr (.inr (.inr r)))))]) M.2.1 M.2.2 X.hA [0, 1] rfl
    refine va_callr (va_runV (As := []) (rest := []) X.1 (metJ2_growO l D dA (va_A [(a, .inr (2, [.int (mc + 1), .ref ed, .int (nI n)])), (ed, .inl (dA 4, cap, .inr (.inr (.inr (.inr r)))))] H.size) e0 a (mc + 1) ed cap r n hc hp hn60 he) (cwV 0 hts (lw_V q750 q752 qs11 q60 q753) rfl rfl rfl (by decide +kernel) ⟨Nat.le_of_ble_eq_true rfl, Nat.le_of_ble_eq_true rfl⟩) ⟨gPre_blindE, va_recv (cl := xCl) X.K M.1 (ci := 2) (q0 := 0) rfl rfl, fun U hU hW => ⟨rfl, X.Cn M.2.2 hFc hU hW, by rw [hU]; exact hPc, hDc.self, fun y hy => (hE y (Or.inr hy)).call M.2.2 hFc hU hW⟩⟩ rfl rfl hl.1 rfl (lv_room (Nat.le_of_ble_eq_true rfl)) dJ2_add_3_33 ⟨Nat.le_of_ble_eq_true rfl, Nat.le_of_ble_eq_true rfl⟩) M.2.2 (fun q _ h => hFc q h) hFc (fun u9 a9 t9 H locs ht9 hvm9 hp9 hB9 hz9 hk9 hS => ?_)
    obtain ⟨hP1, hD1⟩ := hB9
    rw [ht9] at hP1
    obtain ⟨hP, hD⟩ := va_join (wr := []) (w1 := [(a, .inr (2, [.int (mc + 1), .ref a9, .int (nI n)])), (a9, .inl (dA 4, (cap + max (n + 1 - cap) (cap / 2 ^ 1)), .inr (.inr (.inr (.inr (va_cpy r (fun _ => none) 0 0 (min cap (cap + max (n + 1 - cap) (cap / 2 ^ 1)))))))))]) M.1 M.2.1 [0, 1] [] rfl rfl (by decide) (by decide) hk9 hFc hP1 hD1
    have M : gM D A s [(a, .inr (2, [.int (mc + 1), .ref a9, .int (nI n)])), (a9, .inl (dA 4, (cap + max (n + 1 - cap) (cap / 2 ^ 1)), .inr (.inr (.inr (.inr (va_cpy r (fun _ => none) 0 0 (min cap (cap + max (n + 1 - cap) (cap / 2 ^ 1)))))))))] H locs := ⟨hP, hD, hS⟩
    refine W.widen (k := 1) (n := 200) (Nat.le_of_ble_eq_true rfl) (Nat.le_of_ble_eq_true rfl) ?_
    refine lv_astore (lv' := [(4, .ref a9), (3, .int (nI n)), (0, .ref a), (1, .int (nI k)), (2, .ref y0)]) hx hb dJ2_add_3_36 hl (by decide) rfl (fun ls hl => ?_)
    refine lv_aload hx hb dJ2_add_3_38 (lv_at hl 0 rfl) ?_
    refine lv_iload_n hx hb dJ2_add_3_40 rfl (lv_at hl 3 rfl) ?_
    refine lv_aload hx hb dJ2_add_3_41 (lv_at hl 0 rfl) ?_
    refine lv_iload_n hx hb dJ2_add_3_43 rfl (lv_at hl 3 rfl) ?_
    refine lv_iconst (v := 1) hx hb dJ2_add_3_44 (by decide) ?_
    refine lv_iadd hx hb dJ2_add_3_45 ?_
    refine lv_asi (y := nI (k + 1)) (nI_add k 1) ?_
    refine lv_iload_n hx hb dJ2_add_3_46 rfl (lv_at hl 1 rfl) ?_
    refine lv_iload_n hx hb dJ2_add_3_47 rfl (lv_at hl 3 rfl) ?_
    refine lv_isub hx hb dJ2_add_3_48 ?_
    refine lv_asi (y := nI (n - k)) (nI_subN (a := n) (b := k) (by omega)) ?_
    have hf9 : ∀ i, i < n → (va_cpy r (fun _ => none) 0 0 (min cap (cap + max (n + 1 - cap) (cap / 2 ^ 1)))) i = r i := fun i hi => cpy0 he (by omega) hi
    refine va_copyM hx hb (by rw [hml]; exact hl.1.symm) hown (hts _ q1013) (hts _ q379) (hts _ q378) (hts _ q71) X.K M.1 M.2.1 M.2.2 1 1 4 4 rfl rfl rfl rfl (nI_pos (by omega)) (nI_pos (by omega)) (nI_pos (by omega)) (by rw [nI_clamp (show k < 2 ^ 31 by omega), nI_clamp (show n - k < 2 ^ 31 by omega)]; show k + (n - k) ≤ (cap + max (n + 1 - cap) (cap / 2 ^ 1)); omega) (by rw [nI_clamp (show k + 1 < 2 ^ 31 by omega), nI_clamp (show n - k < 2 ^ 31 by omega)]; show k + 1 + (n - k) ≤ (cap + max (n + 1 - cap) (cap / 2 ^ 1)); omega) (fun i9 h9 y9 e9 => (hE y9 (Or.inr (by rw [nI_clamp (show n - k < 2 ^ 31 by omega)] at h9; rw [nI_clamp (show k < 2 ^ 31 by omega)] at e9; exact ⟨k + i9, by omega, (hf9 (k + i9) (by omega)).symm.trans e9⟩))).now M.2.2) (Nat.le_of_ble_eq_true rfl) (Nat.le_of_ble_eq_true rfl) dJ2_add_3_49 (fun H locs hP hD hS => ?_)
    rw [nI_clamp (show k < 2 ^ 31 by omega), nI_clamp (show k + 1 < 2 ^ 31 by omega), nI_clamp (show n - k < 2 ^ 31 by omega)] at hP hD
    have M : gM D A s [(a, .inr (2, [.int (mc + 1), .ref a9, .int (nI n)])), (a9, .inl (dA 4, (cap + max (n + 1 - cap) (cap / 2 ^ 1)), .inr (.inr (.inr (.inr (va_cpy (va_cpy r (fun _ => none) 0 0 (min cap (cap + max (n + 1 - cap) (cap / 2 ^ 1)))) (va_cpy r (fun _ => none) 0 0 (min cap (cap + max (n + 1 - cap) (cap / 2 ^ 1)))) k (k + 1) (n - k)))))))] H locs := ⟨hP, hD, hS⟩
    refine lv_aload hx hb dJ2_add_3_52 (lv_at hl 0 rfl) ?_
    refine lv_iload_n hx hb dJ2_add_3_54 rfl (lv_at hl 3 rfl) ?_
    refine lv_aload_n hx hb dJ2_add_3_55 rfl (lv_at hl 4 rfl) ?_
    refine va_astqM X.hx X.hb X.K M.1 M.2.1 M.2.2 1 4 rfl rfl ((hE y0 (Or.inl rfl)).now M.2.2) (vp_in_nI (by omega) (by omega)) dJ2_add_3_56 (fun H locs hP hD hS => ?_)
    rw [nI_clamp (show k < 2 ^ 31 by omega)] at hP hD
    have M : gM D A s [(a, .inr (2, [.int (mc + 1), .ref a9, .int (nI n)])), (a9, .inl (dA 4, (cap + max (n + 1 - cap) (cap / 2 ^ 1)), .inr (.inr (.inr (.inr (va_up (va_cpy (va_cpy r (fun _ => none) 0 0 (min cap (cap + max (n + 1 - cap) (cap / 2 ^ 1)))) (va_cpy r (fun _ => none) 0 0 (min cap (cap + max (n + 1 - cap) (cap / 2 ^ 1)))) k (k + 1) (n - k)) k (some y0)))))))] H locs := ⟨hP, hD, hS⟩
    refine lv_aload_n hx hb dJ2_add_3_57 rfl (lv_at hl 2 rfl) ?_
    refine lv_iload_n hx hb dJ2_add_3_58 rfl (lv_at hl 1 rfl) ?_
    refine lv_iconst (v := 1) hx hb dJ2_add_3_59 (by decide) ?_
    refine lv_iadd hx hb dJ2_add_3_60 ?_
    refine lv_asi (y := nI (n + 1)) (nI_add n 1) ?_
    refine va_put (cl := xCl) (D := D) (ci := 2) (fs := [.int (mc + 1), .ref a9, .int (nI n)]) (v := .int (nI (n + 1))) (ty := .int) X.hx X.hb X.hts in_J2 tyJ2 tyJ2_ok nmJ2 X.ow X.K M.1 M.2.1 M.2.2 0 rfl rfl 2 (by decide) (X.hts _ q119) (fun _ h9 => h9) rfl (by decide +kernel) rfl rfl (Nat.le_of_ble_eq_true rfl) dJ2_add_3_61 (fun H locs hP hD hS => ?_)
    have M : gM D A s [(a, .inr (2, [.int (mc + 1), .ref a9, .int (nI (n + 1))])), (a9, .inl (dA 4, (cap + max (n + 1 - cap) (cap / 2 ^ 1)), .inr (.inr (.inr (.inr (va_up (va_cpy (va_cpy r (fun _ => none) 0 0 (min cap (cap + max (n + 1 - cap) (cap / 2 ^ 1)))) (va_cpy r (fun _ => none) 0 0 (min cap (cap + max (n + 1 - cap) (cap / 2 ^ 1)))) k (k + 1) (n - k)) k (some y0)))))))] H locs := ⟨hP, hD, hS⟩
    exact W.vret hx hb hr (fun t9 ht9 hW9 => ⟨⟨(a9, (cap + max (n + 1 - cap) (cap / 2 ^ 1)), va_up (va_cpy (va_cpy r (fun _ => none) 0 0 (min cap (cap + max (n + 1 - cap) (cap / 2 ^ 1)))) (va_cpy r (fun _ => none) 0 0 (min cap (cap + max (n + 1 - cap) (cap / 2 ^ 1)))) k (k + 1) (n - k)) k (some y0)), rfl, xIns_up (fun i hi => cpy0 he (by omega) hi) hkn (by omega) (by omega), by rw [ht9]; exact M.1, M.2.1⟩, M.2.2.F ht9⟩) M.2.2.2.2 dJ2_add_3_64

set_option maxHeartbeats 4000000 in
set_option maxRecDepth 100000 in
theorem metJ0_init (l : Launch) (D : va_G) (dA : Nat → ClassId) (A : Nat → Prop) (e0 : Nat) (a : Nat) : Met l yJ0_init (ws_ yJ0_init cJ0_init 1 none) ({ frames := 1, cells := 0, slots := 0, locals := 40 } : Room) (va_Pc [.ref a] (fun U => xC D dA A e0 U ∧ va_P D xCl [(a, .inr (2, [.int 0, .null, .int 0]))] U.heap ∧ va_D A [(a, .inr (2, [.int 0, .null, .int 0]))])) (va_Qv (fun _ : Unit => True) (fun _ t => va_P D xCl [(a, .inr (2, [.int 0, .null, .int 0]))] t.heap ∧ va_D A [(a, .inr (2, [.int 0, .null, .int 0]))]) A) 0 0 A := by
  refine Met.ofW (cc := cJ0_init) (maxL := 1) (ret := none) (by decide) rfl ?_
  intro p e s m args below meth c s₁ B hml hv
  obtain ⟨rfl, hC, hP, hD⟩ := hv
  have hx := B.exec
  have hb := B.bytes
  have hr := B.returns
  have hts := atoms_spec (ws := (ws_ yJ0_init cJ0_init 1 none)) B.pre
  have hts : ∀ w ∈ lw_all, w.before _ s = true := fun w h => hts w (List.mem_cons_of_mem _ h)
  have hown : s.vm.findClass RJ0 = some m.cls := findClass_of_methodNamed B.named
  have hlocks := B.notSynchronized
  have S : CallFix p m c cJ0_init 1 s ([.ref a] : List Value).toArray lw_all RJ0 := ⟨hx, hb, hml, hown, hts⟩
  have X : xX RJ0 p s m ([.ref a] : List Value).toArray c cJ0_init 1 D dA A e0 := ⟨S, hC⟩
  have hin : meth.name = "<init>" := (name_of_methodNamed B.named B.method).1
  have M : gM D A s [(a, .inr (2, [.int 0, .null, .int 0]))] s.heap [] := ⟨hP, hD, va_S.rf⟩
  have hl := lv_entry ([.ref a]) (n := 1) (Nat.le_of_ble_eq_true rfl)
  rw [lg_entry_eq]
  generalize (lg_sl ([.ref a]) ++ List.replicate (1 - (lg_sl ([.ref a])).length) Slot.unset).toArray = ls at hl ⊢
  have hl : lv_has ls 1 [(0, .ref a)] := hl
  refine lv_aload_n hx hb dJ0_init_0 rfl (lv_at hl 0 rfl) ?_
  refine W.objInit hx hb hown (hts _ q115) (hts _ q100) (hts _ q101) rfl (by rw [hml]; exact hl.1) rfl dJ0_init_1 (Nat.le_of_ble_eq_true rfl) (Nat.le_of_ble_eq_true rfl) ?_
  refine W.eq (g2 := F0 m 4 ls []) rfl ?_
  exact W.vret hx hb hr (fun t9 ht9 hW9 => ⟨⟨(), rfl, trivial, by rw [ht9]; exact M.1, M.2.1⟩, M.2.2.F ht9⟩) M.2.2.2.2 dJ0_init_4

set_option maxHeartbeats 4000000 in
set_option maxRecDepth 100000 in
theorem metJ1_init (l : Launch) (D : va_G) (dA : Nat → ClassId) (A : Nat → Prop) (e0 : Nat) (a : Nat) : Met l yJ1_init (ws_ yJ1_init cJ1_init 1 none) ({ frames := 2, cells := 0, slots := 0, locals := 60 } : Room) (va_Pc [.ref a] (fun U => xC D dA A e0 U ∧ va_P D xCl [(a, .inr (2, [.int 0, .null, .int 0]))] U.heap ∧ va_D A [(a, .inr (2, [.int 0, .null, .int 0]))])) (va_Qv (fun _ : Unit => True) (fun _ t => va_P D xCl [(a, .inr (2, [.int 0, .null, .int 0]))] t.heap ∧ va_D A [(a, .inr (2, [.int 0, .null, .int 0]))]) A) 0 0 A := by
  refine Met.ofW (cc := cJ1_init) (maxL := 1) (ret := none) (by decide) rfl ?_
  intro p e s m args below meth c s₁ B hml hv
  obtain ⟨rfl, hC, hP, hD⟩ := hv
  have hx := B.exec
  have hb := B.bytes
  have hr := B.returns
  have hts := atoms_spec (ws := (ws_ yJ1_init cJ1_init 1 none)) B.pre
  have hts : ∀ w ∈ lw_all, w.before _ s = true := fun w h => hts w (List.mem_cons_of_mem _ h)
  have hown : s.vm.findClass RJ1 = some m.cls := findClass_of_methodNamed B.named
  have hlocks := B.notSynchronized
  have S : CallFix p m c cJ1_init 1 s ([.ref a] : List Value).toArray lw_all RJ1 := ⟨hx, hb, hml, hown, hts⟩
  have X : xX RJ1 p s m ([.ref a] : List Value).toArray c cJ1_init 1 D dA A e0 := ⟨S, hC⟩
  have hin : meth.name = "<init>" := (name_of_methodNamed B.named B.method).1
  have M : gM D A s [(a, .inr (2, [.int 0, .null, .int 0]))] s.heap [] := ⟨hP, hD, va_S.rf⟩
  have hl := lv_entry ([.ref a]) (n := 1) (Nat.le_of_ble_eq_true rfl)
  rw [lg_entry_eq]
  generalize (lg_sl ([.ref a]) ++ List.replicate (1 - (lg_sl ([.ref a])).length) Slot.unset).toArray = ls at hl ⊢
  have hl : lv_has ls 1 [(0, .ref a)] := hl
  refine lv_aload_n hx hb dJ1_init_0 rfl (lv_at hl 0 rfl) ?_
  have hPc := M.1.sub (ws' := [(a, .inr (2, [.int 0, .null, .int 0]))]) [0] rfl
  have hDc := M.2.1.sub (ws' := [(a, .inr (2, [.int 0, .null, .int 0]))]) [0] (by decide) rfl
  have hFc := va_free (wc := [(a, .inr (2, [.int 0, .null, .int 0]))]) M.2.1 M.2.2 X.hA [0] rfl
  refine va_callv (va_runI (As := []) (rest := []) X.1 (metJ0_init l D dA (va_A [(a, .inr (2, [.int 0, .null, .int 0]))] s.heap.size) e0 a) (cwI 0 hts (lw_meth q114) rfl rfl rfl (hts _ q58) (hts _ q112) (hts _ q113) rfl (by decide +kernel) ⟨Nat.le_of_ble_eq_true rfl, Nat.le_of_ble_eq_true rfl⟩) ⟨gPre_blindD, fun U hU hW => ⟨rfl, X.Cn M.2.2 hFc hU hW, by rw [hU]; exact hPc, hDc.self⟩⟩ rfl rfl hl.1 rfl (lv_room (Nat.le_of_ble_eq_true rfl)) dJ1_init_1 ⟨Nat.le_of_ble_eq_true rfl, Nat.le_of_ble_eq_true rfl⟩) M.2.2 (fun q _ h => hFc q h) hFc (fun u9 t9 H locs ht9 hvm9 hp9 hB9 hz9 hk9 hS => ?_)
  obtain ⟨hP1, hD1⟩ := hB9
  rw [ht9] at hP1
  obtain ⟨hP, hD⟩ := va_join (wr := []) (w1 := [(a, .inr (2, [.int 0, .null, .int 0]))]) M.1 M.2.1 [0] [] rfl rfl (by decide) (by decide) hk9 hFc hP1 hD1
  have M : gM D A s [(a, .inr (2, [.int 0, .null, .int 0]))] H locs := ⟨hP, hD, hS⟩
  refine lv_aload_n hx hb dJ1_init_4 rfl (lv_at hl 0 rfl) ?_
  refine lv_iconst (v := 0) hx hb dJ1_init_5 (by decide) ?_
  refine va_put (cl := xCl) (D := D) (ci := 2) (fs := [.int 0, .null, .int 0]) (v := .int 0) (ty := .int) X.hx X.hb X.hts in_J2 tyJ2 tyJ2_ok nmJ2 X.ow X.K M.1 M.2.1 M.2.2 0 rfl rfl 0 (by decide) (X.hts _ q120) (fun _ h9 => h9) rfl (by decide +kernel) rfl rfl (Nat.le_of_ble_eq_true rfl) dJ1_init_6 (fun H locs hP hD hS => ?_)
  have M : gM D A s [(a, .inr (2, [.int 0, .null, .int 0]))] H locs := ⟨hP, hD, hS⟩
  exact W.vret hx hb hr (fun t9 ht9 hW9 => ⟨⟨(), rfl, trivial, by rw [ht9]; exact M.1, M.2.1⟩, M.2.2.F ht9⟩) M.2.2.2.2 dJ1_init_9

set_option maxHeartbeats 4000000 in
set_option maxRecDepth 100000 in
theorem metJ2_init (l : Launch) (D : va_G) (dA : Nat → ClassId) (A : Nat → Prop) (e0 : Nat) (a : Nat) : Met l yJ2_init (ws_ yJ2_init cJ2_init 1 none) ({ frames := 3, cells := 0, slots := 0, locals := 80 } : Room) (va_Pc [.ref a] (fun U => xC D dA A e0 U ∧ va_P D xCl [(a, .inr (2, [.int 0, .null, .int 0]))] U.heap ∧ va_D A [(a, .inr (2, [.int 0, .null, .int 0]))])) (va_Qv (fun _ : Unit => True) (fun _ t => va_P D xCl [(a, .inr (2, [.int 0, .ref e0, .int 0]))] t.heap ∧ va_D A [(a, .inr (2, [.int 0, .ref e0, .int 0]))]) A) 0 0 A := by
  refine Met.ofW (cc := cJ2_init) (maxL := 1) (ret := none) (by decide) rfl ?_
  intro p e s m args below meth c s₁ B hml hv
  obtain ⟨rfl, hC, hP, hD⟩ := hv
  have hx := B.exec
  have hb := B.bytes
  have hr := B.returns
  have hts := atoms_spec (ws := (ws_ yJ2_init cJ2_init 1 none)) B.pre
  have hts : ∀ w ∈ lw_all, w.before _ s = true := fun w h => hts w (List.mem_cons_of_mem _ h)
  have hown : s.vm.findClass RJ2 = some m.cls := findClass_of_methodNamed B.named
  have hlocks := B.notSynchronized
  have S : CallFix p m c cJ2_init 1 s ([.ref a] : List Value).toArray lw_all RJ2 := ⟨hx, hb, hml, hown, hts⟩
  have X : xX RJ2 p s m ([.ref a] : List Value).toArray c cJ2_init 1 D dA A e0 := ⟨S, hC⟩
  have hin : meth.name = "<init>" := (name_of_methodNamed B.named B.method).1
  have M : gM D A s [(a, .inr (2, [.int 0, .null, .int 0]))] s.heap [] := ⟨hP, hD, va_S.rf⟩
  have hl := lv_entry ([.ref a]) (n := 1) (Nat.le_of_ble_eq_true rfl)
  rw [lg_entry_eq]
  generalize (lg_sl ([.ref a]) ++ List.replicate (1 - (lg_sl ([.ref a])).length) Slot.unset).toArray = ls at hl ⊢
  have hl : lv_has ls 1 [(0, .ref a)] := hl
  refine lv_aload_n hx hb dJ2_init_0 rfl (lv_at hl 0 rfl) ?_
  have hPc := M.1.sub (ws' := [(a, .inr (2, [.int 0, .null, .int 0]))]) [0] rfl
  have hDc := M.2.1.sub (ws' := [(a, .inr (2, [.int 0, .null, .int 0]))]) [0] (by decide) rfl
  have hFc := va_free (wc := [(a, .inr (2, [.int 0, .null, .int 0]))]) M.2.1 M.2.2 X.hA [0] rfl
  refine va_callv (va_runI (As := []) (rest := []) X.1 (metJ1_init l D dA (va_A [(a, .inr (2, [.int 0, .null, .int 0]))] s.heap.size) e0 a) (cwI 0 hts (lw_meth q111) rfl rfl rfl (hts _ q59) (hts _ q109) (hts _ q110) rfl (by decide +kernel) ⟨Nat.le_of_ble_eq_true rfl, Nat.le_of_ble_eq_true rfl⟩) ⟨gPre_blindD, fun U hU hW => ⟨rfl, X.Cn M.2.2 hFc hU hW, by rw [hU]; exact hPc, hDc.self⟩⟩ rfl rfl hl.1 rfl (lv_room (Nat.le_of_ble_eq_true rfl)) dJ2_init_1 ⟨Nat.le_of_ble_eq_true rfl, Nat.le_of_ble_eq_true rfl⟩) M.2.2 (fun q _ h => hFc q h) hFc (fun u9 t9 H locs ht9 hvm9 hp9 hB9 hz9 hk9 hS => ?_)
  obtain ⟨hP1, hD1⟩ := hB9
  rw [ht9] at hP1
  obtain ⟨hP, hD⟩ := va_join (wr := []) (w1 := [(a, .inr (2, [.int 0, .null, .int 0]))]) M.1 M.2.1 [0] [] rfl rfl (by decide) (by decide) hk9 hFc hP1 hD1
  have M : gM D A s [(a, .inr (2, [.int 0, .null, .int 0]))] H locs := ⟨hP, hD, hS⟩
  refine lv_aload_n hx hb dJ2_init_4 rfl (lv_at hl 0 rfl) ?_
  refine va_gets X.hx X.hb X.Z.1 M.2.2 X.ow (X.hts _ q116) (fun _ h9 => h9) dJ2_init_5 ?_
  refine va_put (cl := xCl) (D := D) (ci := 2) (fs := [.int 0, .null, .int 0]) (v := .ref e0) (ty := .array (.object "java/lang/Object")) X.hx X.hb X.hts in_J2 tyJ2 tyJ2_ok nmJ2 X.ow X.K M.1 M.2.1 M.2.2 0 rfl rfl 1 (by decide) (X.hts _ q118) (fun _ h9 => h9) rfl (by decide +kernel) rfl rfl (Nat.le_of_ble_eq_true rfl) dJ2_init_8 (fun H locs hP hD hS => ?_)
  have M : gM D A s [(a, .inr (2, [.int 0, .ref e0, .int 0]))] H locs := ⟨hP, hD, hS⟩
  exact W.vret hx hb hr (fun t9 ht9 hW9 => ⟨⟨(), rfl, trivial, by rw [ht9]; exact M.1, M.2.1⟩, M.2.2.F ht9⟩) M.2.2.2.2 dJ2_init_11

set_option maxHeartbeats 4000000 in
set_option maxRecDepth 100000 in
theorem metX7_init (l : Launch) (D : va_G) (dA : Nat → ClassId) (A : Nat → Prop) (e0 : Nat) (a : Nat) (v0 : Int32) (v1 : Int32) (v2 : Int32) (v3 : Int32) : Met l yX7_init (ws_ yX7_init cX7_init 5 none) ({ frames := 1, cells := 0, slots := 0, locals := 40 } : Room) (va_Pc [.ref a, .int v0, .int v1, .int v2, .int v3] (fun U => xC D dA A e0 U ∧ va_P D xCl [(a, .inr (5, [.int 0, .int 0, .int 0, .int 0]))] U.heap ∧ va_D A [(a, .inr (5, [.int 0, .int 0, .int 0, .int 0]))])) (va_Qv (fun _ : Unit => True) (fun _ t => va_P D xCl [(a, .inr (5, [.int v0, .int v1, .int v2, .int v3]))] t.heap ∧ va_D A [(a, .inr (5, [.int v0, .int v1, .int v2, .int v3]))]) A) 0 0 A := by
  refine Met.ofW (cc := cX7_init) (maxL := 5) (ret := none) (by decide) rfl ?_
  intro p e s m args below meth c s₁ B hml hv
  obtain ⟨rfl, hC, hP, hD⟩ := hv
  have hx := B.exec
  have hb := B.bytes
  have hr := B.returns
  have hts := atoms_spec (ws := (ws_ yX7_init cX7_init 5 none)) B.pre
  have hts : ∀ w ∈ lw_all, w.before _ s = true := fun w h => hts w (List.mem_cons_of_mem _ h)
  have hown : s.vm.findClass RX7 = some m.cls := findClass_of_methodNamed B.named
  have hlocks := B.notSynchronized
  have S : CallFix p m c cX7_init 5 s ([.ref a, .int v0, .int v1, .int v2, .int v3] : List Value).toArray lw_all RX7 := ⟨hx, hb, hml, hown, hts⟩
  have X : xX RX7 p s m ([.ref a, .int v0, .int v1, .int v2, .int v3] : List Value).toArray c cX7_init 5 D dA A e0 := ⟨S, hC⟩
  have hin : meth.name = "<init>" := (name_of_methodNamed B.named B.method).1
  have M : gM D A s [(a, .inr (5, [.int 0, .int 0, .int 0, .int 0]))] s.heap [] := ⟨hP, hD, va_S.rf⟩
  have hl := lv_entry ([.ref a, .int v0, .int v1, .int v2, .int v3]) (n := 5) (Nat.le_of_ble_eq_true rfl)
  rw [lg_entry_eq]
  generalize (lg_sl ([.ref a, .int v0, .int v1, .int v2, .int v3]) ++ List.replicate (5 - (lg_sl ([.ref a, .int v0, .int v1, .int v2, .int v3])).length) Slot.unset).toArray = ls at hl ⊢
  have hl : lv_has ls 5 [(0, .ref a), (1, .int v0), (2, .int v1), (3, .int v2), (4, .int v3)] := hl
  refine lv_aload_n hx hb dX7_init_0 rfl (lv_at hl 0 rfl) ?_
  refine W.objInit hx hb hown (hts _ q719) (hts _ q100) (hts _ q101) rfl (by rw [hml]; exact hl.1) rfl dX7_init_1 (Nat.le_of_ble_eq_true rfl) (Nat.le_of_ble_eq_true rfl) ?_
  refine W.eq (g2 := F0 m 4 ls []) rfl ?_
  refine lv_aload_n hx hb dX7_init_4 rfl (lv_at hl 0 rfl) ?_
  refine lv_iload_n hx hb dX7_init_5 rfl (lv_at hl 1 rfl) ?_
  refine va_putF (cl := xCl) (D := D) (ci := 5) (fs := [.int 0, .int 0, .int 0, .int 0]) (v := .int v0) (ty := .int) X.hx X.hb X.hts in_X7 tyX7 tyX7_ok nmX7 X.ow X.K M.1 M.2.1 M.2.2 0 rfl rfl 0 (by decide) (X.hts _ q720) (fun _ h9 => h9) rfl hin rfl (by decide +kernel) rfl rfl (Nat.le_of_ble_eq_true rfl) dX7_init_6 (fun H locs hP hD hS => ?_)
  have M : gM D A s [(a, .inr (5, [.int v0, .int 0, .int 0, .int 0]))] H locs := ⟨hP, hD, hS⟩
  refine lv_aload_n hx hb dX7_init_9 rfl (lv_at hl 0 rfl) ?_
  refine lv_iload_n hx hb dX7_init_10 rfl (lv_at hl 2 rfl) ?_
  refine va_putF (cl := xCl) (D := D) (ci := 5) (fs := [.int v0, .int 0, .int 0, .int 0]) (v := .int v1) (ty := .int) X.hx X.hb X.hts in_X7 tyX7 tyX7_ok nmX7 X.ow X.K M.1 M.2.1 M.2.2 0 rfl rfl 1 (by decide) (X.hts _ q722) (fun _ h9 => h9) rfl hin rfl (by decide +kernel) rfl rfl (Nat.le_of_ble_eq_true rfl) dX7_init_11 (fun H locs hP hD hS => ?_)
  have M : gM D A s [(a, .inr (5, [.int v0, .int v1, .int 0, .int 0]))] H locs := ⟨hP, hD, hS⟩
  refine lv_aload_n hx hb dX7_init_14 rfl (lv_at hl 0 rfl) ?_
  refine lv_iload_n hx hb dX7_init_15 rfl (lv_at hl 3 rfl) ?_
  refine va_putF (cl := xCl) (D := D) (ci := 5) (fs := [.int v0, .int v1, .int 0, .int 0]) (v := .int v2) (ty := .int) X.hx X.hb X.hts in_X7 tyX7 tyX7_ok nmX7 X.ow X.K M.1 M.2.1 M.2.2 0 rfl rfl 2 (by decide) (X.hts _ q724) (fun _ h9 => h9) rfl hin rfl (by decide +kernel) rfl rfl (Nat.le_of_ble_eq_true rfl) dX7_init_16 (fun H locs hP hD hS => ?_)
  have M : gM D A s [(a, .inr (5, [.int v0, .int v1, .int v2, .int 0]))] H locs := ⟨hP, hD, hS⟩
  refine lv_aload_n hx hb dX7_init_19 rfl (lv_at hl 0 rfl) ?_
  refine lv_iload hx hb dX7_init_20 (lv_at hl 4 rfl) ?_
  refine va_putF (cl := xCl) (D := D) (ci := 5) (fs := [.int v0, .int v1, .int v2, .int 0]) (v := .int v3) (ty := .int) X.hx X.hb X.hts in_X7 tyX7 tyX7_ok nmX7 X.ow X.K M.1 M.2.1 M.2.2 0 rfl rfl 3 (by decide) (X.hts _ q726) (fun _ h9 => h9) rfl hin rfl (by decide +kernel) rfl rfl (Nat.le_of_ble_eq_true rfl) dX7_init_22 (fun H locs hP hD hS => ?_)
  have M : gM D A s [(a, .inr (5, [.int v0, .int v1, .int v2, .int v3]))] H locs := ⟨hP, hD, hS⟩
  exact W.vret hx hb hr (fun t9 ht9 hW9 => ⟨⟨(), rfl, trivial, by rw [ht9]; exact M.1, M.2.1⟩, M.2.2.F ht9⟩) M.2.2.2.2 dX7_init_25

set_option maxHeartbeats 4000000 in
set_option maxRecDepth 100000 in
theorem metX9_init (l : Launch) (D : va_G) (dA : Nat → ClassId) (A : Nat → Prop) (e0 : Nat) (a : Nat) (v0 : Int32) (v1 : Int32) (v2 : Int32) (v3 : Int32) : Met l yX9_init (ws_ yX9_init cX9_init 5 none) ({ frames := 1, cells := 0, slots := 0, locals := 40 } : Room) (va_Pc [.ref a, .int v0, .int v1, .int v2, .int v3] (fun U => xC D dA A e0 U ∧ va_P D xCl [(a, .inr (7, [.int 0, .int 0, .int 0, .int 0]))] U.heap ∧ va_D A [(a, .inr (7, [.int 0, .int 0, .int 0, .int 0]))])) (va_Qv (fun _ : Unit => True) (fun _ t => va_P D xCl [(a, .inr (7, [.int v0, .int v1, .int v2, .int v3]))] t.heap ∧ va_D A [(a, .inr (7, [.int v0, .int v1, .int v2, .int v3]))]) A) 0 0 A := by
  refine Met.ofW (cc := cX9_init) (maxL := 5) (ret := none) (by decide) rfl ?_
  intro p e s m args below meth c s₁ B hml hv
  obtain ⟨rfl, hC, hP, hD⟩ := hv
  have hx := B.exec
  have hb := B.bytes
  have hr := B.returns
  have hts := atoms_spec (ws := (ws_ yX9_init cX9_init 5 none)) B.pre
  have hts : ∀ w ∈ lw_all, w.before _ s = true := fun w h => hts w (List.mem_cons_of_mem _ h)
  have hown : s.vm.findClass RX9 = some m.cls := findClass_of_methodNamed B.named
  have hlocks := B.notSynchronized
  have S : CallFix p m c cX9_init 5 s ([.ref a, .int v0, .int v1, .int v2, .int v3] : List Value).toArray lw_all RX9 := ⟨hx, hb, hml, hown, hts⟩
  have X : xX RX9 p s m ([.ref a, .int v0, .int v1, .int v2, .int v3] : List Value).toArray c cX9_init 5 D dA A e0 := ⟨S, hC⟩
  have hin : meth.name = "<init>" := (name_of_methodNamed B.named B.method).1
  have M : gM D A s [(a, .inr (7, [.int 0, .int 0, .int 0, .int 0]))] s.heap [] := ⟨hP, hD, va_S.rf⟩
  have hl := lv_entry ([.ref a, .int v0, .int v1, .int v2, .int v3]) (n := 5) (Nat.le_of_ble_eq_true rfl)
  rw [lg_entry_eq]
  generalize (lg_sl ([.ref a, .int v0, .int v1, .int v2, .int v3]) ++ List.replicate (5 - (lg_sl ([.ref a, .int v0, .int v1, .int v2, .int v3])).length) Slot.unset).toArray = ls at hl ⊢
  have hl : lv_has ls 5 [(0, .ref a), (1, .int v0), (2, .int v1), (3, .int v2), (4, .int v3)] := hl
  refine lv_aload_n hx hb dX9_init_0 rfl (lv_at hl 0 rfl) ?_
  refine W.objInit hx hb hown (hts _ q1051) (hts _ q100) (hts _ q101) rfl (by rw [hml]; exact hl.1) rfl dX9_init_1 (Nat.le_of_ble_eq_true rfl) (Nat.le_of_ble_eq_true rfl) ?_
  refine W.eq (g2 := F0 m 4 ls []) rfl ?_
  refine lv_aload_n hx hb dX9_init_4 rfl (lv_at hl 0 rfl) ?_
  refine lv_iload_n hx hb dX9_init_5 rfl (lv_at hl 1 rfl) ?_
  refine va_putF (cl := xCl) (D := D) (ci := 7) (fs := [.int 0, .int 0, .int 0, .int 0]) (v := .int v0) (ty := .int) X.hx X.hb X.hts in_X9 tyX9 tyX9_ok nmX9 X.ow X.K M.1 M.2.1 M.2.2 0 rfl rfl 0 (by decide) (X.hts _ q1052) (fun _ h9 => h9) rfl hin rfl (by decide +kernel) rfl rfl (Nat.le_of_ble_eq_true rfl) dX9_init_6 (fun H locs hP hD hS => ?_)
  have M : gM D A s [(a, .inr (7, [.int v0, .int 0, .int 0, .int 0]))] H locs := ⟨hP, hD, hS⟩
  refine lv_aload_n hx hb dX9_init_9 rfl (lv_at hl 0 rfl) ?_
  refine lv_iload_n hx hb dX9_init_10 rfl (lv_at hl 2 rfl) ?_
  refine va_putF (cl := xCl) (D := D) (ci := 7) (fs := [.int v0, .int 0, .int 0, .int 0]) (v := .int v1) (ty := .int) X.hx X.hb X.hts in_X9 tyX9 tyX9_ok nmX9 X.ow X.K M.1 M.2.1 M.2.2 0 rfl rfl 1 (by decide) (X.hts _ q1054) (fun _ h9 => h9) rfl hin rfl (by decide +kernel) rfl rfl (Nat.le_of_ble_eq_true rfl) dX9_init_11 (fun H locs hP hD hS => ?_)
  have M : gM D A s [(a, .inr (7, [.int v0, .int v1, .int 0, .int 0]))] H locs := ⟨hP, hD, hS⟩
  refine lv_aload_n hx hb dX9_init_14 rfl (lv_at hl 0 rfl) ?_
  refine lv_iload_n hx hb dX9_init_15 rfl (lv_at hl 3 rfl) ?_
  refine va_putF (cl := xCl) (D := D) (ci := 7) (fs := [.int v0, .int v1, .int 0, .int 0]) (v := .int v2) (ty := .int) X.hx X.hb X.hts in_X9 tyX9 tyX9_ok nmX9 X.ow X.K M.1 M.2.1 M.2.2 0 rfl rfl 2 (by decide) (X.hts _ q1056) (fun _ h9 => h9) rfl hin rfl (by decide +kernel) rfl rfl (Nat.le_of_ble_eq_true rfl) dX9_init_16 (fun H locs hP hD hS => ?_)
  have M : gM D A s [(a, .inr (7, [.int v0, .int v1, .int v2, .int 0]))] H locs := ⟨hP, hD, hS⟩
  refine lv_aload_n hx hb dX9_init_19 rfl (lv_at hl 0 rfl) ?_
  refine lv_iload hx hb dX9_init_20 (lv_at hl 4 rfl) ?_
  refine va_putF (cl := xCl) (D := D) (ci := 7) (fs := [.int v0, .int v1, .int v2, .int 0]) (v := .int v3) (ty := .int) X.hx X.hb X.hts in_X9 tyX9 tyX9_ok nmX9 X.ow X.K M.1 M.2.1 M.2.2 0 rfl rfl 3 (by decide) (X.hts _ q1057) (fun _ h9 => h9) rfl hin rfl (by decide +kernel) rfl rfl (Nat.le_of_ble_eq_true rfl) dX9_init_22 (fun H locs hP hD hS => ?_)
  have M : gM D A s [(a, .inr (7, [.int v0, .int v1, .int v2, .int v3]))] H locs := ⟨hP, hD, hS⟩
  exact W.vret hx hb hr (fun t9 ht9 hW9 => ⟨⟨(), rfl, trivial, by rw [ht9]; exact M.1, M.2.1⟩, M.2.2.F ht9⟩) M.2.2.2.2 dX9_init_25

set_option maxHeartbeats 4000000 in
set_option maxRecDepth 100000 in
theorem metX8_init (l : Launch) (D : va_G) (dA : Nat → ClassId) (A : Nat → Prop) (e0 : Nat) (a : Nat) (v0 : Int32) (v1 : Bool) (v2 : Int32) (v3 : Int32) (v4 : Int32) (v5 : Int32) : Met l yX8_init (ws_ yX8_init cX8_init 7 none) ({ frames := 1, cells := 0, slots := 0, locals := 40 } : Room) (va_Pc [.ref a, .int v0, .int (b2i v1), .int v2, .int v3, .int v4, .int v5] (fun U => xC D dA A e0 U ∧ va_P D xCl [(a, .inr (6, [.int 0, .int 0, .int 0, .int 0, .int 0, .int 0]))] U.heap ∧ va_D A [(a, .inr (6, [.int 0, .int 0, .int 0, .int 0, .int 0, .int 0]))])) (va_Qv (fun _ : Unit => True) (fun _ t => va_P D xCl [(a, .inr (6, [.int v0, .int (b2i v1), .int v2, .int v3, .int v4, .int v5]))] t.heap ∧ va_D A [(a, .inr (6, [.int v0, .int (b2i v1), .int v2, .int v3, .int v4, .int v5]))]) A) 0 0 A := by
  refine Met.ofW (cc := cX8_init) (maxL := 7) (ret := none) (by decide) rfl ?_
  intro p e s m args below meth c s₁ B hml hv
  obtain ⟨rfl, hC, hP, hD⟩ := hv
  have hx := B.exec
  have hb := B.bytes
  have hr := B.returns
  have hts := atoms_spec (ws := (ws_ yX8_init cX8_init 7 none)) B.pre
  have hts : ∀ w ∈ lw_all, w.before _ s = true := fun w h => hts w (List.mem_cons_of_mem _ h)
  have hown : s.vm.findClass RX8 = some m.cls := findClass_of_methodNamed B.named
  have hlocks := B.notSynchronized
  have S : CallFix p m c cX8_init 7 s ([.ref a, .int v0, .int (b2i v1), .int v2, .int v3, .int v4, .int v5] : List Value).toArray lw_all RX8 := ⟨hx, hb, hml, hown, hts⟩
  have X : xX RX8 p s m ([.ref a, .int v0, .int (b2i v1), .int v2, .int v3, .int v4, .int v5] : List Value).toArray c cX8_init 7 D dA A e0 := ⟨S, hC⟩
  have hin : meth.name = "<init>" := (name_of_methodNamed B.named B.method).1
  have M : gM D A s [(a, .inr (6, [.int 0, .int 0, .int 0, .int 0, .int 0, .int 0]))] s.heap [] := ⟨hP, hD, va_S.rf⟩
  have hl := lv_entry ([.ref a, .int v0, .int (b2i v1), .int v2, .int v3, .int v4, .int v5]) (n := 7) (Nat.le_of_ble_eq_true rfl)
  rw [lg_entry_eq]
  generalize (lg_sl ([.ref a, .int v0, .int (b2i v1), .int v2, .int v3, .int v4, .int v5]) ++ List.replicate (7 - (lg_sl ([.ref a, .int v0, .int (b2i v1), .int v2, .int v3, .int v4, .int v5])).length) Slot.unset).toArray = ls at hl ⊢
  have hl : lv_has ls 7 [(0, .ref a), (1, .int v0), (2, .int (b2i v1)), (3, .int v2), (4, .int v3), (5, .int v4), (6, .int v5)] := hl
  refine lv_aload_n hx hb dX8_init_0 rfl (lv_at hl 0 rfl) ?_
  refine W.objInit hx hb hown (hts _ q878) (hts _ q100) (hts _ q101) rfl (by rw [hml]; exact hl.1) rfl dX8_init_1 (Nat.le_of_ble_eq_true rfl) (Nat.le_of_ble_eq_true rfl) ?_
  refine W.eq (g2 := F0 m 4 ls []) rfl ?_
  refine lv_aload_n hx hb dX8_init_4 rfl (lv_at hl 0 rfl) ?_
  refine lv_iload_n hx hb dX8_init_5 rfl (lv_at hl 1 rfl) ?_
  refine va_putF (cl := xCl) (D := D) (ci := 6) (fs := [.int 0, .int 0, .int 0, .int 0, .int 0, .int 0]) (v := .int v0) (ty := .int) X.hx X.hb X.hts in_X8 tyX8 tyX8_ok nmX8 X.ow X.K M.1 M.2.1 M.2.2 0 rfl rfl 0 (by decide) (X.hts _ q879) (fun _ h9 => h9) rfl hin rfl (by decide +kernel) rfl rfl (Nat.le_of_ble_eq_true rfl) dX8_init_6 (fun H locs hP hD hS => ?_)
  have M : gM D A s [(a, .inr (6, [.int v0, .int 0, .int 0, .int 0, .int 0, .int 0]))] H locs := ⟨hP, hD, hS⟩
  refine lv_aload_n hx hb dX8_init_9 rfl (lv_at hl 0 rfl) ?_
  refine lv_iload_n hx hb dX8_init_10 rfl (lv_at hl 2 rfl) ?_
  refine va_putF (cl := xCl) (D := D) (ci := 6) (fs := [.int v0, .int 0, .int 0, .int 0, .int 0, .int 0]) (v := .int (b2i v1)) (ty := .boolean) X.hx X.hb X.hts in_X8 tyX8 tyX8_ok nmX8 X.ow X.K M.1 M.2.1 M.2.2 0 rfl rfl 1 (by decide) (X.hts _ q881) (fun _ h9 => h9) rfl hin rfl (by decide +kernel) (b2i_nar _) (by cases v1 <;> rfl) (Nat.le_of_ble_eq_true rfl) dX8_init_11 (fun H locs hP hD hS => ?_)
  have M : gM D A s [(a, .inr (6, [.int v0, .int (b2i v1), .int 0, .int 0, .int 0, .int 0]))] H locs := ⟨hP, hD, hS⟩
  refine lv_aload_n hx hb dX8_init_14 rfl (lv_at hl 0 rfl) ?_
  refine lv_iload_n hx hb dX8_init_15 rfl (lv_at hl 3 rfl) ?_
  refine va_putF (cl := xCl) (D := D) (ci := 6) (fs := [.int v0, .int (b2i v1), .int 0, .int 0, .int 0, .int 0]) (v := .int v2) (ty := .int) X.hx X.hb X.hts in_X8 tyX8 tyX8_ok nmX8 X.ow X.K M.1 M.2.1 M.2.2 0 rfl rfl 2 (by decide) (X.hts _ q883) (fun _ h9 => h9) rfl hin rfl (by decide +kernel) rfl rfl (Nat.le_of_ble_eq_true rfl) dX8_init_16 (fun H locs hP hD hS => ?_)
  have M : gM D A s [(a, .inr (6, [.int v0, .int (b2i v1), .int v2, .int 0, .int 0, .int 0]))] H locs := ⟨hP, hD, hS⟩
  refine lv_aload_n hx hb dX8_init_19 rfl (lv_at hl 0 rfl) ?_
  refine lv_iload hx hb dX8_init_20 (lv_at hl 4 rfl) ?_
  refine va_putF (cl := xCl) (D := D) (ci := 6) (fs := [.int v0, .int (b2i v1), .int v2, .int 0, .int 0, .int 0]) (v := .int v3) (ty := .int) X.hx X.hb X.hts in_X8 tyX8 tyX8_ok nmX8 X.ow X.K M.1 M.2.1 M.2.2 0 rfl rfl 3 (by decide) (X.hts _ q885) (fun _ h9 => h9) rfl hin rfl (by decide +kernel) rfl rfl (Nat.le_of_ble_eq_true rfl) dX8_init_22 (fun H locs hP hD hS => ?_)
  have M : gM D A s [(a, .inr (6, [.int v0, .int (b2i v1), .int v2, .int v3, .int 0, .int 0]))] H locs := ⟨hP, hD, hS⟩
  refine lv_aload_n hx hb dX8_init_25 rfl (lv_at hl 0 rfl) ?_
  refine lv_iload hx hb dX8_init_26 (lv_at hl 5 rfl) ?_
  refine va_putF (cl := xCl) (D := D) (ci := 6) (fs := [.int v0, .int (b2i v1), .int v2, .int v3, .int 0, .int 0]) (v := .int v4) (ty := .int) X.hx X.hb X.hts in_X8 tyX8 tyX8_ok nmX8 X.ow X.K M.1 M.2.1 M.2.2 0 rfl rfl 4 (by decide) (X.hts _ q887) (fun _ h9 => h9) rfl hin rfl (by decide +kernel) rfl rfl (Nat.le_of_ble_eq_true rfl) dX8_init_28 (fun H locs hP hD hS => ?_)
  have M : gM D A s [(a, .inr (6, [.int v0, .int (b2i v1), .int v2, .int v3, .int v4, .int 0]))] H locs := ⟨hP, hD, hS⟩
  refine lv_aload_n hx hb dX8_init_31 rfl (lv_at hl 0 rfl) ?_
  refine lv_iload hx hb dX8_init_32 (lv_at hl 6 rfl) ?_
  refine va_putF (cl := xCl) (D := D) (ci := 6) (fs := [.int v0, .int (b2i v1), .int v2, .int v3, .int v4, .int 0]) (v := .int v5) (ty := .int) X.hx X.hb X.hts in_X8 tyX8 tyX8_ok nmX8 X.ow X.K M.1 M.2.1 M.2.2 0 rfl rfl 5 (by decide) (X.hts _ q889) (fun _ h9 => h9) rfl hin rfl (by decide +kernel) rfl rfl (Nat.le_of_ble_eq_true rfl) dX8_init_34 (fun H locs hP hD hS => ?_)
  have M : gM D A s [(a, .inr (6, [.int v0, .int (b2i v1), .int v2, .int v3, .int v4, .int v5]))] H locs := ⟨hP, hD, hS⟩
  exact W.vret hx hb hr (fun t9 ht9 hW9 => ⟨⟨(), rfl, trivial, by rw [ht9]; exact M.1, M.2.1⟩, M.2.2.F ht9⟩) M.2.2.2.2 dX8_init_37

set_option maxHeartbeats 4000000 in
set_option maxRecDepth 100000 in
theorem metX1_init (l : Launch) (D : va_G) (dA : Nat → ClassId) (A : Nat → Prop) (e0 : Nat) (a : Nat) : Met l yX1_init (ws_ yX1_init cX1_init 1 none) ({ frames := 1, cells := 1, slots := 16, locals := 40 } : Room) (va_Pc [.ref a] (fun U => xC D dA A e0 U ∧ va_P D xCl [(a, .inr (3, [.null, .int 0]))] U.heap ∧ va_D A [(a, .inr (3, [.null, .int 0]))])) (va_Qv (fun _ : Nat => True) (fun u t => va_P D xCl [(a, .inr (3, [.ref u, .int 0])), (u, .inl (dA 0, 16, .inl (fun _ => 0)))] t.heap ∧ va_D A [(a, .inr (3, [.ref u, .int 0])), (u, .inl (dA 0, 16, .inl (fun _ => 0)))]) A) 1 16 A := by
  refine Met.ofW (cc := cX1_init) (maxL := 1) (ret := none) (by decide) rfl ?_
  intro p e s m args below meth c s₁ B hml hv
  obtain ⟨rfl, hC, hP, hD⟩ := hv
  have hx := B.exec
  have hb := B.bytes
  have hr := B.returns
  have hts := atoms_spec (ws := (ws_ yX1_init cX1_init 1 none)) B.pre
  have hts : ∀ w ∈ lw_all, w.before _ s = true := fun w h => hts w (List.mem_cons_of_mem _ h)
  have hown : s.vm.findClass RX1 = some m.cls := findClass_of_methodNamed B.named
  have hlocks := B.notSynchronized
  have S : CallFix p m c cX1_init 1 s ([.ref a] : List Value).toArray lw_all RX1 := ⟨hx, hb, hml, hown, hts⟩
  have X : xX RX1 p s m ([.ref a] : List Value).toArray c cX1_init 1 D dA A e0 := ⟨S, hC⟩
  have hin : meth.name = "<init>" := (name_of_methodNamed B.named B.method).1
  have M : gM D A s [(a, .inr (3, [.null, .int 0]))] s.heap [] := ⟨hP, hD, va_S.rf⟩
  have hl := lv_entry ([.ref a]) (n := 1) (Nat.le_of_ble_eq_true rfl)
  rw [lg_entry_eq]
  generalize (lg_sl ([.ref a]) ++ List.replicate (1 - (lg_sl ([.ref a])).length) Slot.unset).toArray = ls at hl ⊢
  have hl : lv_has ls 1 [(0, .ref a)] := hl
  refine lv_aload_n hx hb dX1_init_0 rfl (lv_at hl 0 rfl) ?_
  refine W.objInit hx hb hown (hts _ q136) (hts _ q100) (hts _ q101) rfl (by rw [hml]; exact hl.1) rfl dX1_init_1 (Nat.le_of_ble_eq_true rfl) (Nat.le_of_ble_eq_true rfl) ?_
  refine W.eq (g2 := F0 m 4 ls []) rfl ?_
  refine lv_aload_n hx hb dX1_init_4 rfl (lv_at hl 0 rfl) ?_
  refine lv_bipush (v := 16) hx hb dX1_init_5 (by decide) ?_
  refine g_newi (N' := 16) X (X.hts _ q130) M.1 M.2.1 M.2.2 (by decide) (by decide) (Nat.le_of_ble_eq_true rfl) (Nat.le_of_ble_eq_true rfl) (Nat.le_of_ble_eq_true rfl) dX1_init_7 (fun q_1 H hP hD hS => ?_)
  have M : gM D A s [(a, .inr (3, [.null, .int 0])), (q_1, .inl (dA 0, 16, .inl (fun _ => 0)))] H _ := ⟨hP, hD, hS⟩
  refine W.widen (k := 1) (n := 16) (Nat.le_of_ble_eq_true rfl) (Nat.le_of_ble_eq_true rfl) ?_
  refine va_putF (cl := xCl) (D := D) (ci := 3) (fs := [.null, .int 0]) (v := .ref q_1) (ty := .array .int) X.hx X.hb X.hts in_X1 tyX1 tyX1_ok nmX1 X.ow X.K M.1 M.2.1 M.2.2 0 rfl rfl 0 (by decide) (X.hts _ q137) (fun _ h9 => h9) rfl hin rfl (by decide +kernel) rfl rfl (Nat.le_of_ble_eq_true rfl) dX1_init_9 (fun H locs hP hD hS => ?_)
  have M : gM D A s [(a, .inr (3, [.ref q_1, .int 0])), (q_1, .inl (dA 0, 16, .inl (fun _ => 0)))] H locs := ⟨hP, hD, hS⟩
  exact W.vret hx hb hr (fun t9 ht9 hW9 => ⟨⟨q_1, rfl, trivial, by rw [ht9]; exact M.1, M.2.1⟩, M.2.2.F ht9⟩) M.2.2.2.2 dX1_init_12

set_option maxHeartbeats 4000000 in
set_option maxRecDepth 100000 in
theorem metX4_init (l : Launch) (D : va_G) (dA : Nat → ClassId) (A : Nat → Prop) (e0 : Nat) (a : Nat) (lane : Int32) (n : Nat) (hn : n ≤ 64) : Met l yX4_init (ws_ yX4_init cX4_init 3 none) ({ frames := 1, cells := 1, slots := 64, locals := 40 } : Room) (va_Pc [.ref a, .int lane, .int (nI n)] (fun U => xC D dA A e0 U ∧ va_P D xCl [(a, .inr (4, [.int 0, .null]))] U.heap ∧ va_D A [(a, .inr (4, [.int 0, .null]))])) (va_Qv (fun _ : Nat => True) (fun u t => va_P D xCl [(a, .inr (4, [.int lane, .ref u])), (u, .inl (dA 0, n, .inl (fun _ => 0)))] t.heap ∧ va_D A [(a, .inr (4, [.int lane, .ref u])), (u, .inl (dA 0, n, .inl (fun _ => 0)))]) A) 1 64 A := by
  refine Met.ofW (cc := cX4_init) (maxL := 3) (ret := none) (by decide) rfl ?_
  intro p e s m args below meth c s₁ B hml hv
  obtain ⟨rfl, hC, hP, hD⟩ := hv
  have hx := B.exec
  have hb := B.bytes
  have hr := B.returns
  have hts := atoms_spec (ws := (ws_ yX4_init cX4_init 3 none)) B.pre
  have hts : ∀ w ∈ lw_all, w.before _ s = true := fun w h => hts w (List.mem_cons_of_mem _ h)
  have hown : s.vm.findClass RX4 = some m.cls := findClass_of_methodNamed B.named
  have hlocks := B.notSynchronized
  have S : CallFix p m c cX4_init 3 s ([.ref a, .int lane, .int (nI n)] : List Value).toArray lw_all RX4 := ⟨hx, hb, hml, hown, hts⟩
  have X : xX RX4 p s m ([.ref a, .int lane, .int (nI n)] : List Value).toArray c cX4_init 3 D dA A e0 := ⟨S, hC⟩
  have hin : meth.name = "<init>" := (name_of_methodNamed B.named B.method).1
  have M : gM D A s [(a, .inr (4, [.int 0, .null]))] s.heap [] := ⟨hP, hD, va_S.rf⟩
  have hl := lv_entry ([.ref a, .int lane, .int (nI n)]) (n := 3) (Nat.le_of_ble_eq_true rfl)
  rw [lg_entry_eq]
  generalize (lg_sl ([.ref a, .int lane, .int (nI n)]) ++ List.replicate (3 - (lg_sl ([.ref a, .int lane, .int (nI n)])).length) Slot.unset).toArray = ls at hl ⊢
  have hl : lv_has ls 3 [(0, .ref a), (1, .int lane), (2, .int (nI n))] := hl
  refine lv_aload_n hx hb dX4_init_0 rfl (lv_at hl 0 rfl) ?_
  refine W.objInit hx hb hown (hts _ q308) (hts _ q100) (hts _ q101) rfl (by rw [hml]; exact hl.1) rfl dX4_init_1 (Nat.le_of_ble_eq_true rfl) (Nat.le_of_ble_eq_true rfl) ?_
  refine W.eq (g2 := F0 m 4 ls []) rfl ?_
  refine lv_aload_n hx hb dX4_init_4 rfl (lv_at hl 0 rfl) ?_
  refine lv_iload_n hx hb dX4_init_5 rfl (lv_at hl 1 rfl) ?_
  refine va_putF (cl := xCl) (D := D) (ci := 4) (fs := [.int 0, .null]) (v := .int lane) (ty := .int) X.hx X.hb X.hts in_X4 tyX4 tyX4_ok nmX4 X.ow X.K M.1 M.2.1 M.2.2 0 rfl rfl 0 (by decide) (X.hts _ q309) (fun _ h9 => h9) rfl hin rfl (by decide +kernel) rfl rfl (Nat.le_of_ble_eq_true rfl) dX4_init_6 (fun H locs hP hD hS => ?_)
  have M : gM D A s [(a, .inr (4, [.int lane, .null]))] H locs := ⟨hP, hD, hS⟩
  refine lv_aload_n hx hb dX4_init_9 rfl (lv_at hl 0 rfl) ?_
  refine lv_iload_n hx hb dX4_init_10 rfl (lv_at hl 2 rfl) ?_
  refine g_newi (N' := n) X (X.hts _ q130) M.1 M.2.1 M.2.2 (nI_pos (by omega)) (nI_clamp (by omega)) (by omega) (Nat.le_of_ble_eq_true rfl) (by show 0 + n ≤ 64; omega) dX4_init_11 (fun q_1 H hP hD hS => ?_)
  have M : gM D A s [(a, .inr (4, [.int lane, .null])), (q_1, .inl (dA 0, n, .inl (fun _ => 0)))] H _ := ⟨hP, hD, hS⟩
  refine W.widen (k := 1) (n := 64) (Nat.le_of_ble_eq_true rfl) (by first | omega | (dsimp only; omega)) ?_
  refine va_putF (cl := xCl) (D := D) (ci := 4) (fs := [.int lane, .null]) (v := .ref q_1) (ty := .array .int) X.hx X.hb X.hts in_X4 tyX4 tyX4_ok nmX4 X.ow X.K M.1 M.2.1 M.2.2 0 rfl rfl 1 (by decide) (X.hts _ q311) (fun _ h9 => h9) rfl hin rfl (by decide +kernel) rfl rfl (Nat.le_of_ble_eq_true rfl) dX4_init_13 (fun H locs hP hD hS => ?_)
  have M : gM D A s [(a, .inr (4, [.int lane, .ref q_1])), (q_1, .inl (dA 0, n, .inl (fun _ => 0)))] H locs := ⟨hP, hD, hS⟩
  exact W.vret hx hb hr (fun t9 ht9 hW9 => ⟨⟨q_1, rfl, trivial, by rw [ht9]; exact M.1, M.2.1⟩, M.2.2.F ht9⟩) M.2.2.2.2 dX4_init_16

set_option maxHeartbeats 4000000 in
set_option maxRecDepth 100000 in
theorem metX10_init_X10 (l : Launch) (D : va_G) (dA : Nat → ClassId) (A : Nat → Prop) (e0 : Nat) (a : Nat) (r : Nat) (nr : Nat) (g : Nat → Int32) (hr7 : 7 ≤ nr) (hr2 : nr < 100) : Met l yX10_init (ws_ yX10_init cX10_init 2 none) ({ frames := 1, cells := 0, slots := 0, locals := 40 } : Room) (va_Pc [.ref a, .ref r] (fun U => xC D dA A e0 U ∧ va_P D xCl [(a, .inr (8, [.int 0, .int 0, .int 0, .int 0, .int 0, .int 0])), (r, .inl (dA 0, nr, .inl g))] U.heap ∧ va_D A [(a, .inr (8, [.int 0, .int 0, .int 0, .int 0, .int 0, .int 0])), (r, .inl (dA 0, nr, .inl g))])) (va_Qv (fun _ : Unit => True) (fun _ t => va_P D xCl [(a, .inr (8, [.int (g 1), .int (g 2), .int (g 3), .int (g 4), .int (g 5), .int (g 6)])), (r, .inl (dA 0, nr, .inl g))] t.heap ∧ va_D A [(a, .inr (8, [.int (g 1), .int (g 2), .int (g 3), .int (g 4), .int (g 5), .int (g 6)])), (r, .inl (dA 0, nr, .inl g))]) A) 0 0 A := by
  refine Met.ofW (cc := cX10_init) (maxL := 2) (ret := none) (by decide) rfl ?_
  intro p e s m args below meth c s₁ B hml hv
  obtain ⟨rfl, hC, hP, hD⟩ := hv
  have hx := B.exec
  have hb := B.bytes
  have hr := B.returns
  have hts := atoms_spec (ws := (ws_ yX10_init cX10_init 2 none)) B.pre
  have hts : ∀ w ∈ lw_all, w.before _ s = true := fun w h => hts w (List.mem_cons_of_mem _ h)
  have hown : s.vm.findClass RX10 = some m.cls := findClass_of_methodNamed B.named
  have hlocks := B.notSynchronized
  have S : CallFix p m c cX10_init 2 s ([.ref a, .ref r] : List Value).toArray lw_all RX10 := ⟨hx, hb, hml, hown, hts⟩
  have X : xX RX10 p s m ([.ref a, .ref r] : List Value).toArray c cX10_init 2 D dA A e0 := ⟨S, hC⟩
  have hin : meth.name = "<init>" := (name_of_methodNamed B.named B.method).1
  have M : gM D A s [(a, .inr (8, [.int 0, .int 0, .int 0, .int 0, .int 0, .int 0])), (r, .inl (dA 0, nr, .inl g))] s.heap [] := ⟨hP, hD, va_S.rf⟩
  have hl := lv_entry ([.ref a, .ref r]) (n := 2) (Nat.le_of_ble_eq_true rfl)
  rw [lg_entry_eq]
  generalize (lg_sl ([.ref a, .ref r]) ++ List.replicate (2 - (lg_sl ([.ref a, .ref r])).length) Slot.unset).toArray = ls at hl ⊢
  have hl : lv_has ls 2 [(0, .ref a), (1, .ref r)] := hl
  refine lv_aload_n hx hb dX10_init_0 rfl (lv_at hl 0 rfl) ?_
  refine W.objInit hx hb hown (hts _ q1085) (hts _ q100) (hts _ q101) rfl (by rw [hml]; exact hl.1) rfl dX10_init_1 (Nat.le_of_ble_eq_true rfl) (Nat.le_of_ble_eq_true rfl) ?_
  refine W.eq (g2 := F0 m 4 ls []) rfl ?_
  refine lv_aload_n hx hb dX10_init_4 rfl (lv_at hl 0 rfl) ?_
  refine lv_aload_n hx hb dX10_init_5 rfl (lv_at hl 1 rfl) ?_
  refine lv_iconst (v := 1) hx hb dX10_init_6 (by decide) ?_
  refine g_iald (n := nr) (f := g) (j := 1) X M.1 1 0 rfl rfl (show vp_in (nI 1) _ from vp_in_nI (by omega) (by omega)) rfl dX10_init_7 ?_
  refine va_putF (cl := xCl) (D := D) (ci := 8) (fs := [.int 0, .int 0, .int 0, .int 0, .int 0, .int 0]) (v := .int (g 1)) (ty := .int) X.hx X.hb X.hts in_X10 tyX10 tyX10_ok nmX10 X.ow X.K M.1 M.2.1 M.2.2 0 rfl rfl 0 (by decide) (X.hts _ q1086) (fun _ h9 => h9) rfl hin rfl (by decide +kernel) rfl rfl (Nat.le_of_ble_eq_true rfl) dX10_init_8 (fun H locs hP hD hS => ?_)
  have M : gM D A s [(a, .inr (8, [.int (g 1), .int 0, .int 0, .int 0, .int 0, .int 0])), (r, .inl (dA 0, nr, .inl g))] H locs := ⟨hP, hD, hS⟩
  refine lv_aload_n hx hb dX10_init_11 rfl (lv_at hl 0 rfl) ?_
  refine lv_aload_n hx hb dX10_init_12 rfl (lv_at hl 1 rfl) ?_
  refine lv_iconst (v := 2) hx hb dX10_init_13 (by decide) ?_
  refine g_iald (n := nr) (f := g) (j := 2) X M.1 1 0 rfl rfl (show vp_in (nI 2) _ from vp_in_nI (by omega) (by omega)) rfl dX10_init_14 ?_
  refine va_putF (cl := xCl) (D := D) (ci := 8) (fs := [.int (g 1), .int 0, .int 0, .int 0, .int 0, .int 0]) (v := .int (g 2)) (ty := .int) X.hx X.hb X.hts in_X10 tyX10 tyX10_ok nmX10 X.ow X.K M.1 M.2.1 M.2.2 0 rfl rfl 1 (by decide) (X.hts _ q1090) (fun _ h9 => h9) rfl hin rfl (by decide +kernel) rfl rfl (Nat.le_of_ble_eq_true rfl) dX10_init_15 (fun H locs hP hD hS => ?_)
  have M : gM D A s [(a, .inr (8, [.int (g 1), .int (g 2), .int 0, .int 0, .int 0, .int 0])), (r, .inl (dA 0, nr, .inl g))] H locs := ⟨hP, hD, hS⟩
  refine lv_aload_n hx hb dX10_init_18 rfl (lv_at hl 0 rfl) ?_
  refine lv_aload_n hx hb dX10_init_19 rfl (lv_at hl 1 rfl) ?_
  refine lv_iconst (v := 3) hx hb dX10_init_20 (by decide) ?_
  refine g_iald (n := nr) (f := g) (j := 3) X M.1 1 0 rfl rfl (show vp_in (nI 3) _ from vp_in_nI (by omega) (by omega)) rfl dX10_init_21 ?_
  refine va_putF (cl := xCl) (D := D) (ci := 8) (fs := [.int (g 1), .int (g 2), .int 0, .int 0, .int 0, .int 0]) (v := .int (g 3)) (ty := .int) X.hx X.hb X.hts in_X10 tyX10 tyX10_ok nmX10 X.ow X.K M.1 M.2.1 M.2.2 0 rfl rfl 2 (by decide) (X.hts _ q1092) (fun _ h9 => h9) rfl hin rfl (by decide +kernel) rfl rfl (Nat.le_of_ble_eq_true rfl) dX10_init_22 (fun H locs hP hD hS => ?_)
  have M : gM D A s [(a, .inr (8, [.int (g 1), .int (g 2), .int (g 3), .int 0, .int 0, .int 0])), (r, .inl (dA 0, nr, .inl g))] H locs := ⟨hP, hD, hS⟩
  refine lv_aload_n hx hb dX10_init_25 rfl (lv_at hl 0 rfl) ?_
  refine lv_aload_n hx hb dX10_init_26 rfl (lv_at hl 1 rfl) ?_
  refine lv_iconst (v := 4) hx hb dX10_init_27 (by decide) ?_
  refine g_iald (n := nr) (f := g) (j := 4) X M.1 1 0 rfl rfl (show vp_in (nI 4) _ from vp_in_nI (by omega) (by omega)) rfl dX10_init_28 ?_
  refine va_putF (cl := xCl) (D := D) (ci := 8) (fs := [.int (g 1), .int (g 2), .int (g 3), .int 0, .int 0, .int 0]) (v := .int (g 4)) (ty := .int) X.hx X.hb X.hts in_X10 tyX10 tyX10_ok nmX10 X.ow X.K M.1 M.2.1 M.2.2 0 rfl rfl 3 (by decide) (X.hts _ q1096) (fun _ h9 => h9) rfl hin rfl (by decide +kernel) rfl rfl (Nat.le_of_ble_eq_true rfl) dX10_init_29 (fun H locs hP hD hS => ?_)
  have M : gM D A s [(a, .inr (8, [.int (g 1), .int (g 2), .int (g 3), .int (g 4), .int 0, .int 0])), (r, .inl (dA 0, nr, .inl g))] H locs := ⟨hP, hD, hS⟩
  refine lv_aload_n hx hb dX10_init_32 rfl (lv_at hl 0 rfl) ?_
  refine lv_aload_n hx hb dX10_init_33 rfl (lv_at hl 1 rfl) ?_
  refine lv_iconst (v := 5) hx hb dX10_init_34 (by decide) ?_
  refine g_iald (n := nr) (f := g) (j := 5) X M.1 1 0 rfl rfl (show vp_in (nI 5) _ from vp_in_nI (by omega) (by omega)) rfl dX10_init_35 ?_
  refine va_putF (cl := xCl) (D := D) (ci := 8) (fs := [.int (g 1), .int (g 2), .int (g 3), .int (g 4), .int 0, .int 0]) (v := .int (g 5)) (ty := .int) X.hx X.hb X.hts in_X10 tyX10 tyX10_ok nmX10 X.ow X.K M.1 M.2.1 M.2.2 0 rfl rfl 4 (by decide) (X.hts _ q1100) (fun _ h9 => h9) rfl hin rfl (by decide +kernel) rfl rfl (Nat.le_of_ble_eq_true rfl) dX10_init_36 (fun H locs hP hD hS => ?_)
  have M : gM D A s [(a, .inr (8, [.int (g 1), .int (g 2), .int (g 3), .int (g 4), .int (g 5), .int 0])), (r, .inl (dA 0, nr, .inl g))] H locs := ⟨hP, hD, hS⟩
  refine lv_aload_n hx hb dX10_init_39 rfl (lv_at hl 0 rfl) ?_
  refine lv_aload_n hx hb dX10_init_40 rfl (lv_at hl 1 rfl) ?_
  refine lv_bipush (v := 6) hx hb dX10_init_41 (by decide) ?_
  refine g_iald (n := nr) (f := g) (j := 6) X M.1 1 0 rfl rfl (show vp_in (nI 6) _ from vp_in_nI (by omega) (by omega)) rfl dX10_init_43 ?_
  refine va_putF (cl := xCl) (D := D) (ci := 8) (fs := [.int (g 1), .int (g 2), .int (g 3), .int (g 4), .int (g 5), .int 0]) (v := .int (g 6)) (ty := .int) X.hx X.hb X.hts in_X10 tyX10 tyX10_ok nmX10 X.ow X.K M.1 M.2.1 M.2.2 0 rfl rfl 5 (by decide) (X.hts _ q1102) (fun _ h9 => h9) rfl hin rfl (by decide +kernel) rfl rfl (Nat.le_of_ble_eq_true rfl) dX10_init_44 (fun H locs hP hD hS => ?_)
  have M : gM D A s [(a, .inr (8, [.int (g 1), .int (g 2), .int (g 3), .int (g 4), .int (g 5), .int (g 6)])), (r, .inl (dA 0, nr, .inl g))] H locs := ⟨hP, hD, hS⟩
  exact W.vret hx hb hr (fun t9 ht9 hW9 => ⟨⟨(), rfl, trivial, by rw [ht9]; exact M.1, M.2.1⟩, M.2.2.F ht9⟩) M.2.2.2.2 dX10_init_47

set_option maxHeartbeats 4000000 in
set_option maxRecDepth 100000 in
theorem metX10_init_X11 (l : Launch) (D : va_G) (dA : Nat → ClassId) (A : Nat → Prop) (e0 : Nat) (a : Nat) (r : Nat) (nr : Nat) (g : Nat → Int32) (hr7 : 7 ≤ nr) (hr2 : nr < 100) : Met l yX10_init (ws_ yX10_init cX10_init 2 none) ({ frames := 1, cells := 0, slots := 0, locals := 40 } : Room) (va_Pc [.ref a, .ref r] (fun U => xC D dA A e0 U ∧ va_P D xCl [(a, .inr (9, [.int 0, .int 0, .int 0, .int 0, .int 0, .int 0])), (r, .inl (dA 0, nr, .inl g))] U.heap ∧ va_D A [(a, .inr (9, [.int 0, .int 0, .int 0, .int 0, .int 0, .int 0])), (r, .inl (dA 0, nr, .inl g))])) (va_Qv (fun _ : Unit => True) (fun _ t => va_P D xCl [(a, .inr (9, [.int (g 1), .int (g 2), .int (g 3), .int (g 4), .int (g 5), .int (g 6)])), (r, .inl (dA 0, nr, .inl g))] t.heap ∧ va_D A [(a, .inr (9, [.int (g 1), .int (g 2), .int (g 3), .int (g 4), .int (g 5), .int (g 6)])), (r, .inl (dA 0, nr, .inl g))]) A) 0 0 A := by
  refine Met.ofW (cc := cX10_init) (maxL := 2) (ret := none) (by decide) rfl ?_
  intro p e s m args below meth c s₁ B hml hv
  obtain ⟨rfl, hC, hP, hD⟩ := hv
  have hx := B.exec
  have hb := B.bytes
  have hr := B.returns
  have hts := atoms_spec (ws := (ws_ yX10_init cX10_init 2 none)) B.pre
  have hts : ∀ w ∈ lw_all, w.before _ s = true := fun w h => hts w (List.mem_cons_of_mem _ h)
  have hown : s.vm.findClass RX10 = some m.cls := findClass_of_methodNamed B.named
  have hlocks := B.notSynchronized
  have S : CallFix p m c cX10_init 2 s ([.ref a, .ref r] : List Value).toArray lw_all RX10 := ⟨hx, hb, hml, hown, hts⟩
  have X : xX RX10 p s m ([.ref a, .ref r] : List Value).toArray c cX10_init 2 D dA A e0 := ⟨S, hC⟩
  have hin : meth.name = "<init>" := (name_of_methodNamed B.named B.method).1
  have M : gM D A s [(a, .inr (9, [.int 0, .int 0, .int 0, .int 0, .int 0, .int 0])), (r, .inl (dA 0, nr, .inl g))] s.heap [] := ⟨hP, hD, va_S.rf⟩
  have hl := lv_entry ([.ref a, .ref r]) (n := 2) (Nat.le_of_ble_eq_true rfl)
  rw [lg_entry_eq]
  generalize (lg_sl ([.ref a, .ref r]) ++ List.replicate (2 - (lg_sl ([.ref a, .ref r])).length) Slot.unset).toArray = ls at hl ⊢
  have hl : lv_has ls 2 [(0, .ref a), (1, .ref r)] := hl
  refine lv_aload_n hx hb dX10_init_0 rfl (lv_at hl 0 rfl) ?_
  refine W.objInit hx hb hown (hts _ q1085) (hts _ q100) (hts _ q101) rfl (by rw [hml]; exact hl.1) rfl dX10_init_1 (Nat.le_of_ble_eq_true rfl) (Nat.le_of_ble_eq_true rfl) ?_
  refine W.eq (g2 := F0 m 4 ls []) rfl ?_
  refine lv_aload_n hx hb dX10_init_4 rfl (lv_at hl 0 rfl) ?_
  refine lv_aload_n hx hb dX10_init_5 rfl (lv_at hl 1 rfl) ?_
  refine lv_iconst (v := 1) hx hb dX10_init_6 (by decide) ?_
  refine g_iald (n := nr) (f := g) (j := 1) X M.1 1 0 rfl rfl (show vp_in (nI 1) _ from vp_in_nI (by omega) (by omega)) rfl dX10_init_7 ?_
  refine va_putF (cl := xCl) (D := D) (ci := 9) (fs := [.int 0, .int 0, .int 0, .int 0, .int 0, .int 0]) (v := .int (g 1)) (ty := .int) X.hx X.hb X.hts in_X11 tyX11 tyX11_ok nmX11 X.ow X.K M.1 M.2.1 M.2.2 0 rfl rfl 0 (by decide) (X.hts _ q1086) (fun _ h9 => h9) rfl hin rfl (by decide +kernel) rfl rfl (Nat.le_of_ble_eq_true rfl) dX10_init_8 (fun H locs hP hD hS => ?_)
  have M : gM D A s [(a, .inr (9, [.int (g 1), .int 0, .int 0, .int 0, .int 0, .int 0])), (r, .inl (dA 0, nr, .inl g))] H locs := ⟨hP, hD, hS⟩
  refine lv_aload_n hx hb dX10_init_11 rfl (lv_at hl 0 rfl) ?_
  refine lv_aload_n hx hb dX10_init_12 rfl (lv_at hl 1 rfl) ?_
  refine lv_iconst (v := 2) hx hb dX10_init_13 (by decide) ?_
  refine g_iald (n := nr) (f := g) (j := 2) X M.1 1 0 rfl rfl (show vp_in (nI 2) _ from vp_in_nI (by omega) (by omega)) rfl dX10_init_14 ?_
  refine va_putF (cl := xCl) (D := D) (ci := 9) (fs := [.int (g 1), .int 0, .int 0, .int 0, .int 0, .int 0]) (v := .int (g 2)) (ty := .int) X.hx X.hb X.hts in_X11 tyX11 tyX11_ok nmX11 X.ow X.K M.1 M.2.1 M.2.2 0 rfl rfl 1 (by decide) (X.hts _ q1090) (fun _ h9 => h9) rfl hin rfl (by decide +kernel) rfl rfl (Nat.le_of_ble_eq_true rfl) dX10_init_15 (fun H locs hP hD hS => ?_)
  have M : gM D A s [(a, .inr (9, [.int (g 1), .int (g 2), .int 0, .int 0, .int 0, .int 0])), (r, .inl (dA 0, nr, .inl g))] H locs := ⟨hP, hD, hS⟩
  refine lv_aload_n hx hb dX10_init_18 rfl (lv_at hl 0 rfl) ?_
  refine lv_aload_n hx hb dX10_init_19 rfl (lv_at hl 1 rfl) ?_
  refine lv_iconst (v := 3) hx hb dX10_init_20 (by decide) ?_
  refine g_iald (n := nr) (f := g) (j := 3) X M.1 1 0 rfl rfl (show vp_in (nI 3) _ from vp_in_nI (by omega) (by omega)) rfl dX10_init_21 ?_
  refine va_putF (cl := xCl) (D := D) (ci := 9) (fs := [.int (g 1), .int (g 2), .int 0, .int 0, .int 0, .int 0]) (v := .int (g 3)) (ty := .int) X.hx X.hb X.hts in_X11 tyX11 tyX11_ok nmX11 X.ow X.K M.1 M.2.1 M.2.2 0 rfl rfl 2 (by decide) (X.hts _ q1092) (fun _ h9 => h9) rfl hin rfl (by decide +kernel) rfl rfl (Nat.le_of_ble_eq_true rfl) dX10_init_22 (fun H locs hP hD hS => ?_)
  have M : gM D A s [(a, .inr (9, [.int (g 1), .int (g 2), .int (g 3), .int 0, .int 0, .int 0])), (r, .inl (dA 0, nr, .inl g))] H locs := ⟨hP, hD, hS⟩
  refine lv_aload_n hx hb dX10_init_25 rfl (lv_at hl 0 rfl) ?_
  refine lv_aload_n hx hb dX10_init_26 rfl (lv_at hl 1 rfl) ?_
  refine lv_iconst (v := 4) hx hb dX10_init_27 (by decide) ?_
  refine g_iald (n := nr) (f := g) (j := 4) X M.1 1 0 rfl rfl (show vp_in (nI 4) _ from vp_in_nI (by omega) (by omega)) rfl dX10_init_28 ?_
  refine va_putF (cl := xCl) (D := D) (ci := 9) (fs := [.int (g 1), .int (g 2), .int (g 3), .int 0, .int 0, .int 0]) (v := .int (g 4)) (ty := .int) X.hx X.hb X.hts in_X11 tyX11 tyX11_ok nmX11 X.ow X.K M.1 M.2.1 M.2.2 0 rfl rfl 3 (by decide) (X.hts _ q1096) (fun _ h9 => h9) rfl hin rfl (by decide +kernel) rfl rfl (Nat.le_of_ble_eq_true rfl) dX10_init_29 (fun H locs hP hD hS => ?_)
  have M : gM D A s [(a, .inr (9, [.int (g 1), .int (g 2), .int (g 3), .int (g 4), .int 0, .int 0])), (r, .inl (dA 0, nr, .inl g))] H locs := ⟨hP, hD, hS⟩
  refine lv_aload_n hx hb dX10_init_32 rfl (lv_at hl 0 rfl) ?_
  refine lv_aload_n hx hb dX10_init_33 rfl (lv_at hl 1 rfl) ?_
  refine lv_iconst (v := 5) hx hb dX10_init_34 (by decide) ?_
  refine g_iald (n := nr) (f := g) (j := 5) X M.1 1 0 rfl rfl (show vp_in (nI 5) _ from vp_in_nI (by omega) (by omega)) rfl dX10_init_35 ?_
  refine va_putF (cl := xCl) (D := D) (ci := 9) (fs := [.int (g 1), .int (g 2), .int (g 3), .int (g 4), .int 0, .int 0]) (v := .int (g 5)) (ty := .int) X.hx X.hb X.hts in_X11 tyX11 tyX11_ok nmX11 X.ow X.K M.1 M.2.1 M.2.2 0 rfl rfl 4 (by decide) (X.hts _ q1100) (fun _ h9 => h9) rfl hin rfl (by decide +kernel) rfl rfl (Nat.le_of_ble_eq_true rfl) dX10_init_36 (fun H locs hP hD hS => ?_)
  have M : gM D A s [(a, .inr (9, [.int (g 1), .int (g 2), .int (g 3), .int (g 4), .int (g 5), .int 0])), (r, .inl (dA 0, nr, .inl g))] H locs := ⟨hP, hD, hS⟩
  refine lv_aload_n hx hb dX10_init_39 rfl (lv_at hl 0 rfl) ?_
  refine lv_aload_n hx hb dX10_init_40 rfl (lv_at hl 1 rfl) ?_
  refine lv_bipush (v := 6) hx hb dX10_init_41 (by decide) ?_
  refine g_iald (n := nr) (f := g) (j := 6) X M.1 1 0 rfl rfl (show vp_in (nI 6) _ from vp_in_nI (by omega) (by omega)) rfl dX10_init_43 ?_
  refine va_putF (cl := xCl) (D := D) (ci := 9) (fs := [.int (g 1), .int (g 2), .int (g 3), .int (g 4), .int (g 5), .int 0]) (v := .int (g 6)) (ty := .int) X.hx X.hb X.hts in_X11 tyX11 tyX11_ok nmX11 X.ow X.K M.1 M.2.1 M.2.2 0 rfl rfl 5 (by decide) (X.hts _ q1102) (fun _ h9 => h9) rfl hin rfl (by decide +kernel) rfl rfl (Nat.le_of_ble_eq_true rfl) dX10_init_44 (fun H locs hP hD hS => ?_)
  have M : gM D A s [(a, .inr (9, [.int (g 1), .int (g 2), .int (g 3), .int (g 4), .int (g 5), .int (g 6)])), (r, .inl (dA 0, nr, .inl g))] H locs := ⟨hP, hD, hS⟩
  exact W.vret hx hb hr (fun t9 ht9 hW9 => ⟨⟨(), rfl, trivial, by rw [ht9]; exact M.1, M.2.1⟩, M.2.2.F ht9⟩) M.2.2.2.2 dX10_init_47

set_option maxHeartbeats 4000000 in
set_option maxRecDepth 100000 in
theorem metX10_init_X12 (l : Launch) (D : va_G) (dA : Nat → ClassId) (A : Nat → Prop) (e0 : Nat) (a : Nat) (r : Nat) (nr : Nat) (g : Nat → Int32) (hr7 : 7 ≤ nr) (hr2 : nr < 100) : Met l yX10_init (ws_ yX10_init cX10_init 2 none) ({ frames := 1, cells := 0, slots := 0, locals := 40 } : Room) (va_Pc [.ref a, .ref r] (fun U => xC D dA A e0 U ∧ va_P D xCl [(a, .inr (10, [.int 0, .int 0, .int 0, .int 0, .int 0, .int 0])), (r, .inl (dA 0, nr, .inl g))] U.heap ∧ va_D A [(a, .inr (10, [.int 0, .int 0, .int 0, .int 0, .int 0, .int 0])), (r, .inl (dA 0, nr, .inl g))])) (va_Qv (fun _ : Unit => True) (fun _ t => va_P D xCl [(a, .inr (10, [.int (g 1), .int (g 2), .int (g 3), .int (g 4), .int (g 5), .int (g 6)])), (r, .inl (dA 0, nr, .inl g))] t.heap ∧ va_D A [(a, .inr (10, [.int (g 1), .int (g 2), .int (g 3), .int (g 4), .int (g 5), .int (g 6)])), (r, .inl (dA 0, nr, .inl g))]) A) 0 0 A := by
  refine Met.ofW (cc := cX10_init) (maxL := 2) (ret := none) (by decide) rfl ?_
  intro p e s m args below meth c s₁ B hml hv
  obtain ⟨rfl, hC, hP, hD⟩ := hv
  have hx := B.exec
  have hb := B.bytes
  have hr := B.returns
  have hts := atoms_spec (ws := (ws_ yX10_init cX10_init 2 none)) B.pre
  have hts : ∀ w ∈ lw_all, w.before _ s = true := fun w h => hts w (List.mem_cons_of_mem _ h)
  have hown : s.vm.findClass RX10 = some m.cls := findClass_of_methodNamed B.named
  have hlocks := B.notSynchronized
  have S : CallFix p m c cX10_init 2 s ([.ref a, .ref r] : List Value).toArray lw_all RX10 := ⟨hx, hb, hml, hown, hts⟩
  have X : xX RX10 p s m ([.ref a, .ref r] : List Value).toArray c cX10_init 2 D dA A e0 := ⟨S, hC⟩
  have hin : meth.name = "<init>" := (name_of_methodNamed B.named B.method).1
  have M : gM D A s [(a, .inr (10, [.int 0, .int 0, .int 0, .int 0, .int 0, .int 0])), (r, .inl (dA 0, nr, .inl g))] s.heap [] := ⟨hP, hD, va_S.rf⟩
  have hl := lv_entry ([.ref a, .ref r]) (n := 2) (Nat.le_of_ble_eq_true rfl)
  rw [lg_entry_eq]
  generalize (lg_sl ([.ref a, .ref r]) ++ List.replicate (2 - (lg_sl ([.ref a, .ref r])).length) Slot.unset).toArray = ls at hl ⊢
  have hl : lv_has ls 2 [(0, .ref a), (1, .ref r)] := hl
  refine lv_aload_n hx hb dX10_init_0 rfl (lv_at hl 0 rfl) ?_
  refine W.objInit hx hb hown (hts _ q1085) (hts _ q100) (hts _ q101) rfl (by rw [hml]; exact hl.1) rfl dX10_init_1 (Nat.le_of_ble_eq_true rfl) (Nat.le_of_ble_eq_true rfl) ?_
  refine W.eq (g2 := F0 m 4 ls []) rfl ?_
  refine lv_aload_n hx hb dX10_init_4 rfl (lv_at hl 0 rfl) ?_
  refine lv_aload_n hx hb dX10_init_5 rfl (lv_at hl 1 rfl) ?_
  refine lv_iconst (v := 1) hx hb dX10_init_6 (by decide) ?_
  refine g_iald (n := nr) (f := g) (j := 1) X M.1 1 0 rfl rfl (show vp_in (nI 1) _ from vp_in_nI (by omega) (by omega)) rfl dX10_init_7 ?_
  refine va_putF (cl := xCl) (D := D) (ci := 10) (fs := [.int 0, .int 0, .int 0, .int 0, .int 0, .int 0]) (v := .int (g 1)) (ty := .int) X.hx X.hb X.hts in_X12 tyX12 tyX12_ok nmX12 X.ow X.K M.1 M.2.1 M.2.2 0 rfl rfl 0 (by decide) (X.hts _ q1086) (fun _ h9 => h9) rfl hin rfl (by decide +kernel) rfl rfl (Nat.le_of_ble_eq_true rfl) dX10_init_8 (fun H locs hP hD hS => ?_)
  have M : gM D A s [(a, .inr (10, [.int (g 1), .int 0, .int 0, .int 0, .int 0, .int 0])), (r, .inl (dA 0, nr, .inl g))] H locs := ⟨hP, hD, hS⟩
  refine lv_aload_n hx hb dX10_init_11 rfl (lv_at hl 0 rfl) ?_
  refine lv_aload_n hx hb dX10_init_12 rfl (lv_at hl 1 rfl) ?_
  refine lv_iconst (v := 2) hx hb dX10_init_13 (by decide) ?_
  refine g_iald (n := nr) (f := g) (j := 2) X M.1 1 0 rfl rfl (show vp_in (nI 2) _ from vp_in_nI (by omega) (by omega)) rfl dX10_init_14 ?_
  refine va_putF (cl := xCl) (D := D) (ci := 10) (fs := [.int (g 1), .int 0, .int 0, .int 0, .int 0, .int 0]) (v := .int (g 2)) (ty := .int) X.hx X.hb X.hts in_X12 tyX12 tyX12_ok nmX12 X.ow X.K M.1 M.2.1 M.2.2 0 rfl rfl 1 (by decide) (X.hts _ q1090) (fun _ h9 => h9) rfl hin rfl (by decide +kernel) rfl rfl (Nat.le_of_ble_eq_true rfl) dX10_init_15 (fun H locs hP hD hS => ?_)
  have M : gM D A s [(a, .inr (10, [.int (g 1), .int (g 2), .int 0, .int 0, .int 0, .int 0])), (r, .inl (dA 0, nr, .inl g))] H locs := ⟨hP, hD, hS⟩
  refine lv_aload_n hx hb dX10_init_18 rfl (lv_at hl 0 rfl) ?_
  refine lv_aload_n hx hb dX10_init_19 rfl (lv_at hl 1 rfl) ?_
  refine lv_iconst (v := 3) hx hb dX10_init_20 (by decide) ?_
  refine g_iald (n := nr) (f := g) (j := 3) X M.1 1 0 rfl rfl (show vp_in (nI 3) _ from vp_in_nI (by omega) (by omega)) rfl dX10_init_21 ?_
  refine va_putF (cl := xCl) (D := D) (ci := 10) (fs := [.int (g 1), .int (g 2), .int 0, .int 0, .int 0, .int 0]) (v := .int (g 3)) (ty := .int) X.hx X.hb X.hts in_X12 tyX12 tyX12_ok nmX12 X.ow X.K M.1 M.2.1 M.2.2 0 rfl rfl 2 (by decide) (X.hts _ q1092) (fun _ h9 => h9) rfl hin rfl (by decide +kernel) rfl rfl (Nat.le_of_ble_eq_true rfl) dX10_init_22 (fun H locs hP hD hS => ?_)
  have M : gM D A s [(a, .inr (10, [.int (g 1), .int (g 2), .int (g 3), .int 0, .int 0, .int 0])), (r, .inl (dA 0, nr, .inl g))] H locs := ⟨hP, hD, hS⟩
  refine lv_aload_n hx hb dX10_init_25 rfl (lv_at hl 0 rfl) ?_
  refine lv_aload_n hx hb dX10_init_26 rfl (lv_at hl 1 rfl) ?_
  refine lv_iconst (v := 4) hx hb dX10_init_27 (by decide) ?_
  refine g_iald (n := nr) (f := g) (j := 4) X M.1 1 0 rfl rfl (show vp_in (nI 4) _ from vp_in_nI (by omega) (by omega)) rfl dX10_init_28 ?_
  refine va_putF (cl := xCl) (D := D) (ci := 10) (fs := [.int (g 1), .int (g 2), .int (g 3), .int 0, .int 0, .int 0]) (v := .int (g 4)) (ty := .int) X.hx X.hb X.hts in_X12 tyX12 tyX12_ok nmX12 X.ow X.K M.1 M.2.1 M.2.2 0 rfl rfl 3 (by decide) (X.hts _ q1096) (fun _ h9 => h9) rfl hin rfl (by decide +kernel) rfl rfl (Nat.le_of_ble_eq_true rfl) dX10_init_29 (fun H locs hP hD hS => ?_)
  have M : gM D A s [(a, .inr (10, [.int (g 1), .int (g 2), .int (g 3), .int (g 4), .int 0, .int 0])), (r, .inl (dA 0, nr, .inl g))] H locs := ⟨hP, hD, hS⟩
  refine lv_aload_n hx hb dX10_init_32 rfl (lv_at hl 0 rfl) ?_
  refine lv_aload_n hx hb dX10_init_33 rfl (lv_at hl 1 rfl) ?_
  refine lv_iconst (v := 5) hx hb dX10_init_34 (by decide) ?_
  refine g_iald (n := nr) (f := g) (j := 5) X M.1 1 0 rfl rfl (show vp_in (nI 5) _ from vp_in_nI (by omega) (by omega)) rfl dX10_init_35 ?_
  refine va_putF (cl := xCl) (D := D) (ci := 10) (fs := [.int (g 1), .int (g 2), .int (g 3), .int (g 4), .int 0, .int 0]) (v := .int (g 5)) (ty := .int) X.hx X.hb X.hts in_X12 tyX12 tyX12_ok nmX12 X.ow X.K M.1 M.2.1 M.2.2 0 rfl rfl 4 (by decide) (X.hts _ q1100) (fun _ h9 => h9) rfl hin rfl (by decide +kernel) rfl rfl (Nat.le_of_ble_eq_true rfl) dX10_init_36 (fun H locs hP hD hS => ?_)
  have M : gM D A s [(a, .inr (10, [.int (g 1), .int (g 2), .int (g 3), .int (g 4), .int (g 5), .int 0])), (r, .inl (dA 0, nr, .inl g))] H locs := ⟨hP, hD, hS⟩
  refine lv_aload_n hx hb dX10_init_39 rfl (lv_at hl 0 rfl) ?_
  refine lv_aload_n hx hb dX10_init_40 rfl (lv_at hl 1 rfl) ?_
  refine lv_bipush (v := 6) hx hb dX10_init_41 (by decide) ?_
  refine g_iald (n := nr) (f := g) (j := 6) X M.1 1 0 rfl rfl (show vp_in (nI 6) _ from vp_in_nI (by omega) (by omega)) rfl dX10_init_43 ?_
  refine va_putF (cl := xCl) (D := D) (ci := 10) (fs := [.int (g 1), .int (g 2), .int (g 3), .int (g 4), .int (g 5), .int 0]) (v := .int (g 6)) (ty := .int) X.hx X.hb X.hts in_X12 tyX12 tyX12_ok nmX12 X.ow X.K M.1 M.2.1 M.2.2 0 rfl rfl 5 (by decide) (X.hts _ q1102) (fun _ h9 => h9) rfl hin rfl (by decide +kernel) rfl rfl (Nat.le_of_ble_eq_true rfl) dX10_init_44 (fun H locs hP hD hS => ?_)
  have M : gM D A s [(a, .inr (10, [.int (g 1), .int (g 2), .int (g 3), .int (g 4), .int (g 5), .int (g 6)])), (r, .inl (dA 0, nr, .inl g))] H locs := ⟨hP, hD, hS⟩
  exact W.vret hx hb hr (fun t9 ht9 hW9 => ⟨⟨(), rfl, trivial, by rw [ht9]; exact M.1, M.2.1⟩, M.2.2.F ht9⟩) M.2.2.2.2 dX10_init_47

set_option maxHeartbeats 4000000 in
set_option maxRecDepth 100000 in
theorem metX10_init_X13 (l : Launch) (D : va_G) (dA : Nat → ClassId) (A : Nat → Prop) (e0 : Nat) (a : Nat) (r : Nat) (nr : Nat) (g : Nat → Int32) (hr7 : 7 ≤ nr) (hr2 : nr < 100) : Met l yX10_init (ws_ yX10_init cX10_init 2 none) ({ frames := 1, cells := 0, slots := 0, locals := 40 } : Room) (va_Pc [.ref a, .ref r] (fun U => xC D dA A e0 U ∧ va_P D xCl [(a, .inr (11, [.int 0, .int 0, .int 0, .int 0, .int 0, .int 0])), (r, .inl (dA 0, nr, .inl g))] U.heap ∧ va_D A [(a, .inr (11, [.int 0, .int 0, .int 0, .int 0, .int 0, .int 0])), (r, .inl (dA 0, nr, .inl g))])) (va_Qv (fun _ : Unit => True) (fun _ t => va_P D xCl [(a, .inr (11, [.int (g 1), .int (g 2), .int (g 3), .int (g 4), .int (g 5), .int (g 6)])), (r, .inl (dA 0, nr, .inl g))] t.heap ∧ va_D A [(a, .inr (11, [.int (g 1), .int (g 2), .int (g 3), .int (g 4), .int (g 5), .int (g 6)])), (r, .inl (dA 0, nr, .inl g))]) A) 0 0 A := by
  refine Met.ofW (cc := cX10_init) (maxL := 2) (ret := none) (by decide) rfl ?_
  intro p e s m args below meth c s₁ B hml hv
  obtain ⟨rfl, hC, hP, hD⟩ := hv
  have hx := B.exec
  have hb := B.bytes
  have hr := B.returns
  have hts := atoms_spec (ws := (ws_ yX10_init cX10_init 2 none)) B.pre
  have hts : ∀ w ∈ lw_all, w.before _ s = true := fun w h => hts w (List.mem_cons_of_mem _ h)
  have hown : s.vm.findClass RX10 = some m.cls := findClass_of_methodNamed B.named
  have hlocks := B.notSynchronized
  have S : CallFix p m c cX10_init 2 s ([.ref a, .ref r] : List Value).toArray lw_all RX10 := ⟨hx, hb, hml, hown, hts⟩
  have X : xX RX10 p s m ([.ref a, .ref r] : List Value).toArray c cX10_init 2 D dA A e0 := ⟨S, hC⟩
  have hin : meth.name = "<init>" := (name_of_methodNamed B.named B.method).1
  have M : gM D A s [(a, .inr (11, [.int 0, .int 0, .int 0, .int 0, .int 0, .int 0])), (r, .inl (dA 0, nr, .inl g))] s.heap [] := ⟨hP, hD, va_S.rf⟩
  have hl := lv_entry ([.ref a, .ref r]) (n := 2) (Nat.le_of_ble_eq_true rfl)
  rw [lg_entry_eq]
  generalize (lg_sl ([.ref a, .ref r]) ++ List.replicate (2 - (lg_sl ([.ref a, .ref r])).length) Slot.unset).toArray = ls at hl ⊢
  have hl : lv_has ls 2 [(0, .ref a), (1, .ref r)] := hl
  refine lv_aload_n hx hb dX10_init_0 rfl (lv_at hl 0 rfl) ?_
  refine W.objInit hx hb hown (hts _ q1085) (hts _ q100) (hts _ q101) rfl (by rw [hml]; exact hl.1) rfl dX10_init_1 (Nat.le_of_ble_eq_true rfl) (Nat.le_of_ble_eq_true rfl) ?_
  refine W.eq (g2 := F0 m 4 ls []) rfl ?_
  refine lv_aload_n hx hb dX10_init_4 rfl (lv_at hl 0 rfl) ?_
  refine lv_aload_n hx hb dX10_init_5 rfl (lv_at hl 1 rfl) ?_
  refine lv_iconst (v := 1) hx hb dX10_init_6 (by decide) ?_
  refine g_iald (n := nr) (f := g) (j := 1) X M.1 1 0 rfl rfl (show vp_in (nI 1) _ from vp_in_nI (by omega) (by omega)) rfl dX10_init_7 ?_
  refine va_putF (cl := xCl) (D := D) (ci := 11) (fs := [.int 0, .int 0, .int 0, .int 0, .int 0, .int 0]) (v := .int (g 1)) (ty := .int) X.hx X.hb X.hts in_X13 tyX13 tyX13_ok nmX13 X.ow X.K M.1 M.2.1 M.2.2 0 rfl rfl 0 (by decide) (X.hts _ q1086) (fun _ h9 => h9) rfl hin rfl (by decide +kernel) rfl rfl (Nat.le_of_ble_eq_true rfl) dX10_init_8 (fun H locs hP hD hS => ?_)
  have M : gM D A s [(a, .inr (11, [.int (g 1), .int 0, .int 0, .int 0, .int 0, .int 0])), (r, .inl (dA 0, nr, .inl g))] H locs := ⟨hP, hD, hS⟩
  refine lv_aload_n hx hb dX10_init_11 rfl (lv_at hl 0 rfl) ?_
  refine lv_aload_n hx hb dX10_init_12 rfl (lv_at hl 1 rfl) ?_
  refine lv_iconst (v := 2) hx hb dX10_init_13 (by decide) ?_
  refine g_iald (n := nr) (f := g) (j := 2) X M.1 1 0 rfl rfl (show vp_in (nI 2) _ from vp_in_nI (by omega) (by omega)) rfl dX10_init_14 ?_
  refine va_putF (cl := xCl) (D := D) (ci := 11) (fs := [.int (g 1), .int 0, .int 0, .int 0, .int 0, .int 0]) (v := .int (g 2)) (ty := .int) X.hx X.hb X.hts in_X13 tyX13 tyX13_ok nmX13 X.ow X.K M.1 M.2.1 M.2.2 0 rfl rfl 1 (by decide) (X.hts _ q1090) (fun _ h9 => h9) rfl hin rfl (by decide +kernel) rfl rfl (Nat.le_of_ble_eq_true rfl) dX10_init_15 (fun H locs hP hD hS => ?_)
  have M : gM D A s [(a, .inr (11, [.int (g 1), .int (g 2), .int 0, .int 0, .int 0, .int 0])), (r, .inl (dA 0, nr, .inl g))] H locs := ⟨hP, hD, hS⟩
  refine lv_aload_n hx hb dX10_init_18 rfl (lv_at hl 0 rfl) ?_
  refine lv_aload_n hx hb dX10_init_19 rfl (lv_at hl 1 rfl) ?_
  refine lv_iconst (v := 3) hx hb dX10_init_20 (by decide) ?_
  refine g_iald (n := nr) (f := g) (j := 3) X M.1 1 0 rfl rfl (show vp_in (nI 3) _ from vp_in_nI (by omega) (by omega)) rfl dX10_init_21 ?_
  refine va_putF (cl := xCl) (D := D) (ci := 11) (fs := [.int (g 1), .int (g 2), .int 0, .int 0, .int 0, .int 0]) (v := .int (g 3)) (ty := .int) X.hx X.hb X.hts in_X13 tyX13 tyX13_ok nmX13 X.ow X.K M.1 M.2.1 M.2.2 0 rfl rfl 2 (by decide) (X.hts _ q1092) (fun _ h9 => h9) rfl hin rfl (by decide +kernel) rfl rfl (Nat.le_of_ble_eq_true rfl) dX10_init_22 (fun H locs hP hD hS => ?_)
  have M : gM D A s [(a, .inr (11, [.int (g 1), .int (g 2), .int (g 3), .int 0, .int 0, .int 0])), (r, .inl (dA 0, nr, .inl g))] H locs := ⟨hP, hD, hS⟩
  refine lv_aload_n hx hb dX10_init_25 rfl (lv_at hl 0 rfl) ?_
  refine lv_aload_n hx hb dX10_init_26 rfl (lv_at hl 1 rfl) ?_
  refine lv_iconst (v := 4) hx hb dX10_init_27 (by decide) ?_
  refine g_iald (n := nr) (f := g) (j := 4) X M.1 1 0 rfl rfl (show vp_in (nI 4) _ from vp_in_nI (by omega) (by omega)) rfl dX10_init_28 ?_
  refine va_putF (cl := xCl) (D := D) (ci := 11) (fs := [.int (g 1), .int (g 2), .int (g 3), .int 0, .int 0, .int 0]) (v := .int (g 4)) (ty := .int) X.hx X.hb X.hts in_X13 tyX13 tyX13_ok nmX13 X.ow X.K M.1 M.2.1 M.2.2 0 rfl rfl 3 (by decide) (X.hts _ q1096) (fun _ h9 => h9) rfl hin rfl (by decide +kernel) rfl rfl (Nat.le_of_ble_eq_true rfl) dX10_init_29 (fun H locs hP hD hS => ?_)
  have M : gM D A s [(a, .inr (11, [.int (g 1), .int (g 2), .int (g 3), .int (g 4), .int 0, .int 0])), (r, .inl (dA 0, nr, .inl g))] H locs := ⟨hP, hD, hS⟩
  refine lv_aload_n hx hb dX10_init_32 rfl (lv_at hl 0 rfl) ?_
  refine lv_aload_n hx hb dX10_init_33 rfl (lv_at hl 1 rfl) ?_
  refine lv_iconst (v := 5) hx hb dX10_init_34 (by decide) ?_
  refine g_iald (n := nr) (f := g) (j := 5) X M.1 1 0 rfl rfl (show vp_in (nI 5) _ from vp_in_nI (by omega) (by omega)) rfl dX10_init_35 ?_
  refine va_putF (cl := xCl) (D := D) (ci := 11) (fs := [.int (g 1), .int (g 2), .int (g 3), .int (g 4), .int 0, .int 0]) (v := .int (g 5)) (ty := .int) X.hx X.hb X.hts in_X13 tyX13 tyX13_ok nmX13 X.ow X.K M.1 M.2.1 M.2.2 0 rfl rfl 4 (by decide) (X.hts _ q1100) (fun _ h9 => h9) rfl hin rfl (by decide +kernel) rfl rfl (Nat.le_of_ble_eq_true rfl) dX10_init_36 (fun H locs hP hD hS => ?_)
  have M : gM D A s [(a, .inr (11, [.int (g 1), .int (g 2), .int (g 3), .int (g 4), .int (g 5), .int 0])), (r, .inl (dA 0, nr, .inl g))] H locs := ⟨hP, hD, hS⟩
  refine lv_aload_n hx hb dX10_init_39 rfl (lv_at hl 0 rfl) ?_
  refine lv_aload_n hx hb dX10_init_40 rfl (lv_at hl 1 rfl) ?_
  refine lv_bipush (v := 6) hx hb dX10_init_41 (by decide) ?_
  refine g_iald (n := nr) (f := g) (j := 6) X M.1 1 0 rfl rfl (show vp_in (nI 6) _ from vp_in_nI (by omega) (by omega)) rfl dX10_init_43 ?_
  refine va_putF (cl := xCl) (D := D) (ci := 11) (fs := [.int (g 1), .int (g 2), .int (g 3), .int (g 4), .int (g 5), .int 0]) (v := .int (g 6)) (ty := .int) X.hx X.hb X.hts in_X13 tyX13 tyX13_ok nmX13 X.ow X.K M.1 M.2.1 M.2.2 0 rfl rfl 5 (by decide) (X.hts _ q1102) (fun _ h9 => h9) rfl hin rfl (by decide +kernel) rfl rfl (Nat.le_of_ble_eq_true rfl) dX10_init_44 (fun H locs hP hD hS => ?_)
  have M : gM D A s [(a, .inr (11, [.int (g 1), .int (g 2), .int (g 3), .int (g 4), .int (g 5), .int (g 6)])), (r, .inl (dA 0, nr, .inl g))] H locs := ⟨hP, hD, hS⟩
  exact W.vret hx hb hr (fun t9 ht9 hW9 => ⟨⟨(), rfl, trivial, by rw [ht9]; exact M.1, M.2.1⟩, M.2.2.F ht9⟩) M.2.2.2.2 dX10_init_47

set_option maxHeartbeats 4000000 in
set_option maxRecDepth 100000 in
theorem metX11_init (l : Launch) (D : va_G) (dA : Nat → ClassId) (A : Nat → Prop) (e0 : Nat) (a : Nat) (r : Nat) (nr : Nat) (g : Nat → Int32) (hr7 : 7 ≤ nr) (hr2 : nr < 100) : Met l yX11_init (ws_ yX11_init cX11_init 2 none) ({ frames := 2, cells := 0, slots := 0, locals := 61 } : Room) (va_Pc [.ref a, .ref r] (fun U => xC D dA A e0 U ∧ va_P D xCl [(a, .inr (9, [.int 0, .int 0, .int 0, .int 0, .int 0, .int 0])), (r, .inl (dA 0, nr, .inl g))] U.heap ∧ va_D A [(a, .inr (9, [.int 0, .int 0, .int 0, .int 0, .int 0, .int 0])), (r, .inl (dA 0, nr, .inl g))])) (va_Qv (fun _ : Unit => True) (fun _ t => va_P D xCl [(a, .inr (9, [.int (g 1), .int (g 2), .int (g 3), .int (g 4), .int (g 5), .int (g 6)])), (r, .inl (dA 0, nr, .inl g))] t.heap ∧ va_D A [(a, .inr (9, [.int (g 1), .int (g 2), .int (g 3), .int (g 4), .int (g 5), .int (g 6)])), (r, .inl (dA 0, nr, .inl g))]) A) 0 0 A := by
  refine Met.ofW (cc := cX11_init) (maxL := 2) (ret := none) (by decide) rfl ?_
  intro p e s m args below meth c s₁ B hml hv
  obtain ⟨rfl, hC, hP, hD⟩ := hv
  have hx := B.exec
  have hb := B.bytes
  have hr := B.returns
  have hts := atoms_spec (ws := (ws_ yX11_init cX11_init 2 none)) B.pre
  have hts : ∀ w ∈ lw_all, w.before _ s = true := fun w h => hts w (List.mem_cons_of_mem _ h)
  have hown : s.vm.findClass RX11 = some m.cls := findClass_of_methodNamed B.named
  have hlocks := B.notSynchronized
  have S : CallFix p m c cX11_init 2 s ([.ref a, .ref r] : List Value).toArray lw_all RX11 := ⟨hx, hb, hml, hown, hts⟩
  have X : xX RX11 p s m ([.ref a, .ref r] : List Value).toArray c cX11_init 2 D dA A e0 := ⟨S, hC⟩
  have hin : meth.name = "<init>" := (name_of_methodNamed B.named B.method).1
  have M : gM D A s [(a, .inr (9, [.int 0, .int 0, .int 0, .int 0, .int 0, .int 0])), (r, .inl (dA 0, nr, .inl g))] s.heap [] := ⟨hP, hD, va_S.rf⟩
  have hl := lv_entry ([.ref a, .ref r]) (n := 2) (Nat.le_of_ble_eq_true rfl)
  rw [lg_entry_eq]
  generalize (lg_sl ([.ref a, .ref r]) ++ List.replicate (2 - (lg_sl ([.ref a, .ref r])).length) Slot.unset).toArray = ls at hl ⊢
  have hl : lv_has ls 2 [(0, .ref a), (1, .ref r)] := hl
  refine lv_aload_n hx hb dX11_init_0 rfl (lv_at hl 0 rfl) ?_
  refine lv_aload_n hx hb dX11_init_1 rfl (lv_at hl 1 rfl) ?_
  have hPc := M.1.sub (ws' := [(a, .inr (9, [.int 0, .int 0, .int 0, .int 0, .int 0, .int 0])), (r, .inl (dA 0, nr, .inl g))]) [0, 1] rfl
  have hDc := M.2.1.sub (ws' := [(a, .inr (9, [.int 0, .int 0, .int 0, .int 0, .int 0, .int 0])), (r, .inl (dA 0, nr, .inl g))]) [0, 1] (by decide) rfl
  have hFc := va_free (wc := [(a, .inr (9, [.int 0, .int 0, .int 0, .int 0, .int 0, .int 0])), (r, .inl (dA 0, nr, .inl g))]) M.2.1 M.2.2 X.hA [0, 1] rfl
  refine va_callv (va_runI (As := [.ref r]) (rest := []) X.1 (metX10_init_X11 l D dA (va_A [(a, .inr (9, [.int 0, .int 0, .int 0, .int 0, .int 0, .int 0])), (r, .inl (dA 0, nr, .inl g))] s.heap.size) e0 a r nr g hr7 hr2) (cwI 1 hts (lw_meth q1084) rfl rfl rfl (hts _ q88) (hts _ q1122) (hts _ q1083) rfl (by decide +kernel) ⟨Nat.le_of_ble_eq_true rfl, Nat.le_of_ble_eq_true rfl⟩) ⟨gPre_blindD, fun U hU hW => ⟨rfl, X.Cn M.2.2 hFc hU hW, by rw [hU]; exact hPc, hDc.self⟩⟩ rfl rfl hl.1 rfl (lv_room (Nat.le_of_ble_eq_true rfl)) dX11_init_2 ⟨Nat.le_of_ble_eq_true rfl, Nat.le_of_ble_eq_true rfl⟩) M.2.2 (fun q _ h => hFc q h) hFc (fun u9 t9 H locs ht9 hvm9 hp9 hB9 hz9 hk9 hS => ?_)
  obtain ⟨hP1, hD1⟩ := hB9
  rw [ht9] at hP1
  obtain ⟨hP, hD⟩ := va_join (wr := []) (w1 := [(a, .inr (9, [.int (g 1), .int (g 2), .int (g 3), .int (g 4), .int (g 5), .int (g 6)])), (r, .inl (dA 0, nr, .inl g))]) M.1 M.2.1 [0, 1] [] rfl rfl (by decide) (by decide) hk9 hFc hP1 hD1
  have M : gM D A s [(a, .inr (9, [.int (g 1), .int (g 2), .int (g 3), .int (g 4), .int (g 5), .int (g 6)])), (r, .inl (dA 0, nr, .inl g))] H locs := ⟨hP, hD, hS⟩
  exact W.vret hx hb hr (fun t9 ht9 hW9 => ⟨⟨(), rfl, trivial, by rw [ht9]; exact M.1, M.2.1⟩, M.2.2.F ht9⟩) M.2.2.2.2 dX11_init_5

set_option maxHeartbeats 4000000 in
set_option maxRecDepth 100000 in
theorem metX12_init (l : Launch) (D : va_G) (dA : Nat → ClassId) (A : Nat → Prop) (e0 : Nat) (a : Nat) (r : Nat) (nr : Nat) (g : Nat → Int32) (hr7 : 7 ≤ nr) (hr2 : nr < 100) : Met l yX12_init (ws_ yX12_init cX12_init 2 none) ({ frames := 2, cells := 0, slots := 0, locals := 61 } : Room) (va_Pc [.ref a, .ref r] (fun U => xC D dA A e0 U ∧ va_P D xCl [(a, .inr (10, [.int 0, .int 0, .int 0, .int 0, .int 0, .int 0])), (r, .inl (dA 0, nr, .inl g))] U.heap ∧ va_D A [(a, .inr (10, [.int 0, .int 0, .int 0, .int 0, .int 0, .int 0])), (r, .inl (dA 0, nr, .inl g))])) (va_Qv (fun _ : Unit => True) (fun _ t => va_P D xCl [(a, .inr (10, [.int (g 1), .int (g 2), .int (g 3), .int (g 4), .int (g 5), .int (g 6)])), (r, .inl (dA 0, nr, .inl g))] t.heap ∧ va_D A [(a, .inr (10, [.int (g 1), .int (g 2), .int (g 3), .int (g 4), .int (g 5), .int (g 6)])), (r, .inl (dA 0, nr, .inl g))]) A) 0 0 A := by
  refine Met.ofW (cc := cX12_init) (maxL := 2) (ret := none) (by decide) rfl ?_
  intro p e s m args below meth c s₁ B hml hv
  obtain ⟨rfl, hC, hP, hD⟩ := hv
  have hx := B.exec
  have hb := B.bytes
  have hr := B.returns
  have hts := atoms_spec (ws := (ws_ yX12_init cX12_init 2 none)) B.pre
  have hts : ∀ w ∈ lw_all, w.before _ s = true := fun w h => hts w (List.mem_cons_of_mem _ h)
  have hown : s.vm.findClass RX12 = some m.cls := findClass_of_methodNamed B.named
  have hlocks := B.notSynchronized
  have S : CallFix p m c cX12_init 2 s ([.ref a, .ref r] : List Value).toArray lw_all RX12 := ⟨hx, hb, hml, hown, hts⟩
  have X : xX RX12 p s m ([.ref a, .ref r] : List Value).toArray c cX12_init 2 D dA A e0 := ⟨S, hC⟩
  have hin : meth.name = "<init>" := (name_of_methodNamed B.named B.method).1
  have M : gM D A s [(a, .inr (10, [.int 0, .int 0, .int 0, .int 0, .int 0, .int 0])), (r, .inl (dA 0, nr, .inl g))] s.heap [] := ⟨hP, hD, va_S.rf⟩
  have hl := lv_entry ([.ref a, .ref r]) (n := 2) (Nat.le_of_ble_eq_true rfl)
  rw [lg_entry_eq]
  generalize (lg_sl ([.ref a, .ref r]) ++ List.replicate (2 - (lg_sl ([.ref a, .ref r])).length) Slot.unset).toArray = ls at hl ⊢
  have hl : lv_has ls 2 [(0, .ref a), (1, .ref r)] := hl
  refine lv_aload_n hx hb dX12_init_0 rfl (lv_at hl 0 rfl) ?_
  refine lv_aload_n hx hb dX12_init_1 rfl (lv_at hl 1 rfl) ?_
  have hPc := M.1.sub (ws' := [(a, .inr (10, [.int 0, .int 0, .int 0, .int 0, .int 0, .int 0])), (r, .inl (dA 0, nr, .inl g))]) [0, 1] rfl
  have hDc := M.2.1.sub (ws' := [(a, .inr (10, [.int 0, .int 0, .int 0, .int 0, .int 0, .int 0])), (r, .inl (dA 0, nr, .inl g))]) [0, 1] (by decide) rfl
  have hFc := va_free (wc := [(a, .inr (10, [.int 0, .int 0, .int 0, .int 0, .int 0, .int 0])), (r, .inl (dA 0, nr, .inl g))]) M.2.1 M.2.2 X.hA [0, 1] rfl
  refine va_callv (va_runI (As := [.ref r]) (rest := []) X.1 (metX10_init_X12 l D dA (va_A [(a, .inr (10, [.int 0, .int 0, .int 0, .int 0, .int 0, .int 0])), (r, .inl (dA 0, nr, .inl g))] s.heap.size) e0 a r nr g hr7 hr2) (cwI 1 hts (lw_meth q1084) rfl rfl rfl (hts _ q88) (hts _ q1135) (hts _ q1083) rfl (by decide +kernel) ⟨Nat.le_of_ble_eq_true rfl, Nat.le_of_ble_eq_true rfl⟩) ⟨gPre_blindD, fun U hU hW => ⟨rfl, X.Cn M.2.2 hFc hU hW, by rw [hU]; exact hPc, hDc.self⟩⟩ rfl rfl hl.1 rfl (lv_room (Nat.le_of_ble_eq_true rfl)) dX12_init_2 ⟨Nat.le_of_ble_eq_true rfl, Nat.le_of_ble_eq_true rfl⟩) M.2.2 (fun q _ h => hFc q h) hFc (fun u9 t9 H locs ht9 hvm9 hp9 hB9 hz9 hk9 hS => ?_)
  obtain ⟨hP1, hD1⟩ := hB9
  rw [ht9] at hP1
  obtain ⟨hP, hD⟩ := va_join (wr := []) (w1 := [(a, .inr (10, [.int (g 1), .int (g 2), .int (g 3), .int (g 4), .int (g 5), .int (g 6)])), (r, .inl (dA 0, nr, .inl g))]) M.1 M.2.1 [0, 1] [] rfl rfl (by decide) (by decide) hk9 hFc hP1 hD1
  have M : gM D A s [(a, .inr (10, [.int (g 1), .int (g 2), .int (g 3), .int (g 4), .int (g 5), .int (g 6)])), (r, .inl (dA 0, nr, .inl g))] H locs := ⟨hP, hD, hS⟩
  exact W.vret hx hb hr (fun t9 ht9 hW9 => ⟨⟨(), rfl, trivial, by rw [ht9]; exact M.1, M.2.1⟩, M.2.2.F ht9⟩) M.2.2.2.2 dX12_init_5

set_option maxHeartbeats 4000000 in
set_option maxRecDepth 100000 in
theorem metX13_init (l : Launch) (D : va_G) (dA : Nat → ClassId) (A : Nat → Prop) (e0 : Nat) (a : Nat) (r : Nat) (nr : Nat) (g : Nat → Int32) (hr7 : 7 ≤ nr) (hr2 : nr < 100) : Met l yX13_init (ws_ yX13_init cX13_init 2 none) ({ frames := 2, cells := 0, slots := 0, locals := 61 } : Room) (va_Pc [.ref a, .ref r] (fun U => xC D dA A e0 U ∧ va_P D xCl [(a, .inr (11, [.int 0, .int 0, .int 0, .int 0, .int 0, .int 0])), (r, .inl (dA 0, nr, .inl g))] U.heap ∧ va_D A [(a, .inr (11, [.int 0, .int 0, .int 0, .int 0, .int 0, .int 0])), (r, .inl (dA 0, nr, .inl g))])) (va_Qv (fun _ : Unit => True) (fun _ t => va_P D xCl [(a, .inr (11, [.int (g 1), .int (g 2), .int (g 3), .int (g 4), .int (g 5), .int (g 6)])), (r, .inl (dA 0, nr, .inl g))] t.heap ∧ va_D A [(a, .inr (11, [.int (g 1), .int (g 2), .int (g 3), .int (g 4), .int (g 5), .int (g 6)])), (r, .inl (dA 0, nr, .inl g))]) A) 0 0 A := by
  refine Met.ofW (cc := cX13_init) (maxL := 2) (ret := none) (by decide) rfl ?_
  intro p e s m args below meth c s₁ B hml hv
  obtain ⟨rfl, hC, hP, hD⟩ := hv
  have hx := B.exec
  have hb := B.bytes
  have hr := B.returns
  have hts := atoms_spec (ws := (ws_ yX13_init cX13_init 2 none)) B.pre
  have hts : ∀ w ∈ lw_all, w.before _ s = true := fun w h => hts w (List.mem_cons_of_mem _ h)
  have hown : s.vm.findClass RX13 = some m.cls := findClass_of_methodNamed B.named
  have hlocks := B.notSynchronized
  have S : CallFix p m c cX13_init 2 s ([.ref a, .ref r] : List Value).toArray lw_all RX13 := ⟨hx, hb, hml, hown, hts⟩
  have X : xX RX13 p s m ([.ref a, .ref r] : List Value).toArray c cX13_init 2 D dA A e0 := ⟨S, hC⟩
  have hin : meth.name = "<init>" := (name_of_methodNamed B.named B.method).1
  have M : gM D A s [(a, .inr (11, [.int 0, .int 0, .int 0, .int 0, .int 0, .int 0])), (r, .inl (dA 0, nr, .inl g))] s.heap [] := ⟨hP, hD, va_S.rf⟩
  have hl := lv_entry ([.ref a, .ref r]) (n := 2) (Nat.le_of_ble_eq_true rfl)
  rw [lg_entry_eq]
  generalize (lg_sl ([.ref a, .ref r]) ++ List.replicate (2 - (lg_sl ([.ref a, .ref r])).length) Slot.unset).toArray = ls at hl ⊢
  have hl : lv_has ls 2 [(0, .ref a), (1, .ref r)] := hl
  refine lv_aload_n hx hb dX13_init_0 rfl (lv_at hl 0 rfl) ?_
  refine lv_aload_n hx hb dX13_init_1 rfl (lv_at hl 1 rfl) ?_
  have hPc := M.1.sub (ws' := [(a, .inr (11, [.int 0, .int 0, .int 0, .int 0, .int 0, .int 0])), (r, .inl (dA 0, nr, .inl g))]) [0, 1] rfl
  have hDc := M.2.1.sub (ws' := [(a, .inr (11, [.int 0, .int 0, .int 0, .int 0, .int 0, .int 0])), (r, .inl (dA 0, nr, .inl g))]) [0, 1] (by decide) rfl
  have hFc := va_free (wc := [(a, .inr (11, [.int 0, .int 0, .int 0, .int 0, .int 0, .int 0])), (r, .inl (dA 0, nr, .inl g))]) M.2.1 M.2.2 X.hA [0, 1] rfl
  refine va_callv (va_runI (As := [.ref r]) (rest := []) X.1 (metX10_init_X13 l D dA (va_A [(a, .inr (11, [.int 0, .int 0, .int 0, .int 0, .int 0, .int 0])), (r, .inl (dA 0, nr, .inl g))] s.heap.size) e0 a r nr g hr7 hr2) (cwI 1 hts (lw_meth q1084) rfl rfl rfl (hts _ q88) (hts _ q1148) (hts _ q1083) rfl (by decide +kernel) ⟨Nat.le_of_ble_eq_true rfl, Nat.le_of_ble_eq_true rfl⟩) ⟨gPre_blindD, fun U hU hW => ⟨rfl, X.Cn M.2.2 hFc hU hW, by rw [hU]; exact hPc, hDc.self⟩⟩ rfl rfl hl.1 rfl (lv_room (Nat.le_of_ble_eq_true rfl)) dX13_init_2 ⟨Nat.le_of_ble_eq_true rfl, Nat.le_of_ble_eq_true rfl⟩) M.2.2 (fun q _ h => hFc q h) hFc (fun u9 t9 H locs ht9 hvm9 hp9 hB9 hz9 hk9 hS => ?_)
  obtain ⟨hP1, hD1⟩ := hB9
  rw [ht9] at hP1
  obtain ⟨hP, hD⟩ := va_join (wr := []) (w1 := [(a, .inr (11, [.int (g 1), .int (g 2), .int (g 3), .int (g 4), .int (g 5), .int (g 6)])), (r, .inl (dA 0, nr, .inl g))]) M.1 M.2.1 [0, 1] [] rfl rfl (by decide) (by decide) hk9 hFc hP1 hD1
  have M : gM D A s [(a, .inr (11, [.int (g 1), .int (g 2), .int (g 3), .int (g 4), .int (g 5), .int (g 6)])), (r, .inl (dA 0, nr, .inl g))] H locs := ⟨hP, hD, hS⟩
  exact W.vret hx hb hr (fun t9 ht9 hW9 => ⟨⟨(), rfl, trivial, by rw [ht9]; exact M.1, M.2.1⟩, M.2.2.F ht9⟩) M.2.2.2.2 dX13_init_5

set_option maxHeartbeats 4000000 in
set_option maxRecDepth 100000 in
theorem metX10_init_2 (l : Launch) (D : va_G) (dA : Nat → ClassId) (A : Nat → Prop) (e0 : Nat) (a : Nat) (o : Nat) (v0 : Int32) (v1 : Int32) (v2 : Int32) (v3 : Int32) (v4 : Int32) (v5 : Int32) : Met l yX10_init_2 (ws_ yX10_init_2 cX10_init_2 2 none) ({ frames := 1, cells := 0, slots := 0, locals := 40 } : Room) (va_Pc [.ref a, .ref o] (fun U => xC D dA A e0 U ∧ va_P D xCl [(a, .inr (12, [.int 0, .int 0, .int 0, .int 0, .int 0, .int 0])), (o, .inr (10, [.int v0, .int v1, .int v2, .int v3, .int v4, .int v5]))] U.heap ∧ va_D A [(a, .inr (12, [.int 0, .int 0, .int 0, .int 0, .int 0, .int 0])), (o, .inr (10, [.int v0, .int v1, .int v2, .int v3, .int v4, .int v5]))])) (va_Qv (fun _ : Unit => True) (fun _ t => va_P D xCl [(a, .inr (12, [.int v0, .int v1, .int v2, .int v3, .int v4, .int v5])), (o, .inr (10, [.int v0, .int v1, .int v2, .int v3, .int v4, .int v5]))] t.heap ∧ va_D A [(a, .inr (12, [.int v0, .int v1, .int v2, .int v3, .int v4, .int v5])), (o, .inr (10, [.int v0, .int v1, .int v2, .int v3, .int v4, .int v5]))]) A) 0 0 A := by
  refine Met.ofW (cc := cX10_init_2) (maxL := 2) (ret := none) (by decide) rfl ?_
  intro p e s m args below meth c s₁ B hml hv
  obtain ⟨rfl, hC, hP, hD⟩ := hv
  have hx := B.exec
  have hb := B.bytes
  have hr := B.returns
  have hts := atoms_spec (ws := (ws_ yX10_init_2 cX10_init_2 2 none)) B.pre
  have hts : ∀ w ∈ lw_all, w.before _ s = true := fun w h => hts w (List.mem_cons_of_mem _ h)
  have hown : s.vm.findClass RX10 = some m.cls := findClass_of_methodNamed B.named
  have hlocks := B.notSynchronized
  have S : CallFix p m c cX10_init_2 2 s ([.ref a, .ref o] : List Value).toArray lw_all RX10 := ⟨hx, hb, hml, hown, hts⟩
  have X : xX RX10 p s m ([.ref a, .ref o] : List Value).toArray c cX10_init_2 2 D dA A e0 := ⟨S, hC⟩
  have hin : meth.name = "<init>" := (name_of_methodNamed B.named B.method).1
  have M : gM D A s [(a, .inr (12, [.int 0, .int 0, .int 0, .int 0, .int 0, .int 0])), (o, .inr (10, [.int v0, .int v1, .int v2, .int v3, .int v4, .int v5]))] s.heap [] := ⟨hP, hD, va_S.rf⟩
  have hl := lv_entry ([.ref a, .ref o]) (n := 2) (Nat.le_of_ble_eq_true rfl)
  rw [lg_entry_eq]
  generalize (lg_sl ([.ref a, .ref o]) ++ List.replicate (2 - (lg_sl ([.ref a, .ref o])).length) Slot.unset).toArray = ls at hl ⊢
  have hl : lv_has ls 2 [(0, .ref a), (1, .ref o)] := hl
  refine lv_aload_n hx hb dX10_init_2_0 rfl (lv_at hl 0 rfl) ?_
  refine W.objInit hx hb hown (hts _ q1085) (hts _ q100) (hts _ q101) rfl (by rw [hml]; exact hl.1) rfl dX10_init_2_1 (Nat.le_of_ble_eq_true rfl) (Nat.le_of_ble_eq_true rfl) ?_
  refine W.eq (g2 := F0 m 4 ls []) rfl ?_
  refine lv_aload_n hx hb dX10_init_2_4 rfl (lv_at hl 0 rfl) ?_
  refine lv_aload_n hx hb dX10_init_2_5 rfl (lv_at hl 1 rfl) ?_
  refine va_get (cl := xCl) (ci := 10) (fs := [.int v0, .int v1, .int v2, .int v3, .int v4, .int v5]) X.hx X.hb X.hts in_X12 X.ow X.K M.1 1 rfl rfl 0 (by decide) (X.hts _ q1086) (fun _ h9 => h9) rfl dX10_init_2_6 ?_
  refine va_putF (cl := xCl) (D := D) (ci := 12) (fs := [.int 0, .int 0, .int 0, .int 0, .int 0, .int 0]) (v := .int v0) (ty := .int) X.hx X.hb X.hts in_X14 tyX14 tyX14_ok nmX14 X.ow X.K M.1 M.2.1 M.2.2 0 rfl rfl 0 (by decide) (X.hts _ q1086) (fun _ h9 => h9) rfl hin rfl (by decide +kernel) rfl rfl (Nat.le_of_ble_eq_true rfl) dX10_init_2_9 (fun H locs hP hD hS => ?_)
  have M : gM D A s [(a, .inr (12, [.int v0, .int 0, .int 0, .int 0, .int 0, .int 0])), (o, .inr (10, [.int v0, .int v1, .int v2, .int v3, .int v4, .int v5]))] H locs := ⟨hP, hD, hS⟩
  refine lv_aload_n hx hb dX10_init_2_12 rfl (lv_at hl 0 rfl) ?_
  refine lv_aload_n hx hb dX10_init_2_13 rfl (lv_at hl 1 rfl) ?_
  refine va_get (cl := xCl) (ci := 10) (fs := [.int v0, .int v1, .int v2, .int v3, .int v4, .int v5]) X.hx X.hb X.hts in_X12 X.ow X.K M.1 1 rfl rfl 1 (by decide) (X.hts _ q1090) (fun _ h9 => h9) rfl dX10_init_2_14 ?_
  refine va_putF (cl := xCl) (D := D) (ci := 12) (fs := [.int v0, .int 0, .int 0, .int 0, .int 0, .int 0]) (v := .int v1) (ty := .int) X.hx X.hb X.hts in_X14 tyX14 tyX14_ok nmX14 X.ow X.K M.1 M.2.1 M.2.2 0 rfl rfl 1 (by decide) (X.hts _ q1090) (fun _ h9 => h9) rfl hin rfl (by decide +kernel) rfl rfl (Nat.le_of_ble_eq_true rfl) dX10_init_2_17 (fun H locs hP hD hS => ?_)
  have M : gM D A s [(a, .inr (12, [.int v0, .int v1, .int 0, .int 0, .int 0, .int 0])), (o, .inr (10, [.int v0, .int v1, .int v2, .int v3, .int v4, .int v5]))] H locs := ⟨hP, hD, hS⟩
  refine lv_aload_n hx hb dX10_init_2_20 rfl (lv_at hl 0 rfl) ?_
  refine lv_aload_n hx hb dX10_init_2_21 rfl (lv_at hl 1 rfl) ?_
  refine va_get (cl := xCl) (ci := 10) (fs := [.int v0, .int v1, .int v2, .int v3, .int v4, .int v5]) X.hx X.hb X.hts in_X12 X.ow X.K M.1 1 rfl rfl 2 (by decide) (X.hts _ q1092) (fun _ h9 => h9) rfl dX10_init_2_22 ?_
  refine va_putF (cl := xCl) (D := D) (ci := 12) (fs := [.int v0, .int v1, .int 0, .int 0, .int 0, .int 0]) (v := .int v2) (ty := .int) X.hx X.hb X.hts in_X14 tyX14 tyX14_ok nmX14 X.ow X.K M.1 M.2.1 M.2.2 0 rfl rfl 2 (by decide) (X.hts _ q1092) (fun _ h9 => h9) rfl hin rfl (by decide +kernel) rfl rfl (Nat.le_of_ble_eq_true rfl) dX10_init_2_25 (fun H locs hP hD hS => ?_)
  have M : gM D A s [(a, .inr (12, [.int v0, .int v1, .int v2, .int 0, .int 0, .int 0])), (o, .inr (10, [.int v0, .int v1, .int v2, .int v3, .int v4, .int v5]))] H locs := ⟨hP, hD, hS⟩
  refine lv_aload_n hx hb dX10_init_2_28 rfl (lv_at hl 0 rfl) ?_
  refine lv_aload_n hx hb dX10_init_2_29 rfl (lv_at hl 1 rfl) ?_
  refine va_get (cl := xCl) (ci := 10) (fs := [.int v0, .int v1, .int v2, .int v3, .int v4, .int v5]) X.hx X.hb X.hts in_X12 X.ow X.K M.1 1 rfl rfl 3 (by decide) (X.hts _ q1096) (fun _ h9 => h9) rfl dX10_init_2_30 ?_
  refine va_putF (cl := xCl) (D := D) (ci := 12) (fs := [.int v0, .int v1, .int v2, .int 0, .int 0, .int 0]) (v := .int v3) (ty := .int) X.hx X.hb X.hts in_X14 tyX14 tyX14_ok nmX14 X.ow X.K M.1 M.2.1 M.2.2 0 rfl rfl 3 (by decide) (X.hts _ q1096) (fun _ h9 => h9) rfl hin rfl (by decide +kernel) rfl rfl (Nat.le_of_ble_eq_true rfl) dX10_init_2_33 (fun H locs hP hD hS => ?_)
  have M : gM D A s [(a, .inr (12, [.int v0, .int v1, .int v2, .int v3, .int 0, .int 0])), (o, .inr (10, [.int v0, .int v1, .int v2, .int v3, .int v4, .int v5]))] H locs := ⟨hP, hD, hS⟩
  refine lv_aload_n hx hb dX10_init_2_36 rfl (lv_at hl 0 rfl) ?_
  refine lv_aload_n hx hb dX10_init_2_37 rfl (lv_at hl 1 rfl) ?_
  refine va_get (cl := xCl) (ci := 10) (fs := [.int v0, .int v1, .int v2, .int v3, .int v4, .int v5]) X.hx X.hb X.hts in_X12 X.ow X.K M.1 1 rfl rfl 4 (by decide) (X.hts _ q1100) (fun _ h9 => h9) rfl dX10_init_2_38 ?_
  refine va_putF (cl := xCl) (D := D) (ci := 12) (fs := [.int v0, .int v1, .int v2, .int v3, .int 0, .int 0]) (v := .int v4) (ty := .int) X.hx X.hb X.hts in_X14 tyX14 tyX14_ok nmX14 X.ow X.K M.1 M.2.1 M.2.2 0 rfl rfl 4 (by decide) (X.hts _ q1100) (fun _ h9 => h9) rfl hin rfl (by decide +kernel) rfl rfl (Nat.le_of_ble_eq_true rfl) dX10_init_2_41 (fun H locs hP hD hS => ?_)
  have M : gM D A s [(a, .inr (12, [.int v0, .int v1, .int v2, .int v3, .int v4, .int 0])), (o, .inr (10, [.int v0, .int v1, .int v2, .int v3, .int v4, .int v5]))] H locs := ⟨hP, hD, hS⟩
  refine lv_aload_n hx hb dX10_init_2_44 rfl (lv_at hl 0 rfl) ?_
  refine lv_aload_n hx hb dX10_init_2_45 rfl (lv_at hl 1 rfl) ?_
  refine va_get (cl := xCl) (ci := 10) (fs := [.int v0, .int v1, .int v2, .int v3, .int v4, .int v5]) X.hx X.hb X.hts in_X12 X.ow X.K M.1 1 rfl rfl 5 (by decide) (X.hts _ q1102) (fun _ h9 => h9) rfl dX10_init_2_46 ?_
  refine va_putF (cl := xCl) (D := D) (ci := 12) (fs := [.int v0, .int v1, .int v2, .int v3, .int v4, .int 0]) (v := .int v5) (ty := .int) X.hx X.hb X.hts in_X14 tyX14 tyX14_ok nmX14 X.ow X.K M.1 M.2.1 M.2.2 0 rfl rfl 5 (by decide) (X.hts _ q1102) (fun _ h9 => h9) rfl hin rfl (by decide +kernel) rfl rfl (Nat.le_of_ble_eq_true rfl) dX10_init_2_49 (fun H locs hP hD hS => ?_)
  have M : gM D A s [(a, .inr (12, [.int v0, .int v1, .int v2, .int v3, .int v4, .int v5])), (o, .inr (10, [.int v0, .int v1, .int v2, .int v3, .int v4, .int v5]))] H locs := ⟨hP, hD, hS⟩
  exact W.vret hx hb hr (fun t9 ht9 hW9 => ⟨⟨(), rfl, trivial, by rw [ht9]; exact M.1, M.2.1⟩, M.2.2.F ht9⟩) M.2.2.2.2 dX10_init_2_52

set_option maxHeartbeats 4000000 in
set_option maxRecDepth 100000 in
theorem metX12_init_2 (l : Launch) (D : va_G) (dA : Nat → ClassId) (A : Nat → Prop) (e0 : Nat) (a : Nat) (o : Nat) (v0 : Int32) (v1 : Int32) (v2 : Int32) (v3 : Int32) (v4 : Int32) (v5 : Int32) : Met l yX12_init_2 (ws_ yX12_init_2 cX12_init_2 2 none) ({ frames := 2, cells := 0, slots := 0, locals := 61 } : Room) (va_Pc [.ref a, .ref o] (fun U => xC D dA A e0 U ∧ va_P D xCl [(a, .inr (12, [.int 0, .int 0, .int 0, .int 0, .int 0, .int 0])), (o, .inr (10, [.int v0, .int v1, .int v2, .int v3, .int v4, .int v5]))] U.heap ∧ va_D A [(a, .inr (12, [.int 0, .int 0, .int 0, .int 0, .int 0, .int 0])), (o, .inr (10, [.int v0, .int v1, .int v2, .int v3, .int v4, .int v5]))])) (va_Qv (fun _ : Unit => True) (fun _ t => va_P D xCl [(a, .inr (12, [.int v0, .int v1, .int v2, .int v3, .int v4, .int v5])), (o, .inr (10, [.int v0, .int v1, .int v2, .int v3, .int v4, .int v5]))] t.heap ∧ va_D A [(a, .inr (12, [.int v0, .int v1, .int v2, .int v3, .int v4, .int v5])), (o, .inr (10, [.int v0, .int v1, .int v2, .int v3, .int v4, .int v5]))]) A) 0 0 A := by
  refine Met.ofW (cc := cX12_init_2) (maxL := 2) (ret := none) (by decide) rfl ?_
  intro p e s m args below meth c s₁ B hml hv
  obtain ⟨rfl, hC, hP, hD⟩ := hv
  have hx := B.exec
  have hb := B.bytes
  have hr := B.returns
  have hts := atoms_spec (ws := (ws_ yX12_init_2 cX12_init_2 2 none)) B.pre
  have hts : ∀ w ∈ lw_all, w.before _ s = true := fun w h => hts w (List.mem_cons_of_mem _ h)
  have hown : s.vm.findClass RX12 = some m.cls := findClass_of_methodNamed B.named
  have hlocks := B.notSynchronized
  have S : CallFix p m c cX12_init_2 2 s ([.ref a, .ref o] : List Value).toArray lw_all RX12 := ⟨hx, hb, hml, hown, hts⟩
  have X : xX RX12 p s m ([.ref a, .ref o] : List Value).toArray c cX12_init_2 2 D dA A e0 := ⟨S, hC⟩
  have hin : meth.name = "<init>" := (name_of_methodNamed B.named B.method).1
  have M : gM D A s [(a, .inr (12, [.int 0, .int 0, .int 0, .int 0, .int 0, .int 0])), (o, .inr (10, [.int v0, .int v1, .int v2, .int v3, .int v4, .int v5]))] s.heap [] := ⟨hP, hD, va_S.rf⟩
  have hl := lv_entry ([.ref a, .ref o]) (n := 2) (Nat.le_of_ble_eq_true rfl)
  rw [lg_entry_eq]
  generalize (lg_sl ([.ref a, .ref o]) ++ List.replicate (2 - (lg_sl ([.ref a, .ref o])).length) Slot.unset).toArray = ls at hl ⊢
  have hl : lv_has ls 2 [(0, .ref a), (1, .ref o)] := hl
  refine lv_aload_n hx hb dX12_init_2_0 rfl (lv_at hl 0 rfl) ?_
  refine lv_aload_n hx hb dX12_init_2_1 rfl (lv_at hl 1 rfl) ?_
  have hPc := M.1.sub (ws' := [(a, .inr (12, [.int 0, .int 0, .int 0, .int 0, .int 0, .int 0])), (o, .inr (10, [.int v0, .int v1, .int v2, .int v3, .int v4, .int v5]))]) [0, 1] rfl
  have hDc := M.2.1.sub (ws' := [(a, .inr (12, [.int 0, .int 0, .int 0, .int 0, .int 0, .int 0])), (o, .inr (10, [.int v0, .int v1, .int v2, .int v3, .int v4, .int v5]))]) [0, 1] (by decide) rfl
  have hFc := va_free (wc := [(a, .inr (12, [.int 0, .int 0, .int 0, .int 0, .int 0, .int 0])), (o, .inr (10, [.int v0, .int v1, .int v2, .int v3, .int v4, .int v5]))]) M.2.1 M.2.2 X.hA [0, 1] rfl
  refine va_callv (va_runI (As := [.ref o]) (rest := []) X.1 (metX10_init_2 l D dA (va_A [(a, .inr (12, [.int 0, .int 0, .int 0, .int 0, .int 0, .int 0])), (o, .inr (10, [.int v0, .int v1, .int v2, .int v3, .int v4, .int v5]))] s.heap.size) e0 a o v0 v1 v2 v3 v4 v5) (cwI 1 hts (lw_meth q1197) rfl rfl rfl (hts _ q88) (hts _ q1195) (hts _ q1196) rfl (by decide +kernel) ⟨Nat.le_of_ble_eq_true rfl, Nat.le_of_ble_eq_true rfl⟩) ⟨gPre_blindD, fun U hU hW => ⟨rfl, X.Cn M.2.2 hFc hU hW, by rw [hU]; exact hPc, hDc.self⟩⟩ rfl rfl hl.1 rfl (lv_room (Nat.le_of_ble_eq_true rfl)) dX12_init_2_2 ⟨Nat.le_of_ble_eq_true rfl, Nat.le_of_ble_eq_true rfl⟩) M.2.2 (fun q _ h => hFc q h) hFc (fun u9 t9 H locs ht9 hvm9 hp9 hB9 hz9 hk9 hS => ?_)
  obtain ⟨hP1, hD1⟩ := hB9
  rw [ht9] at hP1
  obtain ⟨hP, hD⟩ := va_join (wr := []) (w1 := [(a, .inr (12, [.int v0, .int v1, .int v2, .int v3, .int v4, .int v5])), (o, .inr (10, [.int v0, .int v1, .int v2, .int v3, .int v4, .int v5]))]) M.1 M.2.1 [0, 1] [] rfl rfl (by decide) (by decide) hk9 hFc hP1 hD1
  have M : gM D A s [(a, .inr (12, [.int v0, .int v1, .int v2, .int v3, .int v4, .int v5])), (o, .inr (10, [.int v0, .int v1, .int v2, .int v3, .int v4, .int v5]))] H locs := ⟨hP, hD, hS⟩
  exact W.vret hx hb hr (fun t9 ht9 hW9 => ⟨⟨(), rfl, trivial, by rw [ht9]; exact M.1, M.2.1⟩, M.2.2.F ht9⟩) M.2.2.2.2 dX12_init_2_5

set_option maxHeartbeats 4000000 in
set_option maxRecDepth 100000 in
theorem metX14_init (l : Launch) (D : va_G) (dA : Nat → ClassId) (A : Nat → Prop) (e0 : Nat) (a : Nat) (o : Nat) (v0 : Int32) (v1 : Int32) (v2 : Int32) (v3 : Int32) (v4 : Int32) (v5 : Int32) : Met l yX14_init (ws_ yX14_init cX14_init 2 none) ({ frames := 3, cells := 0, slots := 0, locals := 82 } : Room) (va_Pc [.ref a, .ref o] (fun U => xC D dA A e0 U ∧ va_P D xCl [(a, .inr (12, [.int 0, .int 0, .int 0, .int 0, .int 0, .int 0])), (o, .inr (10, [.int v0, .int v1, .int v2, .int v3, .int v4, .int v5]))] U.heap ∧ va_D A [(a, .inr (12, [.int 0, .int 0, .int 0, .int 0, .int 0, .int 0])), (o, .inr (10, [.int v0, .int v1, .int v2, .int v3, .int v4, .int v5]))])) (va_Qv (fun _ : Unit => True) (fun _ t => va_P D xCl [(a, .inr (12, [.int v0, .int v1, .int v2, .int v3, .int v4, .int v5])), (o, .inr (10, [.int v0, .int v1, .int v2, .int v3, .int v4, .int v5]))] t.heap ∧ va_D A [(a, .inr (12, [.int v0, .int v1, .int v2, .int v3, .int v4, .int v5])), (o, .inr (10, [.int v0, .int v1, .int v2, .int v3, .int v4, .int v5]))]) A) 0 0 A := by
  refine Met.ofW (cc := cX14_init) (maxL := 2) (ret := none) (by decide) rfl ?_
  intro p e s m args below meth c s₁ B hml hv
  obtain ⟨rfl, hC, hP, hD⟩ := hv
  have hx := B.exec
  have hb := B.bytes
  have hr := B.returns
  have hts := atoms_spec (ws := (ws_ yX14_init cX14_init 2 none)) B.pre
  have hts : ∀ w ∈ lw_all, w.before _ s = true := fun w h => hts w (List.mem_cons_of_mem _ h)
  have hown : s.vm.findClass RX14 = some m.cls := findClass_of_methodNamed B.named
  have hlocks := B.notSynchronized
  have S : CallFix p m c cX14_init 2 s ([.ref a, .ref o] : List Value).toArray lw_all RX14 := ⟨hx, hb, hml, hown, hts⟩
  have X : xX RX14 p s m ([.ref a, .ref o] : List Value).toArray c cX14_init 2 D dA A e0 := ⟨S, hC⟩
  have hin : meth.name = "<init>" := (name_of_methodNamed B.named B.method).1
  have M : gM D A s [(a, .inr (12, [.int 0, .int 0, .int 0, .int 0, .int 0, .int 0])), (o, .inr (10, [.int v0, .int v1, .int v2, .int v3, .int v4, .int v5]))] s.heap [] := ⟨hP, hD, va_S.rf⟩
  have hl := lv_entry ([.ref a, .ref o]) (n := 2) (Nat.le_of_ble_eq_true rfl)
  rw [lg_entry_eq]
  generalize (lg_sl ([.ref a, .ref o]) ++ List.replicate (2 - (lg_sl ([.ref a, .ref o])).length) Slot.unset).toArray = ls at hl ⊢
  have hl : lv_has ls 2 [(0, .ref a), (1, .ref o)] := hl
  refine lv_aload_n hx hb dX14_init_0 rfl (lv_at hl 0 rfl) ?_
  refine lv_aload_n hx hb dX14_init_1 rfl (lv_at hl 1 rfl) ?_
  have hPc := M.1.sub (ws' := [(a, .inr (12, [.int 0, .int 0, .int 0, .int 0, .int 0, .int 0])), (o, .inr (10, [.int v0, .int v1, .int v2, .int v3, .int v4, .int v5]))]) [0, 1] rfl
  have hDc := M.2.1.sub (ws' := [(a, .inr (12, [.int 0, .int 0, .int 0, .int 0, .int 0, .int 0])), (o, .inr (10, [.int v0, .int v1, .int v2, .int v3, .int v4, .int v5]))]) [0, 1] (by decide) rfl
  have hFc := va_free (wc := [(a, .inr (12, [.int 0, .int 0, .int 0, .int 0, .int 0, .int 0])), (o, .inr (10, [.int v0, .int v1, .int v2, .int v3, .int v4, .int v5]))]) M.2.1 M.2.2 X.hA [0, 1] rfl
  refine va_callv (va_runI (As := [.ref o]) (rest := []) X.1 (metX12_init_2 l D dA (va_A [(a, .inr (12, [.int 0, .int 0, .int 0, .int 0, .int 0, .int 0])), (o, .inr (10, [.int v0, .int v1, .int v2, .int v3, .int v4, .int v5]))] s.heap.size) e0 a o v0 v1 v2 v3 v4 v5) (cwI 1 hts (lw_meth q1194) rfl rfl rfl (hts _ q90) (hts _ q1192) (hts _ q1193) rfl (by decide +kernel) ⟨Nat.le_of_ble_eq_true rfl, Nat.le_of_ble_eq_true rfl⟩) ⟨gPre_blindD, fun U hU hW => ⟨rfl, X.Cn M.2.2 hFc hU hW, by rw [hU]; exact hPc, hDc.self⟩⟩ rfl rfl hl.1 rfl (lv_room (Nat.le_of_ble_eq_true rfl)) dX14_init_2 ⟨Nat.le_of_ble_eq_true rfl, Nat.le_of_ble_eq_true rfl⟩) M.2.2 (fun q _ h => hFc q h) hFc (fun u9 t9 H locs ht9 hvm9 hp9 hB9 hz9 hk9 hS => ?_)
  obtain ⟨hP1, hD1⟩ := hB9
  rw [ht9] at hP1
  obtain ⟨hP, hD⟩ := va_join (wr := []) (w1 := [(a, .inr (12, [.int v0, .int v1, .int v2, .int v3, .int v4, .int v5])), (o, .inr (10, [.int v0, .int v1, .int v2, .int v3, .int v4, .int v5]))]) M.1 M.2.1 [0, 1] [] rfl rfl (by decide) (by decide) hk9 hFc hP1 hD1
  have M : gM D A s [(a, .inr (12, [.int v0, .int v1, .int v2, .int v3, .int v4, .int v5])), (o, .inr (10, [.int v0, .int v1, .int v2, .int v3, .int v4, .int v5]))] H locs := ⟨hP, hD, hS⟩
  exact W.vret hx hb hr (fun t9 ht9 hW9 => ⟨⟨(), rfl, trivial, by rw [ht9]; exact M.1, M.2.1⟩, M.2.2.F ht9⟩) M.2.2.2.2 dX14_init_5

