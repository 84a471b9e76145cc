/-! THE SYSTEM, 8: rows of sheets; cart, seal, watch -/
theorem add64N {a b n : Nat} (h : a + b ≤ n) (hn : n < 2 ^ 30) : ¬ (nI n).toInt64 < (nI a).toInt64 + (nI b).toInt64 := by
  intro q
  rw [Int64.lt_iff_toInt_lt, Int64.toInt_add, Int32.toInt_toInt64, Int32.toInt_toInt64, Int32.toInt_toInt64, nI_toInt (by omega), nI_toInt (by omega), nI_toInt (by omega), Int.bmod_eq_of_le (by omega) (by omega)] at q
  omega
def x_rowOk (i n nn : Int32) : Bool := decide (0 ≤ i) && decide (i.toInt64 + n.toInt64 ≤ nn.toInt64)
theorem x_rowOk_n {i n nn : Int32} (h : x_rowOk i n nn = false) : ¬ (0 ≤ i ∧ i.toInt64 + n.toInt64 ≤ nn.toInt64) := by
  intro q; unfold x_rowOk at h; rw [decide_eq_true q.1, decide_eq_true q.2] at h; cases h
theorem x_rowOk_ex {i : Int32} {n nn : Nat} (h : x_rowOk i (nI n) (nI nn) = true) (hn : n ≤ 64) (hnn : nn ≤ 64) : ∃ k : Nat, k + n ≤ nn ∧ i = nI k := by
  unfold x_rowOk at h
  obtain ⟨h1, h2⟩ := Bool.and_eq_true_iff.mp h
  have h1 := of_decide_eq_true h1
  have h2 := of_decide_eq_true h2
  obtain ⟨k, hk, rfl⟩ := nat_ge0 h1
  have := add64 (x := nI nn) hk (by omega) h2 ⟨nI_pos' (by omega), nI_le (b := 64) hnn (by decide)⟩ (n := 64) rfl
  rw [nI_clamp (by omega)] at this
  exact ⟨k, this.1, rfl⟩
/-- a row of sheet k from i, of n -/
def x_rowOf (Rr : Nat → Nat → Int32) (k i n : Nat) : Nat → Int32 := va_cpy (Rr (30 + k)) (fun _ => 0) i 0 n
theorem x_rowOf_at {Rr : Nat → Nat → Int32} {k i n j : Nat} (h : j < n) : x_rowOf Rr k i n j = Rr (30 + k) (i + j) := by
  unfold x_rowOf va_cpy; rw [if_pos (by omega), Nat.sub_zero]
theorem xM_asc {s : State} {H : Heap} {locs : List Loc} {D : va_G} {dA : Nat → ClassId} {A : Nat → Prop} {e0 h : Nat} {G : xG} {T cs : va_W} {c0 : Nat × va_E} {F : Nat → Int32} {Rr : Nat → Nat → Int32} (M : xM D dA A e0 h G (T ++ (cs ++ [c0])) s F Rr H locs) : xM D dA A e0 h G ((T ++ cs) ++ [c0]) s F Rr H locs := by rw [List.append_assoc]; exact M
section XROWC
variable {p : Program} {l : Launch} {e : Env} {R : Room} {s : State} {m : MethodId} {args : Array Value} {below : List Frame} {meth : Method} {c : Code} {H : Heap} {locs : List Loc} {cells slots : Nat} {Q : State → Prop}
variable {own host : String} {cc : ByteArray} {nL pc maxL n index : Nat} {ls : Array Slot} {rest As st : List Value} {y : MethodName} {bytes : ByteArray} {ret : Option FieldType} {wsc : List Cond} {rm : Room}
/-- a static method of a nest mate's that answers nothing and only reads -/
theorem xs_cNv {D : va_G} {dA : Nat → ClassId} {A : Nat → Prop} {e0 : Nat} {H0 : Heap} (X : xX own p s m args c cc nL D dA A e0) (hM : Met l y wsc rm (va_Pc As (fun _ => True)) (va_Sv (fun _ => True)) 0 0 (fun _ => False)) (cw : va_CN R s args own index y host bytes maxL ret wsc rm 0 0 n ∧ (Cond.static y).before args s = true ∧ True) (hn : As.length = n) (hl : ls.size = nL) (hst : st = As.reverse ++ rest) (hW : (rest.map fun v => v.category).sum ≤ 8) (hdg : decode cc pc = .ok (.invokestatic index, 3)) (hf : cells ≤ R.cells ∧ slots ≤ R.slots) (kk : W p l e R s m args below meth c H locs cells slots Q (F0 m (pc + 3) ls rest)) : W p l e R s m args below meth c H locs cells slots Q (F0 m pc ls st) := by
  intro T hT Y
  obtain ⟨v9, st₀, t, T', L, h0, Y', hL, e1, e2, ⟨hv, hp, hh⟩, stp⟩ := va_runSN (As := As) (rest := rest) (g := F0 m pc ls st) X.1 hM cw ⟨fun a U g mk q => q, fun U hU hW => ⟨rfl, trivial⟩⟩ rfl hn hl hst (lv_room (m := m) (pc := 0) (ls := ls) (rest := []) hW) hdg hf T hT Y
  cases hv
  obtain ⟨t2, a1, b1⟩ := kk T' (by rw [e1, hh, h0]) (Stand.forget Y' (fun q h => (hL q h).elim))
  exact ⟨t2, stp t2 a1, b1⟩
end XROWC
set_option maxHeartbeats 4000000 in
set_option maxRecDepth 100000 in
theorem metX4_row_t (l : Launch) (D : va_G) (dA : Nat → ClassId) (A : Nat → Prop) (e0 : Nat) (a : Nat) (la : Int32) (z : Nat) (nn : Nat) (f : Nat → Int32) (k : Nat) (n : Nat) (hkn : k + n ≤ nn) (hnn : nn ≤ 64) : Met l yX4_row (ws_ yX4_row cX4_row 4 (some (.array .int))) ({ frames := 5, cells := 1, slots := 64, locals := 130 } : Room) (va_Pc [.ref a, .int (nI k), .int (nI n)] (fun U => xC D dA A e0 U ∧ va_P D xCl [(a, .inr (4, [.int la, .ref z])), (z, .inl (dA 0, nn, .inl f))] U.heap ∧ va_D A [(a, .inr (4, [.int la, .ref z])), (z, .inl (dA 0, nn, .inl f))])) (va_Qr (fun _ : Unit => True) (fun _ q t => va_P D xCl [(a, .inr (4, [.int la, .ref z])), (z, .inl (dA 0, nn, .inl f)), (q, .inl (dA 0, n, .inl (va_cpy f (fun _ => 0) k 0 n)))] t.heap ∧ va_D A [(a, .inr (4, [.int la, .ref z])), (z, .inl (dA 0, nn, .inl f)), (q, .inl (dA 0, n, .inl (va_cpy f (fun _ => 0) k 0 n)))]) A) 1 64 A := by
  refine Met.ofW (cc := cX4_row) (maxL := 4) (ret := (some (.array .int))) (by decide) rfl ?_
  intro p e s m args below meth c s₁ B hml hv
  obtain ⟨rfl, hC, hP, hD⟩ := hv
  have hx := B.exec
  have hb := B.bytes
  have hr := B.returns
  have hts := atoms_spec (ws := (ws_ yX4_row cX4_row 4 (some (.array .int)))) B.pre
  have hts : ∀ w ∈ lw_all, w.before _ s = true := fun w h => hts w (List.mem_cons_of_mem _ h)
  have hown : s.vm.findClass RX4 = some m.cls := findClass_of_methodNamed B.named
  have hlocks := B.notSynchronized
  have S : CallFix p m c cX4_row 4 s ([.ref a, .int (nI k), .int (nI n)] : List Value).toArray lw_all RX4 := ⟨hx, hb, hml, hown, hts⟩
  have X : xX RX4 p s m ([.ref a, .int (nI k), .int (nI n)] : List Value).toArray c cX4_row 4 D dA A e0 := ⟨S, hC⟩
  have M : gM D A s [(a, .inr (4, [.int la, .ref z])), (z, .inl (dA 0, nn, .inl f))] s.heap [] := ⟨hP, hD, va_S.rf⟩
  have hl := lv_entry ([.ref a, .int (nI k), .int (nI n)]) (n := 4) (Nat.le_of_ble_eq_true rfl)
  rw [lg_entry_eq]
  generalize (lg_sl ([.ref a, .int (nI k), .int (nI n)]) ++ List.replicate (4 - (lg_sl ([.ref a, .int (nI k), .int (nI n)])).length) Slot.unset).toArray = ls at hl ⊢
  have hl : lv_has ls 4 [(0, .ref a), (1, .int (nI k)), (2, .int (nI n))] := hl
  refine lv_iload_n hx hb dX4_row_0 rfl (lv_at hl 1 rfl) ?_
  refine lb_if_lt (tgt := 23) hx hb dX4_row_1 (by decide) (fun c_1 c_1' => absurd ((show ¬ nI k < 0 from nI_pos (by omega)) c_1) (fun h9 => h9)) (fun c_1 c_1' => ?_)
  refine lv_iload_n hx hb dX4_row_4 rfl (lv_at hl 1 rfl) ?_
  refine lv_i2l (v := (nI k).toInt64) hx hb dX4_row_5 rfl ?_
  refine lv_iload_n hx hb dX4_row_6 rfl (lv_at hl 2 rfl) ?_
  refine lv_i2l (v := (nI n).toInt64) hx hb dX4_row_7 rfl ?_
  refine lv_ladd hx hb dX4_row_8 ?_
  refine lv_aload_n hx hb dX4_row_9 rfl (lv_at hl 0 rfl) ?_
  refine va_get (cl := xCl) (ci := 4) (fs := [.int la, .ref z]) X.hx X.hb X.hts in_X4 X.ow X.K M.1 0 rfl rfl 1 (by decide) (X.hts _ q311) (fun _ h9 => h9) rfl dX4_row_10 ?_
  refine va_alen (v := nI nn) X.hx X.hb X.K M.1 1 0 rfl rfl rfl dX4_row_13 ?_
  refine lv_i2l (v := (nI nn).toInt64) hx hb dX4_row_14 rfl ?_
  refine W.lcmp hx hb dX4_row_15 ?_
  refine lc_if_gt (tgt := 23) hx hb dX4_row_16 (by decide) (fun c_2 c_2' => absurd (add64N hkn (by omega) c_2) (fun h9 => h9)) (fun c_2 c_2' => ?_)
  refine lv_iconst (v := 1) hx hb dX4_row_19 (by decide) ?_
  refine lv_goto (tgt := 24) hx hb dX4_row_20 (by decide) ?_
  refine lv_iconst (v := 2) hx hb dX4_row_24 (by decide) ?_
  refine xs_cNv (H0 := s.heap) (As := [.int 1, .int 2]) (rest := []) X (metX0_must_t l 2) ⟨va_cnB 2 hts (lw_meth q237) rfl rfl rfl (X.T.1 _ q847 rfl) (hts _ q57) (by decide +kernel) ⟨Nat.le_of_ble_eq_true rfl, Nat.le_of_ble_eq_true rfl⟩, hts _ q236, trivial⟩ rfl hl.1 rfl (Nat.le_of_ble_eq_true rfl) dX4_row_25 ⟨Nat.le_of_ble_eq_true rfl, Nat.le_of_ble_eq_true rfl⟩ ?_
  refine lv_iload_n hx hb dX4_row_28 rfl (lv_at hl 2 rfl) ?_
  refine g_newi (N' := n) X (X.hts _ q130) M.1 M.2.1 M.2.2 (nI_pos (by omega)) (nI_clamp (by omega)) (by omega) (Nat.le_of_ble_eq_true rfl) (by show 0 + n ≤ 64; omega) dX4_row_29 (fun q_3 H hP hD hS => ?_)
  have M : gM D A s [(a, .inr (4, [.int la, .ref z])), (z, .inl (dA 0, nn, .inl f)), (q_3, .inl (dA 0, n, .inl (fun _ => 0)))] H _ := ⟨hP, hD, hS⟩
  refine W.widen (k := 1) (n := 64) (Nat.le_of_ble_eq_true rfl) (by first | omega | (dsimp only; omega)) ?_
  refine lv_astore_n (lv' := [(3, .ref q_3), (0, .ref a), (1, .int (nI k)), (2, .int (nI n))]) hx hb dX4_row_31 rfl hl (by decide) rfl (fun ls hl => ?_)
  refine lv_aload_n hx hb dX4_row_32 rfl (lv_at hl 1 rfl) ?_
  refine va_get (cl := xCl) (ci := 4) (fs := [.int la, .ref z]) X.hx X.hb X.hts in_X4 X.ow X.K M.1 0 rfl rfl 1 (by decide) (X.hts _ q311) (fun _ h9 => h9) rfl dX4_row_33 ?_
  refine lv_iload_n hx hb dX4_row_36 rfl (lv_at hl 2 rfl) ?_
  refine lv_aload_n hx hb dX4_row_37 rfl (lv_at hl 0 rfl) ?_
  refine lv_iconst (v := 0) hx hb dX4_row_38 (by decide) ?_
  refine lv_iload_n hx hb dX4_row_39 rfl (lv_at hl 3 rfl) ?_
  refine va_copyi hx hb (by rw [hml]; exact hl.1.symm) hown (hts _ q848) (hts _ q379) (hts _ q378) (hts _ q71) X.K M.1 M.2.1 M.2.2 1 2 0 0 rfl rfl rfl rfl rfl (nI_pos (by omega)) (by decide) (nI_pos (by omega)) (by rw [nI_clamp (show k < 2 ^ 31 by omega), nI_clamp (show n < 2 ^ 31 by omega)]; omega) (by rw [nI_clamp (show n < 2 ^ 31 by omega)]; show 0 + n ≤ n; omega) (fun i9 h9 => rfl) (Nat.le_of_ble_eq_true rfl) (Nat.le_of_ble_eq_true rfl) dX4_row_40 (fun H locs hP hD hS => ?_)
  rw [nI_clamp (show k < 2 ^ 31 by omega), nI_clamp (show n < 2 ^ 31 by omega)] at hP hD
  have M : gM D A s [(a, .inr (4, [.int la, .ref z])), (z, .inl (dA 0, nn, .inl f)), (q_3, .inl (dA 0, n, .inl (va_cpy f (fun _ => 0) k 0 n)))] H locs := ⟨hP, hD, hS⟩
  refine lv_aload_n hx hb dX4_row_43 rfl (lv_at hl 0 rfl) ?_
  exact W.aret (v := .ref q_3) hx hb hr (Or.inr ⟨_, rfl⟩) (Or.inr ⟨_, rfl⟩) (fun t9 ht9 hW9 => ⟨⟨(), _, rfl, trivial, by rw [ht9]; exact M.1, M.2.1⟩, M.2.2.F ht9⟩) M.2.2.2.2 dX4_row_44

set_option maxHeartbeats 4000000 in
set_option maxRecDepth 100000 in
theorem metX4_row_f (l : Launch) (D : va_G) (dA : Nat → ClassId) (A : Nat → Prop) (e0 : Nat) (a : Nat) (la : Int32) (z : Nat) (nn : Nat) (f : Nat → Int32) (i : Int32) (n : Nat) (hb9 : ¬ (0 ≤ i ∧ i.toInt64 + (nI n).toInt64 ≤ (nI nn).toInt64)) : vx_Met l yX4_row (ws_ yX4_row cX4_row 4 (some (.array .int))) ({ frames := 5, cells := 1, slots := 7, locals := 130 } : Room) (va_Pc [.ref a, .int i, .int (nI n)] (fun U => xC D dA A e0 U ∧ va_P D xCl [(a, .inr (4, [.int la, .ref z])), (z, .inl (dA 0, nn, .inl f))] U.heap)) (fun _ _ _ _ => False) (xThr D A 2) 1 7 A := by
  refine vx_ofW (cc := cX4_row) (maxL := 4) (ret := (some (.array .int))) (by decide) rfl ?_
  intro p e s m args below meth c s₁ B hml htb hv
  obtain ⟨rfl, hC, hP⟩ := hv
  have hx := B.exec
  have hb := B.bytes
  have hr := B.returns
  have hts := atoms_spec (ws := (ws_ yX4_row cX4_row 4 (some (.array .int)))) B.pre
  have hts : ∀ w ∈ lw_all, w.before _ s = true := fun w h => hts w (List.mem_cons_of_mem _ h)
  have hown : s.vm.findClass RX4 = some m.cls := findClass_of_methodNamed B.named
  have hlocks := B.notSynchronized
  have S : CallFix p m c cX4_row 4 s ([.ref a, .int i, .int (nI n)] : List Value).toArray lw_all RX4 := ⟨hx, hb, hml, hown, hts⟩
  have X : xX RX4 p s m ([.ref a, .int i, .int (nI n)] : List Value).toArray c cX4_row 4 D dA A e0 := ⟨S, hC⟩
  have M : gQ D s [(a, .inr (4, [.int la, .ref z])), (z, .inl (dA 0, nn, .inl f))] s.heap [] := ⟨hP, trivial⟩
  have hl := lv_entry ([.ref a, .int i, .int (nI n)]) (n := 4) (Nat.le_of_ble_eq_true rfl)
  rw [lg_entry_eq]
  generalize (lg_sl ([.ref a, .int i, .int (nI n)]) ++ List.replicate (4 - (lg_sl ([.ref a, .int i, .int (nI n)])).length) Slot.unset).toArray = ls at hl ⊢
  have hl : lv_has ls 4 [(0, .ref a), (1, .int i), (2, .int (nI n))] := hl
  refine lv_iload_n hx hb dX4_row_0 rfl (lv_at hl 1 rfl) ?_
  refine lb_if_lt (tgt := 23) hx hb dX4_row_1 (by decide) (fun c_1 c_1' => ?_) (fun c_1 c_1' => ?_)
  · -- c_1: i < 0
    refine lv_iconst (v := 0) hx hb dX4_row_23 (by decide) ?_
    refine lv_iconst (v := 2) hx hb dX4_row_24 (by decide) ?_
    refine vx_callF (vx_runSN (As := [.int 0, .int 2]) (rest := []) X.1 (metX0_must_f l D dA (va_A [] s.heap.size) e0 2) ⟨va_cnB 2 hts (lw_meth q237) rfl rfl rfl (X.T.1 _ q847 rfl) (hts _ q57) (by decide +kernel) ⟨Nat.le_of_ble_eq_true rfl, Nat.le_of_ble_eq_true rfl⟩, hts _ q236, trivial⟩ ⟨gPre_blindD, fun U hU hW => ⟨rfl, X.Cn (H := s.heap) va_S.rf (x_F0 X va_S.rf) hU hW, x_P0, x_D0⟩⟩ rfl rfl hl.1 rfl (lv_room (Nat.le_of_ble_eq_true rfl)) dX4_row_25 ⟨Nat.le_of_ble_eq_true rfl, Nat.le_of_ble_eq_true rfl⟩) (va_S.rf (A := A)) (x_F0 X va_S.rf) (fun q _ z => x_F0 X va_S.rf q z) (fun E9 ce9 q9 u9 t9 H locs ht9 hvm9 hp9 hB9 hz9 hk9 hS hce9 hcv9 hcl9 => ?_)
    obtain ⟨rfl, hq9, hat9⟩ := hB9
    rw [ht9] at hat9
    refine vx_widen (k := 1) (n := 7) (Nat.le_of_ble_eq_true rfl) (Nat.le_of_ble_eq_true rfl) ?_
    exact vx_out (fun x9 hx9 => (htb x9 hx9).elim) hlocks hce9 hcv9 hcl9 (fun t9 ht9 hA9 => ⟨(), trivial, ⟨rfl, x_F0 X va_S.rf _ hq9, by rw [ht9]; exact hat9⟩, hS.F ht9⟩) hS.2.2 (Nat.le_refl _) (Nat.le_refl _)
  · -- c_1: i ≥ 0
    refine lv_iload_n hx hb dX4_row_4 rfl (lv_at hl 1 rfl) ?_
    refine lv_i2l (v := i.toInt64) hx hb dX4_row_5 rfl ?_
    refine lv_iload_n hx hb dX4_row_6 rfl (lv_at hl 2 rfl) ?_
    refine lv_i2l (v := (nI n).toInt64) hx hb dX4_row_7 rfl ?_
    refine lv_ladd hx hb dX4_row_8 ?_
    refine lv_aload_n hx hb dX4_row_9 rfl (lv_at hl 0 rfl) ?_
    refine va_get (cl := xCl) (ci := 4) (fs := [.int la, .ref z]) X.hx X.hb X.hts in_X4 X.ow X.K M.1 0 rfl rfl 1 (by decide) (X.hts _ q311) (fun _ h9 => h9) rfl dX4_row_10 ?_
    refine va_alen (v := nI nn) X.hx X.hb X.K M.1 1 0 rfl rfl rfl dX4_row_13 ?_
    refine lv_i2l (v := (nI nn).toInt64) hx hb dX4_row_14 rfl ?_
    refine W.lcmp hx hb dX4_row_15 ?_
    refine lc_if_gt (tgt := 23) hx hb dX4_row_16 (by decide) (fun c_2 c_2' => ?_) (fun c_2 c_2' => absurd (hb9 ⟨c_1, c_2⟩) (fun h9 => h9))
    refine lv_iconst (v := 0) hx hb dX4_row_23 (by decide) ?_
    refine lv_iconst (v := 2) hx hb dX4_row_24 (by decide) ?_
    refine vx_callF (vx_runSN (As := [.int 0, .int 2]) (rest := []) X.1 (metX0_must_f l D dA (va_A [] s.heap.size) e0 2) ⟨va_cnB 2 hts (lw_meth q237) rfl rfl rfl (X.T.1 _ q847 rfl) (hts _ q57) (by decide +kernel) ⟨Nat.le_of_ble_eq_true rfl, Nat.le_of_ble_eq_true rfl⟩, hts _ q236, trivial⟩ ⟨gPre_blindD, fun U hU hW => ⟨rfl, X.Cn (H := s.heap) va_S.rf (x_F0 X va_S.rf) hU hW, x_P0, x_D0⟩⟩ rfl rfl hl.1 rfl (lv_room (Nat.le_of_ble_eq_true rfl)) dX4_row_25 ⟨Nat.le_of_ble_eq_true rfl, Nat.le_of_ble_eq_true rfl⟩) (va_S.rf (A := A)) (x_F0 X va_S.rf) (fun q _ z => x_F0 X va_S.rf q z) (fun E9 ce9 q9 u9 t9 H locs ht9 hvm9 hp9 hB9 hz9 hk9 hS hce9 hcv9 hcl9 => ?_)
    obtain ⟨rfl, hq9, hat9⟩ := hB9
    rw [ht9] at hat9
    refine vx_widen (k := 1) (n := 7) (Nat.le_of_ble_eq_true rfl) (Nat.le_of_ble_eq_true rfl) ?_
    exact vx_out (fun x9 hx9 => (htb x9 hx9).elim) hlocks hce9 hcv9 hcl9 (fun t9 ht9 hA9 => ⟨(), trivial, ⟨rfl, x_F0 X va_S.rf _ hq9, by rw [ht9]; exact hat9⟩, hS.F ht9⟩) hS.2.2 (Nat.le_refl _) (Nat.le_refl _)

section XROWT
variable {p : Program} {l : Launch} {e : Env} {R : Room} {s : State} {m : MethodId} {args : Array Value} {below : List Frame} {meth : Method} {c : Code} {H : Heap} {locs : List Loc} {cells slots : Nat} {Q : State → Prop}
variable {own : String} {cc : ByteArray} {nL pc maxL index : Nat} {ls : Array Slot} {rest : List Value} {ret : Option FieldType} {wsc : List Cond} {rm : Room} {D : va_G} {dA : Nat → ClassId} {A : Nat → Prop} {e0 h : Nat} {G : xG} {T : va_W} {F : Nat → Int32} {Rr : Nat → Nat → Int32}
theorem xsht_two {k y z nn : Nat} (M : xM D dA A e0 h G T s F Rr H locs) (hs : xsht dA G Rr k y z nn) : ∃ q9 q8 : Nat, (xWs h dA G F Rr T)[q9]? = some ((y, .inr (4, [.int (Rr 0 k), .ref z])) : Nat × va_E) ∧ (xWs h dA G F Rr T)[q8]? = some ((z, .inl (dA 0, nn, .inl (Rr (30 + k)))) : Nat × va_E) ∧ q9 ≠ q8 := by
  obtain ⟨q9, h9⟩ := xat_ws hs.2.1 (xW h dA G F Rr ++ T)
  obtain ⟨q8, h8⟩ := xat_ws hs.2.2.2.1 (xW h dA G F Rr ++ T)
  refine ⟨q9, q8, h9, h8, fun e => ?_⟩
  subst e
  have e1 := congrArg Prod.fst (Option.some.inj (h9.symm.trans h8))
  exact absurd e1 (xat_ne2 hs.2.1 hs.2.2.2.1 (by omega))
theorem x_rowT {k y z nn kk n : Nat} (X : xX own p s m args c cc nL D dA A e0) (M : xM D dA A e0 h G T s F Rr H locs) (hs : xsht dA G Rr k y z nn) (hkn : kk + n ≤ nn) (cw : CallW R s args own RX4 index yX4_row cX4_row maxL ret (ws_ yX4_row cX4_row 4 (some (.array .int))) ({ frames := 5, cells := 1, slots := 64, locals := 130 } : Room) 1 64 2) (hl : ls.size = nL) (hW : (rest.map fun v => v.category).sum ≤ 8) (hdg : decode cc pc = .ok (.invokevirtual index, 3)) (hf : cells + 1 ≤ R.cells ∧ slots + 64 ≤ R.slots)
    (kx : ∀ (q : Nat) (H1 : Heap) (locs1 : List Loc), xM D dA A e0 h G (T ++ [(q, .inl (dA 0, n, .inl (x_rowOf Rr k kk n)))]) s F Rr H1 locs1 → W p l e R s m args below meth c H1 locs1 (cells + 1) (slots + 64) Q (F0 m (pc + 3) ls (.ref q :: rest))) : W p l e R s m args below meth c H locs cells slots Q (F0 m pc ls (.int (nI n) :: .int (nI kk) :: .ref y :: rest)) := by
  obtain ⟨q9, q8, h9, h8, hne⟩ := xsht_two M hs
  have hDc := va_D2 M.2.1 h9 h8 hne
  have hFc := va_free2 M.2.1 M.2.2.1 X.hA h9 h8
  refine va_callr (va_runV (As := [.int (nI kk), .int (nI n)]) (rest := rest) X.1 (metX4_row_t l D dA (va_A [(y, .inr (4, [.int (Rr 0 k), .ref z])), (z, .inl (dA 0, nn, .inl (Rr (30 + k))))] H.size) e0 y (Rr 0 k) z nn (Rr (30 + k)) kk n hkn hs.2.2.2.2.2) cw ⟨gPre_blindD, va_recv (cl := xCl) X.K M.1 rfl h9, fun U hU hW => ⟨rfl, X.Cn M.2.2.1 hFc hU hW, by rw [hU]; exact va_P2 (M.1 _ _ h9) (M.1 _ _ h8), hDc.self⟩⟩ rfl rfl hl rfl (by simpa [JFrame.monitorRoom] using hW) hdg hf) M.2.2.1 (fun q _ h => hFc q h) hFc (fun u a t H1 locs1 ht hvm hp hB hz hk hS => ?_)
  obtain ⟨hP1, hD1⟩ := hB; rw [ht] at hP1
  obtain ⟨p1, d1, -⟩ := fr_new M.1 M.2.1 (wc := [(y, .inr (4, [.int (Rr 0 k), .ref z])), (z, .inl (dA 0, nn, .inl (Rr (30 + k))))]) (fun t q z => by
    rcases t with _ | _ | t
    · cases z; exact ⟨_, h9⟩
    · cases z; exact ⟨_, h8⟩
    · cases z) hk hFc hP1 hD1
  exact kx a H1 locs1 (xM_pushI M.2.2.2 p1 d1 hS)
end XROWT
def x_sealed (g : Nat → Int32) : Bool := inB 0 3 (g 0) && inB 0 11 (g 1) && inB 0 99 (g 2) && inB 0 9 (g 3) && inB 0 7 (g 4) && (inB 0 999 (g 5) && inB (g 5) 999 (g 6))
set_option maxHeartbeats 4000000 in
set_option maxRecDepth 100000 in
theorem metX0_isSealed (l : Launch) (D : va_G) (dA : Nat → ClassId) (A : Nat → Prop) (e0 : Nat) (r : Nat) (g : Nat → Int32) : Met l yX0_isSealed (ws_ yX0_isSealed cX0_isSealed 1 (some .boolean)) ({ frames := 3, cells := 0, slots := 0, locals := 66 } : Room) (va_Pc [.ref r] (fun U => xC D dA A e0 U ∧ va_P D xCl [(r, .inl (dA 0, 7, .inl g))] U.heap)) (vp_Si (fun r => r = b2i (x_sealed g))) 0 0 (fun _ => False) := by
  refine Met.ofW (cc := cX0_isSealed) (maxL := 1) (ret := (some .boolean)) (by decide) rfl ?_
  intro p e s m args below meth c s₁ B hml hv
  obtain ⟨rfl, hC, hP⟩ := hv
  have hx := B.exec
  have hb := B.bytes
  have hr := B.returns
  have hts := atoms_spec (ws := (ws_ yX0_isSealed cX0_isSealed 1 (some .boolean))) B.pre
  have hts : ∀ w ∈ lw_all, w.before _ s = true := fun w h => hts w (List.mem_cons_of_mem _ h)
  have hown : s.vm.findClass RX0 = some m.cls := findClass_of_methodNamed B.named
  have hlocks := B.notSynchronized
  have S : CallFix p m c cX0_isSealed 1 s ([.ref r] : List Value).toArray lw_all RX0 := ⟨hx, hb, hml, hown, hts⟩
  have X : xX RX0 p s m ([.ref r] : List Value).toArray c cX0_isSealed 1 D dA A e0 := ⟨S, hC⟩
  have M : gQ D s [(r, .inl (dA 0, 7, .inl g))] s.heap [] := ⟨hP, trivial⟩
  have hl := lv_entry ([.ref r]) (n := 1) (Nat.le_of_ble_eq_true rfl)
  rw [lg_entry_eq]
  generalize (lg_sl ([.ref r]) ++ List.replicate (1 - (lg_sl ([.ref r])).length) Slot.unset).toArray = ls at hl ⊢
  have hl : lv_has ls 1 [(0, .ref r)] := hl
  refine lv_aload_n hx hb dX0_isSealed_0 rfl (lv_at hl 0 rfl) ?_
  refine lv_iconst (v := 0) hx hb dX0_isSealed_1 (by decide) ?_
  refine g_iald (n := 7) (f := g) (j := 0) X M.1 0 0 rfl rfl (show vp_in (nI 0) _ from vp_in_nI (by decide) (by decide)) rfl dX0_isSealed_2 ?_
  refine lv_i2l (v := (g 0).toInt64) hx hb dX0_isSealed_3 rfl ?_
  refine lv_lconst (v := 0) hx hb dX0_isSealed_4 (by decide) ?_
  refine lv_ldc2 (v := 3) hx hb hown (hts _ q1074) dX0_isSealed_5 ?_
  refine s_cI (v := b2i (inB 0 3 (g 0))) (As := [.long ((g 0).toInt64), .long 0, .long 3]) (rest := []) S (metX0_isInI l (g 0) 0 3 ((g 0).toInt64) 0 3 rfl rfl rfl) (va_cwS 3 hts (lw_S q230 q231 q57 q232) rfl rfl rfl (by decide +kernel) ⟨Nat.le_of_ble_eq_true rfl, Nat.le_of_ble_eq_true rfl⟩) rfl hl.1 rfl (Nat.le_of_ble_eq_true rfl) dX0_isSealed_8 ⟨Nat.le_of_ble_eq_true rfl, Nat.le_of_ble_eq_true rfl⟩ ?_
  refine lz_if_eq (tgt := 77) hx hb dX0_isSealed_11 (by decide) (fun c_1 => ?_) (fun c_1 => ?_)
  · -- c_1: inB 0 3 (g 0) = false
    refine lv_iconst (v := 0) hx hb dX0_isSealed_77 (by decide) ?_
    exact W.zret (v := 0) hx hb hr rfl (fun t9 ht9 hW9 => ⟨_, rfl, (by simp [x_sealed, b2i, c_1]), ht9⟩) (fun _ h9 => by cases h9) dX0_isSealed_78
  · -- c_1: inB 0 3 (g 0) = true
    refine lv_aload_n hx hb dX0_isSealed_14 rfl (lv_at hl 0 rfl) ?_
    refine lv_iconst (v := 1) hx hb dX0_isSealed_15 (by decide) ?_
    refine g_iald (n := 7) (f := g) (j := 1) X M.1 0 0 rfl rfl (show vp_in (nI 1) _ from vp_in_nI (by decide) (by decide)) rfl dX0_isSealed_16 ?_
    refine s_cI (v := b2i (inB 0 11 (g 1))) (As := [.int (g 1)]) (rest := []) S (metX0_isPerson l (g 1)) (va_cwS 1 hts (lw_S q1075 q1076 q57 q1077) rfl rfl rfl (by decide +kernel) ⟨Nat.le_of_ble_eq_true rfl, Nat.le_of_ble_eq_true rfl⟩) rfl hl.1 rfl (Nat.le_of_ble_eq_true rfl) dX0_isSealed_17 ⟨Nat.le_of_ble_eq_true rfl, Nat.le_of_ble_eq_true rfl⟩ ?_
    refine lz_if_eq (tgt := 77) hx hb dX0_isSealed_20 (by decide) (fun c_2 => ?_) (fun c_2 => ?_)
    · -- c_2: inB 0 11 (g 1) = false
      refine lv_iconst (v := 0) hx hb dX0_isSealed_77 (by decide) ?_
      exact W.zret (v := 0) hx hb hr rfl (fun t9 ht9 hW9 => ⟨_, rfl, (by simp [x_sealed, b2i, c_1, c_2]), ht9⟩) (fun _ h9 => by cases h9) dX0_isSealed_78
    · -- c_2: inB 0 11 (g 1) = true
      refine lv_aload_n hx hb dX0_isSealed_23 rfl (lv_at hl 0 rfl) ?_
      refine lv_iconst (v := 2) hx hb dX0_isSealed_24 (by decide) ?_
      refine g_iald (n := 7) (f := g) (j := 2) X M.1 0 0 rfl rfl (show vp_in (nI 2) _ from vp_in_nI (by decide) (by decide)) rfl dX0_isSealed_25 ?_
      refine lv_i2l (v := (g 2).toInt64) hx hb dX0_isSealed_26 rfl ?_
      refine lv_lconst (v := 0) hx hb dX0_isSealed_27 (by decide) ?_
      refine lv_ldc2 (v := 99) hx hb hown (hts _ q850) dX0_isSealed_28 ?_
      refine s_cI (v := b2i (inB 0 99 (g 2))) (As := [.long ((g 2).toInt64), .long 0, .long 99]) (rest := []) S (metX0_isInI l (g 2) 0 99 ((g 2).toInt64) 0 99 rfl rfl rfl) (va_cwS 3 hts (lw_S q230 q231 q57 q232) rfl rfl rfl (by decide +kernel) ⟨Nat.le_of_ble_eq_true rfl, Nat.le_of_ble_eq_true rfl⟩) rfl hl.1 rfl (Nat.le_of_ble_eq_true rfl) dX0_isSealed_31 ⟨Nat.le_of_ble_eq_true rfl, Nat.le_of_ble_eq_true rfl⟩ ?_
      refine lz_if_eq (tgt := 77) hx hb dX0_isSealed_34 (by decide) (fun c_3 => ?_) (fun c_3 => ?_)
      · -- c_3: inB 0 99 (g 2) = false
        refine lv_iconst (v := 0) hx hb dX0_isSealed_77 (by decide) ?_
        exact W.zret (v := 0) hx hb hr rfl (fun t9 ht9 hW9 => ⟨_, rfl, (by simp [x_sealed, b2i, c_1, c_2, c_3]), ht9⟩) (fun _ h9 => by cases h9) dX0_isSealed_78
      · -- c_3: inB 0 99 (g 2) = true
        refine lv_aload_n hx hb dX0_isSealed_37 rfl (lv_at hl 0 rfl) ?_
        refine lv_iconst (v := 3) hx hb dX0_isSealed_38 (by decide) ?_
        refine g_iald (n := 7) (f := g) (j := 3) X M.1 0 0 rfl rfl (show vp_in (nI 3) _ from vp_in_nI (by decide) (by decide)) rfl dX0_isSealed_39 ?_
        refine lv_i2l (v := (g 3).toInt64) hx hb dX0_isSealed_40 rfl ?_
        refine lv_lconst (v := 0) hx hb dX0_isSealed_41 (by decide) ?_
        refine lv_ldc2 (v := 9) hx hb hown (hts _ q1079) dX0_isSealed_42 ?_
        refine s_cI (v := b2i (inB 0 9 (g 3))) (As := [.long ((g 3).toInt64), .long 0, .long 9]) (rest := []) S (metX0_isInI l (g 3) 0 9 ((g 3).toInt64) 0 9 rfl rfl rfl) (va_cwS 3 hts (lw_S q230 q231 q57 q232) rfl rfl rfl (by decide +kernel) ⟨Nat.le_of_ble_eq_true rfl, Nat.le_of_ble_eq_true rfl⟩) rfl hl.1 rfl (Nat.le_of_ble_eq_true rfl) dX0_isSealed_45 ⟨Nat.le_of_ble_eq_true rfl, Nat.le_of_ble_eq_true rfl⟩ ?_
        refine lz_if_eq (tgt := 77) hx hb dX0_isSealed_48 (by decide) (fun c_4 => ?_) (fun c_4 => ?_)
        · -- c_4: inB 0 9 (g 3) = false
          refine lv_iconst (v := 0) hx hb dX0_isSealed_77 (by decide) ?_
          exact W.zret (v := 0) hx hb hr rfl (fun t9 ht9 hW9 => ⟨_, rfl, (by simp [x_sealed, b2i, c_1, c_2, c_3, c_4]), ht9⟩) (fun _ h9 => by cases h9) dX0_isSealed_78
        · -- c_4: inB 0 9 (g 3) = true
          refine lv_aload_n hx hb dX0_isSealed_51 rfl (lv_at hl 0 rfl) ?_
          refine lv_iconst (v := 4) hx hb dX0_isSealed_52 (by decide) ?_
          refine g_iald (n := 7) (f := g) (j := 4) X M.1 0 0 rfl rfl (show vp_in (nI 4) _ from vp_in_nI (by decide) (by decide)) rfl dX0_isSealed_53 ?_
          refine s_cI (v := b2i (inB 0 7 (g 4))) (As := [.int (g 4)]) (rest := []) S (metX0_isTown l (g 4)) (va_cwS 1 hts (lw_S q1034 q1035 q57 q1036) rfl rfl rfl (by decide +kernel) ⟨Nat.le_of_ble_eq_true rfl, Nat.le_of_ble_eq_true rfl⟩) rfl hl.1 rfl (Nat.le_of_ble_eq_true rfl) dX0_isSealed_54 ⟨Nat.le_of_ble_eq_true rfl, Nat.le_of_ble_eq_true rfl⟩ ?_
          refine lz_if_eq (tgt := 77) hx hb dX0_isSealed_57 (by decide) (fun c_5 => ?_) (fun c_5 => ?_)
          · -- c_5: inB 0 7 (g 4) = false
            refine lv_iconst (v := 0) hx hb dX0_isSealed_77 (by decide) ?_
            exact W.zret (v := 0) hx hb hr rfl (fun t9 ht9 hW9 => ⟨_, rfl, (by simp [x_sealed, b2i, c_1, c_2, c_3, c_4, c_5]), ht9⟩) (fun _ h9 => by cases h9) dX0_isSealed_78
          · -- c_5: inB 0 7 (g 4) = true
            refine lv_aload_n hx hb dX0_isSealed_60 rfl (lv_at hl 0 rfl) ?_
            refine lv_iconst (v := 5) hx hb dX0_isSealed_61 (by decide) ?_
            refine g_iald (n := 7) (f := g) (j := 5) X M.1 0 0 rfl rfl (show vp_in (nI 5) _ from vp_in_nI (by decide) (by decide)) rfl dX0_isSealed_62 ?_
            refine lv_aload_n hx hb dX0_isSealed_63 rfl (lv_at hl 0 rfl) ?_
            refine lv_bipush (v := 6) hx hb dX0_isSealed_64 (by decide) ?_
            refine g_iald (n := 7) (f := g) (j := 6) X M.1 0 0 rfl rfl (show vp_in (nI 6) _ from vp_in_nI (by decide) (by decide)) rfl dX0_isSealed_66 ?_
            refine s_cI (v := b2i (inB 0 999 (g 5) && inB (g 5) 999 (g 6))) (As := [.int (g 5), .int (g 6)]) (rest := []) S (metX0_areDays l (g 5) (g 6)) (va_cwS 2 hts (lw_S q1027 q1028 q57 q1029) rfl rfl rfl (by decide +kernel) ⟨Nat.le_of_ble_eq_true rfl, Nat.le_of_ble_eq_true rfl⟩) rfl hl.1 rfl (Nat.le_of_ble_eq_true rfl) dX0_isSealed_67 ⟨Nat.le_of_ble_eq_true rfl, Nat.le_of_ble_eq_true rfl⟩ ?_
            refine lz_if_eq (tgt := 77) hx hb dX0_isSealed_70 (by decide) (fun c_6 => ?_) (fun c_6 => ?_)
            · -- c_6: inB 0 999 (g 5) && inB (g 5) 999 (g 6) = false
              refine lv_iconst (v := 0) hx hb dX0_isSealed_77 (by decide) ?_
              exact W.zret (v := 0) hx hb hr rfl (fun t9 ht9 hW9 => ⟨_, rfl, (by simp [x_sealed, b2i, c_1, c_2, c_3, c_4, c_5, c_6]), ht9⟩) (fun _ h9 => by cases h9) dX0_isSealed_78
            · -- c_6: inB 0 999 (g 5) && inB (g 5) 999 (g 6) = true
              refine lv_iconst (v := 1) hx hb dX0_isSealed_73 (by decide) ?_
              refine lv_goto (tgt := 78) hx hb dX0_isSealed_74 (by decide) ?_
              exact W.zret (v := 1) hx hb hr rfl (fun t9 ht9 hW9 => ⟨_, rfl, (by simp [x_sealed, b2i, c_1, c_2, c_3, c_4, c_5, c_6]), ht9⟩) (fun _ h9 => by cases h9) dX0_isSealed_78

def x_cartBad (g : Nat → Int32) (j : Nat) : Bool := !inB 0 (if j = 0 then 4 else 99) (g j)
def x_cart (F : Nat → Int32) (Rr : Nat → Nat → Int32) (k i : Int32) : Int32 × mST := if inB 0 7 k = false then ((-1000001), F, Rr) else if F 10 = 16 then ((-1000003), F, Rr) else if Rr 0 k.toNatClampNeg = -1 then x_fnd F Rr 1 else if x_rowOk i 9 (Rr 24 k.toNatClampNeg) = false then x_fnd F Rr 2 else if x_any (x_cartBad (x_rowOf Rr k.toNatClampNeg i.toNatClampNeg 9)) 9 = true then ((-1000001), F, Rr) else (nI (F 10).toNatClampNeg, va_up (va_up F 10 (nI ((F 10).toNatClampNeg + 1))) 23 0, xcart Rr (F 10).toNatClampNeg (x_rowOf Rr k.toNatClampNeg i.toNatClampNeg 9))
def x_seal (F : Nat → Int32) (Rr : Nat → Nat → Int32) (k i : Int32) : Int32 × mST := if inB 0 7 k = false then ((-1000001), F, Rr) else if F 14 = 16 then ((-1000003), F, Rr) else if Rr 0 k.toNatClampNeg = -1 then x_fnd F Rr 1 else if x_rowOk i 7 (Rr 24 k.toNatClampNeg) = false then x_fnd F Rr 2 else if x_sealed (x_rowOf Rr k.toNatClampNeg i.toNatClampNeg 7) = false then ((-1000001), F, Rr) else
  let g := x_rowOf Rr k.toNatClampNeg i.toNatClampNeg 7
  (nI (F 14).toNatClampNeg, va_up (va_up F 14 (nI ((F 14).toNatClampNeg + 1))) 23 0, xrow Rr 140 (F 14).toNatClampNeg [g 1, g 2, g 3, g 4, g 5, g 6, if g 0 = 0 then nI 0 else if g 0 = 1 then nI 1 else if g 0 = 2 then nI 2 else nI 3])
set_option maxHeartbeats 4000000 in
set_option maxRecDepth 100000 in
theorem metX0_cart (l : Launch) (D : va_G) (dA : Nat → ClassId) (A : Nat → Prop) (e0 h : Nat) (G : xG) (T : va_W) (F : Nat → Int32) (Rr : Nat → Nat → Int32) (p1 : Int32) (p2 : Int32) : Met l yX0_cart (wsW_ yX0_cart cX0_cart 5 (some .int) [(27, 77, 111, 81), (78, 110, 111, 81)]) ({ frames := 7, cells := 2, slots := 264, locals := 191 } : Room) (va_Pc [.ref h, .int p1, .int p2] (xPre D dA A e0 h G T F Rr)) (va_Qi (fun r u => (r, u) = x_cart F Rr p1 p2) (xB D dA A e0 h G T) A) 2 264 A := by
  refine va_MetW (cc := cX0_cart) (maxL := 5) (ret := (some .int)) (by decide) rfl ?_
  intro p e s m args below meth c s₁ B hml hv
  obtain ⟨rfl, hC, hP, hD, hI⟩ := hv
  have hx := B.exec
  have hb := B.bytes
  have hr := B.returns
  have hts := atoms_spec (ws := (wsW_ yX0_cart cX0_cart 5 (some .int) [(27, 77, 111, 81), (78, 110, 111, 81)])) B.pre
  have hts : ∀ w ∈ lw_all, w.before _ s = true := fun w h => hts w (List.mem_cons_of_mem _ h)
  have hown : s.vm.findClass RX0 = some m.cls := findClass_of_methodNamed B.named
  have hlocks := B.notSynchronized
  have S : CallFix p m c cX0_cart 5 s ([.ref h, .int p1, .int p2] : List Value).toArray lw_all RX0 := ⟨hx, hb, hml, hown, hts⟩
  have X : xX RX0 p s m ([.ref h, .int p1, .int p2] : List Value).toArray c cX0_cart 5 D dA A e0 := ⟨S, hC⟩
  have M : xM D dA A e0 h G T s F Rr s.heap [] := ⟨hP, hD, va_S.rf, hI⟩
  have hl := lv_entry ([.ref h, .int p1, .int p2]) (n := 5) (Nat.le_of_ble_eq_true rfl)
  rw [lg_entry_eq]
  generalize (lg_sl ([.ref h, .int p1, .int p2]) ++ List.replicate (5 - (lg_sl ([.ref h, .int p1, .int p2])).length) Slot.unset).toArray = ls at hl ⊢
  have hl : lv_has ls 5 [(0, .ref h), (1, .int p1), (2, .int p2)] := hl
  have h10 : cnB (F 10) 16 := hI.2.1.1
  obtain ⟨n10, hn10, en10⟩ := cnB_ex h10 (n := 16) rfl
  have em10 : (F 10).toNatClampNeg = n10 := by rw [en10]; exact nI_clamp (by omega)
  have ec10 : (nI n10).toNatClampNeg = n10 := nI_clamp (by omega)
  have htab := vx_table (x := yX0_cart) B (hts _ q842)
  refine lv_iload_n hx hb dX0_cart_0 rfl (lv_at hl 1 rfl) ?_
  refine s_cI (v := b2i (inB 0 7 p1)) (As := [.int p1]) (rest := []) S (metX0_isSheet l p1) (va_cwS 1 hts (lw_S q226 q227 q57 q228) rfl rfl rfl (by decide +kernel) ⟨Nat.le_of_ble_eq_true rfl, Nat.le_of_ble_eq_true rfl⟩) rfl hl.1 rfl (Nat.le_of_ble_eq_true rfl) dX0_cart_1 ⟨Nat.le_of_ble_eq_true rfl, Nat.le_of_ble_eq_true rfl⟩ ?_
  refine lz_if_ne (tgt := 10) hx hb dX0_cart_4 (by decide) (fun c_1 => ?_) (fun c_1 => ?_)
  · -- c_1: inB 0 7 p1 = true
    obtain ⟨k1, hk1, rfl⟩ := inB_ex c_1 (n := 7) rfl
    have ek1 : (nI k1).toNatClampNeg = k1 := nI_clamp (by omega)
    refine lv_aload_n hx hb dX0_cart_10 rfl (lv_at hl 0 rfl) ?_
    refine xg_10 X M dX0_cart_11 ?_
    refine xl_size_10 X M (v := F 10) rfl hl.1 ⟨Nat.le_of_ble_eq_true rfl, Nat.le_of_ble_eq_true rfl⟩ ⟨Nat.le_of_ble_eq_true rfl, Nat.le_of_ble_eq_true rfl⟩ (Nat.le_of_ble_eq_true rfl) dX0_cart_14 ?_
    refine lv_asi (y := nI n10) en10 ?_
    refine lv_bipush (v := 16) hx hb dX0_cart_19 (by decide) ?_
    refine lv_icmp_ne (tgt := 27) hx hb dX0_cart_21 (by decide) (fun c_2 => ?_) (fun c_2 => ?_)
    · -- c_2: nI n10 ≠ 16
      have hf10 : ¬ F 10 = 16 := by rw [en10]; exact c_2
      have hN10 : n10 < 16 := nI_lt_ne (N := 16) c_2 (by omega)
      refine lv_aload_n hx hb dX0_cart_27 rfl (lv_at hl 0 rfl) ?_
      refine lv_iload_n hx hb dX0_cart_28 rfl (lv_at hl 1 rfl) ?_
      rcases hy_3 : g_rs G k1 with _ | y_4
      · -- a sheet there: False
        have h0_5 : Rr 0 k1 = -1 := x_nosheet M (by omega) hy_3
        refine x_thrownW M (vx_runV (As := [.int (nI k1)]) (rest := []) X.1 (metX0_sheetAt_f l D dA A e0 h G T F Rr k1 (by omega) hy_3) (cwV 1 hts (lw_V q331 q333 qs3 q57 q334) rfl rfl rfl (by decide +kernel) ⟨Nat.le_of_ble_eq_true rfl, Nat.le_of_ble_eq_true rfl⟩) ⟨xPre_blind, x_recv X M, fun U hU hW => ⟨rfl, x_pre X M hU hW⟩⟩ rfl rfl hl.1 rfl (lv_room (Nat.le_of_ble_eq_true rfl)) dX0_cart_29 ⟨Nat.le_of_ble_eq_true rfl, Nat.le_of_ble_eq_true rfl⟩) (fun q9 ce9 H locs M hce9 hcv9 hcl9 => ?_)
        refine x_catch X htab [] { startPc := 27, endPc := 77, handlerPc := 111, catchType := 81 } [{ startPc := 78, endPc := 110, handlerPc := 111, catchType := 81 }] rfl (fun z9 hz9 => by cases hz9) (by decide) (by decide) (X.hts _ q225) hce9 hcv9 hcl9 ?_
        refine W.eq (g2 := F0 m 111 ls [.ref q9]) rfl ?_
        refine W.widen (k := 1) (n := 7) (Nat.le_of_ble_eq_true rfl) (Nat.le_of_ble_eq_true rfl) ?_
        refine lv_astore_n (lv' := [(3, .ref q9), (0, .ref h), (1, .int (nI k1)), (2, .int p2)]) hx hb dX0_cart_111 rfl hl (by decide) rfl (fun ls hl => ?_)
        refine lv_aload_n hx hb dX0_cart_112 rfl (lv_at hl 1 rfl) ?_
        refine lv_aload_n hx hb dX0_cart_113 rfl (lv_at hl 0 rfl) ?_
        refine x_cU0 (As := [.ref q9]) (rest := []) X M (metX0_found l D dA A e0 h G T F Rr q9 1) (cwV 1 hts (lw_V q322 q324 qs2 q57 q325) rfl rfl rfl (by decide +kernel) ⟨Nat.le_of_ble_eq_true rfl, Nat.le_of_ble_eq_true rfl⟩) rfl hl.1 rfl (Nat.le_of_ble_eq_true rfl) dX0_cart_114 ⟨Nat.le_of_ble_eq_true rfl, Nat.le_of_ble_eq_true rfl⟩ (fun r9 F9 R9 hr9 H locs M => ?_)
        obtain ⟨e91, e92, e93⟩ : r9 = (-1000010) - 1 ∧ F9 = va_up F 23 1 ∧ R9 = Rr := ⟨congrArg Prod.fst hr9, congrArg (fun z => z.2.1) hr9, congrArg (fun z => z.2.2) hr9⟩
        rw [e92, e93] at M; rw [e91]
        clear hr9
        have M := xM_drop M
        refine W.widen (k := 2) (n := 264) (Nat.le_of_ble_eq_true rfl) (Nat.le_of_ble_eq_true rfl) ?_
        exact W.iret (v := (-1000010) - 1) hx hb hr (fun t9 ht9 hW9 => ⟨⟨_, (va_up F 23 1, Rr), rfl, (by simp [x_cart, x_fnd, em10, ec10, c_1, ek1, c_2, hf10, h0_5]), ⟨G, (xext.rf _), by rw [ht9]; exact M.1, M.2.1, M.2.2.2⟩⟩, M.2.2.1.F ht9⟩) M.2.2.1.2.2 dX0_cart_117
      · -- a sheet there: True
        refine va_csq (W.runV (As := [.int (nI k1)]) (rest := []) X.1 (metX0_sheetAt_t l D dA A e0 h G T F Rr k1 y_4 (by omega) hy_3) (cwV 1 hts (lw_V q331 q333 qs3 q57 q334) rfl rfl rfl (by decide +kernel) ⟨Nat.le_of_ble_eq_true rfl, Nat.le_of_ble_eq_true rfl⟩) ⟨xPre_blind, x_recv X M, fun U hU hW => ⟨rfl, x_pre X M hU hW⟩⟩ rfl rfl hl.1 rfl (lv_room (Nat.le_of_ble_eq_true rfl)) dX0_cart_29 ⟨Nat.le_of_ble_eq_true rfl, Nat.le_of_ble_eq_true rfl⟩) (fun r9 hr9 => ?_)
        subst hr9
        obtain ⟨z_6, n_7, hs_8⟩ := x_sheet M (show k1 < 8 by omega) hy_3
        have h6hs_8 := hs_8.2.2.2.2.2
        have e2hs_8 := hs_8.2.2.2.2.1
        have nehs_8 := hs_8.ne
        have ecn_7 : (nI n_7).toNatClampNeg = n_7 := nI_clamp (by omega)
        refine lv_iload_n hx hb dX0_cart_32 rfl (lv_at hl 2 rfl) ?_
        refine lv_bipush (v := 9) hx hb dX0_cart_33 (by decide) ?_
        by_cases c_9 : x_rowOk p2 9 (nI n_7) = true
        · -- the row is in: True
          obtain ⟨i_10, hi_10, rfl⟩ := x_rowOk_ex (n := 9) c_9 (by omega) (by omega)
          have ei_10 : (nI i_10).toNatClampNeg = i_10 := nI_clamp (by omega)
          refine x_rowT (k := k1) (kk := i_10) (n := 9) X M hs_8 (by omega) (cwV 2 hts (lw_V q843 q844 q845 q66 q846) rfl rfl rfl (by decide +kernel) ⟨Nat.le_of_ble_eq_true rfl, Nat.le_of_ble_eq_true rfl⟩) hl.1 (Nat.le_of_ble_eq_true rfl) dX0_cart_35 ⟨Nat.le_of_ble_eq_true rfl, Nat.le_of_ble_eq_true rfl⟩ (fun r_11 H locs M => ?_)
          refine W.widen (k := 1) (n := 64) (Nat.le_of_ble_eq_true rfl) (Nat.le_of_ble_eq_true rfl) ?_
          refine lv_astore_n (lv' := [(3, .ref r_11), (0, .ref h), (1, .int (nI k1)), (2, .int (nI i_10))]) hx hb dX0_cart_38 rfl hl (by decide) rfl (fun ls hl => ?_)
          refine lv_iconst (v := 0) hx hb dX0_cart_39 (by decide) ?_
          refine lv_istore (lv' := [(4, .int 0), (3, .ref r_11), (0, .ref h), (1, .int (nI k1)), (2, .int (nI i_10))]) hx hb dX0_cart_40 hl (by decide) rfl (fun ls hl => ?_)
          have L_12 : ∀ (fuL_12 : Nat) (j : Nat), (j ≤ 9) → (∀ t, t < j → (x_cartBad (x_rowOf Rr k1 i_10 9)) t = false) → 9 - j < fuL_12 → ∀ (H : Heap) (locs : List Loc), xM D dA A e0 h G (T ++ [(r_11, .inl (dA 0, 9, .inl (x_rowOf Rr k1 i_10 9)))]) s F Rr H locs → ∀ ls, lv_has ls 5 [(0, .ref h), (1, .int (nI k1)), (2, .int (nI i_10)), (3, .ref r_11), (4, .int (nI j))] → W p l e ({ frames := 7, cells := 2, slots := 264, locals := 191 } : Room) s m ([.ref h, .int (nI k1), .int (nI i_10)] : List Value).toArray below meth c H locs 1 64 (MQ below (va_Qi (fun r u => (r, u) = x_cart F Rr (nI k1) (nI i_10)) (xB D dA A e0 h G T) A) ([.ref h, .int (nI k1), .int (nI i_10)] : List Value).toArray s 2 264 A) (F0 m 42 ls []) := by
            intro fuL_12
            induction fuL_12 with
            | zero => intro j hj hno hfuL_12; exact absurd hfuL_12 (Nat.not_lt_zero _)
            | succ fuL_12 L_12ih =>
              intro j hj hno hfuL_12 H locs M ls hl
              refine lv_iload hx hb dX0_cart_42 (lv_at hl 4 rfl) ?_
              refine lv_aload_n hx hb dX0_cart_44 rfl (lv_at hl 3 rfl) ?_
              refine va_alen (v := nI 9) X.hx X.hb X.K M.1 (21 + (T.length + 0)) 0 (xT_k (T := T) (j := 0) rfl) rfl rfl dX0_cart_45 ?_
              refine ln_icmp_ge (tgt := 84) hx hb (a := j) (b := 9) (by omega) (by omega) dX0_cart_46 (by decide) (fun c_13 => ?_) (fun c_13 => ?_)
              · -- c_13: nI j ≥ 9
                have hall : x_any (x_cartBad (x_rowOf Rr k1 i_10 9)) 9 = false := x_any_f 9 (fun t ht => hno t (by omega))
                refine lv_aload_n hx hb dX0_cart_84 rfl (lv_at hl 0 rfl) ?_
                refine xg_10 X M dX0_cart_85 ?_
                refine lv_aload_n hx hb dX0_cart_88 rfl (lv_at hl 3 rfl) ?_
                refine xl_addT_10 (n := n10) X M en10 (by omega) hl.1 ⟨Nat.le_of_ble_eq_true rfl, Nat.le_of_ble_eq_true rfl⟩ ⟨Nat.le_of_ble_eq_true rfl, Nat.le_of_ble_eq_true rfl⟩ (Nat.le_of_ble_eq_true rfl) dX0_cart_89 (fun G_14 H locs hxG_14 M => ?_)
                have M : xM D dA A e0 h G_14 T s (va_up F 10 (nI (n10 + 1))) (xcart Rr n10 (x_rowOf Rr k1 i_10 9)) H locs := M
                refine W.widen (k := 2) (n := 264) (Nat.le_of_ble_eq_true rfl) (Nat.le_of_ble_eq_true rfl) ?_
                refine lv_pop hx hb dX0_cart_94 rfl ?_
                refine lv_aload_n hx hb dX0_cart_95 rfl (lv_at hl 0 rfl) ?_
                refine lv_aload_n hx hb dX0_cart_96 rfl (lv_at hl 0 rfl) ?_
                refine xg_10 X M dX0_cart_97 ?_
                refine xl_size_10 X M (v := nI (n10 + 1)) rfl hl.1 ⟨Nat.le_of_ble_eq_true rfl, Nat.le_of_ble_eq_true rfl⟩ ⟨Nat.le_of_ble_eq_true rfl, Nat.le_of_ble_eq_true rfl⟩ (Nat.le_of_ble_eq_true rfl) dX0_cart_100 ?_
                refine lv_iconst (v := 1) hx hb dX0_cart_105 (by decide) ?_
                refine lv_isub hx hb dX0_cart_106 ?_
                refine lv_asi (y := nI n10) (nI_pred _) ?_
                refine x_cU0 (As := [.int (nI n10)]) (rest := []) X M (metX0_well l D dA A e0 h G_14 T (va_up F 10 (nI (n10 + 1))) (xcart Rr n10 (x_rowOf Rr k1 i_10 9)) (nI n10)) (cwV 1 hts (lw_V q318 q320 qs1 q57 q321) rfl rfl rfl (by decide +kernel) ⟨Nat.le_of_ble_eq_true rfl, Nat.le_of_ble_eq_true rfl⟩) rfl hl.1 rfl (Nat.le_of_ble_eq_true rfl) dX0_cart_107 ⟨Nat.le_of_ble_eq_true rfl, Nat.le_of_ble_eq_true rfl⟩ (fun r9 F9 R9 hr9 H locs M => ?_)
                obtain ⟨e91, e92, e93⟩ : r9 = nI n10 ∧ F9 = va_up (va_up F 10 (nI (n10 + 1))) 23 0 ∧ R9 = xcart Rr n10 (x_rowOf Rr k1 i_10 9) := ⟨congrArg Prod.fst hr9, congrArg (fun z => z.2.1) hr9, congrArg (fun z => z.2.2) hr9⟩
                rw [e92, e93] at M; rw [e91]
                clear hr9
                exact W.iret (v := nI n10) hx hb hr (fun t9 ht9 hW9 => ⟨⟨_, (va_up (va_up F 10 (nI (n10 + 1))) 23 0, xcart Rr n10 (x_rowOf Rr k1 i_10 9)), rfl, (by simp [x_cart, x_fnd, em10, ec10, c_1, ek1, c_2, hf10, e2hs_8, nehs_8, ecn_7, c_9, ei_10, c_13, hall]), ⟨G_14, ((xext.rf _).tr hxG_14), by rw [ht9]; exact M.1, M.2.1, M.2.2.2⟩⟩, M.2.2.1.F ht9⟩) M.2.2.1.2.2 dX0_cart_110
              · -- c_13: nI j < 9
                refine lv_aload_n hx hb dX0_cart_49 rfl (lv_at hl 3 rfl) ?_
                refine lv_iload hx hb dX0_cart_50 (lv_at hl 4 rfl) ?_
                refine g_iald (n := 9) (f := (x_rowOf Rr k1 i_10 9)) (j := j) X M.1 (21 + (T.length + 0)) 0 (xT_k (T := T) (j := 0) rfl) rfl (vp_in_nI (by omega) (by omega)) (nI_clamp (by omega)) dX0_cart_52 ?_
                refine lv_i2l (v := ((x_rowOf Rr k1 i_10 9) j).toInt64) hx hb dX0_cart_53 rfl ?_
                refine lv_lconst (v := 0) hx hb dX0_cart_54 (by decide) ?_
                refine lv_iload hx hb dX0_cart_55 (lv_at hl 4 rfl) ?_
                refine lv_if_ne (tgt := 66) hx hb dX0_cart_57 (by decide) (fun c_15 => ?_) (fun c_15 => ?_)
                · -- c_15: nI j ≠ 0
                  have hj0 : ¬ j = 0 := fun q => c_15 (by rw [q]; rfl)
                  refine lv_ldc2 (v := 99) hx hb hown (hts _ q850) dX0_cart_66 ?_
                  refine s_cI (v := b2i (inB 0 99 ((x_rowOf Rr k1 i_10 9) j))) (As := [.long (((x_rowOf Rr k1 i_10 9) j).toInt64), .long 0, .long 99]) (rest := []) S (metX0_isInI l ((x_rowOf Rr k1 i_10 9) j) 0 99 (((x_rowOf Rr k1 i_10 9) j).toInt64) 0 99 rfl rfl rfl) (va_cwS 3 hts (lw_S q230 q231 q57 q232) rfl rfl rfl (by decide +kernel) ⟨Nat.le_of_ble_eq_true rfl, Nat.le_of_ble_eq_true rfl⟩) rfl hl.1 rfl (Nat.le_of_ble_eq_true rfl) dX0_cart_69 ⟨Nat.le_of_ble_eq_true rfl, Nat.le_of_ble_eq_true rfl⟩ ?_
                  refine lz_if_ne (tgt := 78) hx hb dX0_cart_72 (by decide) (fun c_16 => ?_) (fun c_16 => ?_)
                  · -- c_16: inB 0 99 ((x_rowOf Rr k1 i_10 9) j) = true
                    refine lv_iinc (v := nI (j + 1)) (lv' := [(4, .int (nI (j + 1))), (0, .ref h), (1, .int (nI k1)), (2, .int (nI i_10)), (3, .ref r_11)]) hx hb dX0_cart_78 hl (k := 4) rfl (mk_inc _) (by decide) rfl (fun ls hl => ?_)
                    refine lv_goto (tgt := 42) hx hb dX0_cart_81 (by decide) ?_
                    exact L_12ih  (j + 1) (by omega) (all_succF hno (by unfold x_cartBad; first | (rw [if_pos hj0, c_16]; rfl) | (rw [if_neg hj0, c_16]; rfl))) (by omega) _ _ M ls (lv_sub hl [1, 2, 3, 4, 0] rfl)
                  · -- c_16: inB 0 99 ((x_rowOf Rr k1 i_10 9) j) = false
                    refine lv_ldc (v := (-1000001)) hx hb hown (hts _ q234) dX0_cart_75 ?_
                    have M := xM_drop M
                    refine W.widen (k := 2) (n := 264) (Nat.le_of_ble_eq_true rfl) (Nat.le_of_ble_eq_true rfl) ?_
                    exact W.iret (v := (-1000001)) hx hb hr (fun t9 ht9 hW9 => ⟨⟨_, (F, Rr), rfl, (by have hany : x_any (x_cartBad (x_rowOf Rr k1 i_10 9)) 9 = true := x_any_t (k := j) (by unfold x_cartBad; first | (rw [if_pos hj0, c_16]; rfl) | (rw [if_neg hj0, c_16]; rfl)) 9 (by omega); simp [x_cart, x_fnd, hany, em10, ec10, c_1, ek1, c_2, hf10, e2hs_8, nehs_8, ecn_7, c_9, ei_10, c_13, c_15, hj0, c_16]), ⟨G, (xext.rf _), by rw [ht9]; exact M.1, M.2.1, M.2.2.2⟩⟩, M.2.2.1.F ht9⟩) M.2.2.1.2.2 dX0_cart_77
                · -- c_15: nI j = 0
                  have hj0 : j = 0 := nI_inj (b := 0) c_15 (by omega) (by omega)
                  refine lv_ldc2 (v := 4) hx hb hown (hts _ q849) dX0_cart_60 ?_
                  refine lv_goto (tgt := 69) hx hb dX0_cart_63 (by decide) ?_
                  refine s_cI (v := b2i (inB 0 4 ((x_rowOf Rr k1 i_10 9) j))) (As := [.long (((x_rowOf Rr k1 i_10 9) j).toInt64), .long 0, .long 4]) (rest := []) S (metX0_isInI l ((x_rowOf Rr k1 i_10 9) j) 0 4 (((x_rowOf Rr k1 i_10 9) j).toInt64) 0 4 rfl rfl rfl) (va_cwS 3 hts (lw_S q230 q231 q57 q232) rfl rfl rfl (by decide +kernel) ⟨Nat.le_of_ble_eq_true rfl, Nat.le_of_ble_eq_true rfl⟩) rfl hl.1 rfl (Nat.le_of_ble_eq_true rfl) dX0_cart_69 ⟨Nat.le_of_ble_eq_true rfl, Nat.le_of_ble_eq_true rfl⟩ ?_
                  refine lz_if_ne (tgt := 78) hx hb dX0_cart_72 (by decide) (fun c_17 => ?_) (fun c_17 => ?_)
                  · -- c_17: inB 0 4 ((x_rowOf Rr k1 i_10 9) j) = true
                    refine lv_iinc (v := nI (j + 1)) (lv' := [(4, .int (nI (j + 1))), (0, .ref h), (1, .int (nI k1)), (2, .int (nI i_10)), (3, .ref r_11)]) hx hb dX0_cart_78 hl (k := 4) rfl (mk_inc _) (by decide) rfl (fun ls hl => ?_)
                    refine lv_goto (tgt := 42) hx hb dX0_cart_81 (by decide) ?_
                    exact L_12ih  (j + 1) (by omega) (all_succF hno (by unfold x_cartBad; first | (rw [if_pos hj0, c_17]; rfl) | (rw [if_neg hj0, c_17]; rfl))) (by omega) _ _ M ls (lv_sub hl [1, 2, 3, 4, 0] rfl)
                  · -- c_17: inB 0 4 ((x_rowOf Rr k1 i_10 9) j) = false
                    refine lv_ldc (v := (-1000001)) hx hb hown (hts _ q234) dX0_cart_75 ?_
                    have M := xM_drop M
                    refine W.widen (k := 2) (n := 264) (Nat.le_of_ble_eq_true rfl) (Nat.le_of_ble_eq_true rfl) ?_
                    exact W.iret (v := (-1000001)) hx hb hr (fun t9 ht9 hW9 => ⟨⟨_, (F, Rr), rfl, (by have hany : x_any (x_cartBad (x_rowOf Rr k1 i_10 9)) 9 = true := x_any_t (k := j) (by unfold x_cartBad; first | (rw [if_pos hj0, c_17]; rfl) | (rw [if_neg hj0, c_17]; rfl)) 9 (by omega); simp [x_cart, x_fnd, hany, em10, ec10, c_1, ek1, c_2, hf10, e2hs_8, nehs_8, ecn_7, c_9, ei_10, c_13, c_15, hj0, c_17]), ⟨G, (xext.rf _), by rw [ht9]; exact M.1, M.2.1, M.2.2.2⟩⟩, M.2.2.1.F ht9⟩) M.2.2.1.2.2 dX0_cart_77
          exact L_12 ((9 - 0) + 1) 0 (by omega) (fun t ht => absurd ht (Nat.not_lt_zero t)) (Nat.lt_succ_self _) _ _ M ls (lv_sub hl [2, 3, 4, 1, 0] rfl)
        · -- the row is in: False
          have c_9 : x_rowOk p2 9 (nI n_7) = false := Bool.eq_false_iff.mpr c_9
          obtain ⟨g_19, g_18, hg_19, hg_18, -⟩ := xsht_two M hs_8
          refine x_thrown X M (vx_runV (As := [.int p2, .int 9]) (rest := []) X.1 (metX4_row_f l D dA (va_A [] _) e0 y_4 (Rr 0 k1) z_6 n_7 (Rr (30 + k1)) p2 9 (x_rowOk_n c_9)) (cwV 2 hts (lw_V q843 q844 q845 q66 q846) rfl rfl rfl (by decide +kernel) ⟨Nat.le_of_ble_eq_true rfl, Nat.le_of_ble_eq_true rfl⟩) ⟨gPre_blind, va_recv (cl := xCl) X.K M.1 (ci := 4) rfl hg_19, fun U hU hW => ⟨rfl, X.Cn M.2.2.1 (x_F0 X M.2.2.1) hU hW, by rw [hU]; exact va_P2 (M.1 _ _ hg_19) (M.1 _ _ hg_18)⟩⟩ rfl rfl hl.1 rfl (lv_room (Nat.le_of_ble_eq_true rfl)) dX0_cart_35 ⟨Nat.le_of_ble_eq_true rfl, Nat.le_of_ble_eq_true rfl⟩) (fun q9 ce9 H locs M hce9 hcv9 hcl9 => ?_)
          refine x_catch X htab [] { startPc := 27, endPc := 77, handlerPc := 111, catchType := 81 } [{ startPc := 78, endPc := 110, handlerPc := 111, catchType := 81 }] rfl (fun z9 hz9 => by cases hz9) (by decide) (by decide) (X.hts _ q225) hce9 hcv9 hcl9 ?_
          refine W.eq (g2 := F0 m 111 ls [.ref q9]) rfl ?_
          refine W.widen (k := 1) (n := 7) (Nat.le_of_ble_eq_true rfl) (Nat.le_of_ble_eq_true rfl) ?_
          refine lv_astore_n (lv' := [(3, .ref q9), (0, .ref h), (1, .int (nI k1)), (2, .int p2)]) hx hb dX0_cart_111 rfl hl (by decide) rfl (fun ls hl => ?_)
          refine lv_aload_n hx hb dX0_cart_112 rfl (lv_at hl 1 rfl) ?_
          refine lv_aload_n hx hb dX0_cart_113 rfl (lv_at hl 0 rfl) ?_
          refine x_cU0 (As := [.ref q9]) (rest := []) X M (metX0_found l D dA A e0 h G T F Rr q9 2) (cwV 1 hts (lw_V q322 q324 qs2 q57 q325) rfl rfl rfl (by decide +kernel) ⟨Nat.le_of_ble_eq_true rfl, Nat.le_of_ble_eq_true rfl⟩) rfl hl.1 rfl (Nat.le_of_ble_eq_true rfl) dX0_cart_114 ⟨Nat.le_of_ble_eq_true rfl, Nat.le_of_ble_eq_true rfl⟩ (fun r9 F9 R9 hr9 H locs M => ?_)
          obtain ⟨e91, e92, e93⟩ : r9 = (-1000010) - 2 ∧ F9 = va_up F 23 2 ∧ R9 = Rr := ⟨congrArg Prod.fst hr9, congrArg (fun z => z.2.1) hr9, congrArg (fun z => z.2.2) hr9⟩
          rw [e92, e93] at M; rw [e91]
          clear hr9
          have M := xM_drop M
          refine W.widen (k := 2) (n := 264) (Nat.le_of_ble_eq_true rfl) (Nat.le_of_ble_eq_true rfl) ?_
          exact W.iret (v := (-1000010) - 2) hx hb hr (fun t9 ht9 hW9 => ⟨⟨_, (va_up F 23 2, Rr), rfl, (by simp [x_cart, x_fnd, em10, ec10, c_1, ek1, c_2, hf10, e2hs_8, nehs_8, ecn_7, c_9]), ⟨G, (xext.rf _), by rw [ht9]; exact M.1, M.2.1, M.2.2.2⟩⟩, M.2.2.1.F ht9⟩) M.2.2.1.2.2 dX0_cart_117
    · -- c_2: nI n10 = 16
      have hf10 : F 10 = 16 := by rw [en10]; exact c_2
      refine lv_ldc (v := (-1000003)) hx hb hown (hts _ q410) dX0_cart_24 ?_
      refine W.widen (k := 2) (n := 264) (Nat.le_of_ble_eq_true rfl) (Nat.le_of_ble_eq_true rfl) ?_
      exact W.iret (v := (-1000003)) hx hb hr (fun t9 ht9 hW9 => ⟨⟨_, (F, Rr), rfl, (by simp [x_cart, x_fnd, em10, ec10, c_1, ek1, c_2, hf10]), ⟨G, (xext.rf _), by rw [ht9]; exact M.1, M.2.1, M.2.2.2⟩⟩, M.2.2.1.F ht9⟩) M.2.2.1.2.2 dX0_cart_26
  · -- c_1: inB 0 7 p1 = false
    refine lv_ldc (v := (-1000001)) hx hb hown (hts _ q234) dX0_cart_7 ?_
    refine W.widen (k := 2) (n := 264) (Nat.le_of_ble_eq_true rfl) (Nat.le_of_ble_eq_true rfl) ?_
    exact W.iret (v := (-1000001)) hx hb hr (fun t9 ht9 hW9 => ⟨⟨_, (F, Rr), rfl, (by simp [x_cart, x_fnd, em10, ec10, c_1]), ⟨G, (xext.rf _), by rw [ht9]; exact M.1, M.2.1, M.2.2.2⟩⟩, M.2.2.1.F ht9⟩) M.2.2.1.2.2 dX0_cart_9

set_option maxHeartbeats 4000000 in
set_option maxRecDepth 100000 in
theorem metX0_seal (l : Launch) (D : va_G) (dA : Nat → ClassId) (A : Nat → Prop) (e0 h : Nat) (G : xG) (T : va_W) (F : Nat → Int32) (Rr : Nat → Nat → Int32) (p1 : Int32) (p2 : Int32) : Met l yX0_seal (wsW_ yX0_seal cX0_seal 4 (some .int) [(27, 48, 136, 81), (49, 135, 136, 81)]) ({ frames := 7, cells := 3, slots := 271, locals := 191 } : Room) (va_Pc [.ref h, .int p1, .int p2] (xPre D dA A e0 h G T F Rr)) (va_Qi (fun r u => (r, u) = x_seal F Rr p1 p2) (xB D dA A e0 h G T) A) 3 271 A := by
  refine va_MetW (cc := cX0_seal) (maxL := 4) (ret := (some .int)) (by decide) rfl ?_
  intro p e s m args below meth c s₁ B hml hv
  obtain ⟨rfl, hC, hP, hD, hI⟩ := hv
  have hx := B.exec
  have hb := B.bytes
  have hr := B.returns
  have hts := atoms_spec (ws := (wsW_ yX0_seal cX0_seal 4 (some .int) [(27, 48, 136, 81), (49, 135, 136, 81)])) B.pre
  have hts : ∀ w ∈ lw_all, w.before _ s = true := fun w h => hts w (List.mem_cons_of_mem _ h)
  have hown : s.vm.findClass RX0 = some m.cls := findClass_of_methodNamed B.named
  have hlocks := B.notSynchronized
  have S : CallFix p m c cX0_seal 4 s ([.ref h, .int p1, .int p2] : List Value).toArray lw_all RX0 := ⟨hx, hb, hml, hown, hts⟩
  have X : xX RX0 p s m ([.ref h, .int p1, .int p2] : List Value).toArray c cX0_seal 4 D dA A e0 := ⟨S, hC⟩
  have M : xM D dA A e0 h G T s F Rr s.heap [] := ⟨hP, hD, va_S.rf, hI⟩
  have hl := lv_entry ([.ref h, .int p1, .int p2]) (n := 4) (Nat.le_of_ble_eq_true rfl)
  rw [lg_entry_eq]
  generalize (lg_sl ([.ref h, .int p1, .int p2]) ++ List.replicate (4 - (lg_sl ([.ref h, .int p1, .int p2])).length) Slot.unset).toArray = ls at hl ⊢
  have hl : lv_has ls 4 [(0, .ref h), (1, .int p1), (2, .int p2)] := hl
  have h14 : cnB (F 14) 16 := hI.2.2.2.2.1.1
  obtain ⟨n14, hn14, en14⟩ := cnB_ex h14 (n := 16) rfl
  have em14 : (F 14).toNatClampNeg = n14 := by rw [en14]; exact nI_clamp (by omega)
  have ec14 : (nI n14).toNatClampNeg = n14 := nI_clamp (by omega)
  have htab := vx_table (x := yX0_seal) B (hts _ q1070)
  refine lv_iload_n hx hb dX0_seal_0 rfl (lv_at hl 1 rfl) ?_
  refine s_cI (v := b2i (inB 0 7 p1)) (As := [.int p1]) (rest := []) S (metX0_isSheet l p1) (va_cwS 1 hts (lw_S q226 q227 q57 q228) rfl rfl rfl (by decide +kernel) ⟨Nat.le_of_ble_eq_true rfl, Nat.le_of_ble_eq_true rfl⟩) rfl hl.1 rfl (Nat.le_of_ble_eq_true rfl) dX0_seal_1 ⟨Nat.le_of_ble_eq_true rfl, Nat.le_of_ble_eq_true rfl⟩ ?_
  refine lz_if_ne (tgt := 10) hx hb dX0_seal_4 (by decide) (fun c_1 => ?_) (fun c_1 => ?_)
  · -- c_1: inB 0 7 p1 = true
    obtain ⟨k1, hk1, rfl⟩ := inB_ex c_1 (n := 7) rfl
    have ek1 : (nI k1).toNatClampNeg = k1 := nI_clamp (by omega)
    refine lv_aload_n hx hb dX0_seal_10 rfl (lv_at hl 0 rfl) ?_
    refine xg_14 X M dX0_seal_11 ?_
    refine xl_size_14 X M (v := F 14) rfl hl.1 ⟨Nat.le_of_ble_eq_true rfl, Nat.le_of_ble_eq_true rfl⟩ ⟨Nat.le_of_ble_eq_true rfl, Nat.le_of_ble_eq_true rfl⟩ (Nat.le_of_ble_eq_true rfl) dX0_seal_14 ?_
    refine lv_asi (y := nI n14) en14 ?_
    refine lv_bipush (v := 16) hx hb dX0_seal_19 (by decide) ?_
    refine lv_icmp_ne (tgt := 27) hx hb dX0_seal_21 (by decide) (fun c_2 => ?_) (fun c_2 => ?_)
    · -- c_2: nI n14 ≠ 16
      have hf14 : ¬ F 14 = 16 := by rw [en14]; exact c_2
      have hN14 : n14 < 16 := nI_lt_ne (N := 16) c_2 (by omega)
      refine lv_aload_n hx hb dX0_seal_27 rfl (lv_at hl 0 rfl) ?_
      refine lv_iload_n hx hb dX0_seal_28 rfl (lv_at hl 1 rfl) ?_
      rcases hy_3 : g_rs G k1 with _ | y_4
      · -- a sheet there: False
        have h0_5 : Rr 0 k1 = -1 := x_nosheet M (by omega) hy_3
        refine x_thrownW M (vx_runV (As := [.int (nI k1)]) (rest := []) X.1 (metX0_sheetAt_f l D dA A e0 h G T F Rr k1 (by omega) hy_3) (cwV 1 hts (lw_V q331 q333 qs3 q57 q334) rfl rfl rfl (by decide +kernel) ⟨Nat.le_of_ble_eq_true rfl, Nat.le_of_ble_eq_true rfl⟩) ⟨xPre_blind, x_recv X M, fun U hU hW => ⟨rfl, x_pre X M hU hW⟩⟩ rfl rfl hl.1 rfl (lv_room (Nat.le_of_ble_eq_true rfl)) dX0_seal_29 ⟨Nat.le_of_ble_eq_true rfl, Nat.le_of_ble_eq_true rfl⟩) (fun q9 ce9 H locs M hce9 hcv9 hcl9 => ?_)
        refine x_catch X htab [] { startPc := 27, endPc := 48, handlerPc := 136, catchType := 81 } [{ startPc := 49, endPc := 135, handlerPc := 136, catchType := 81 }] rfl (fun z9 hz9 => by cases hz9) (by decide) (by decide) (X.hts _ q225) hce9 hcv9 hcl9 ?_
        refine W.eq (g2 := F0 m 136 ls [.ref q9]) rfl ?_
        refine W.widen (k := 1) (n := 7) (Nat.le_of_ble_eq_true rfl) (Nat.le_of_ble_eq_true rfl) ?_
        refine lv_astore_n (lv' := [(3, .ref q9), (0, .ref h), (1, .int (nI k1)), (2, .int p2)]) hx hb dX0_seal_136 rfl hl (by decide) rfl (fun ls hl => ?_)
        refine lv_aload_n hx hb dX0_seal_137 rfl (lv_at hl 1 rfl) ?_
        refine lv_aload_n hx hb dX0_seal_138 rfl (lv_at hl 0 rfl) ?_
        refine x_cU0 (As := [.ref q9]) (rest := []) X M (metX0_found l D dA A e0 h G T F Rr q9 1) (cwV 1 hts (lw_V q322 q324 qs2 q57 q325) rfl rfl rfl (by decide +kernel) ⟨Nat.le_of_ble_eq_true rfl, Nat.le_of_ble_eq_true rfl⟩) rfl hl.1 rfl (Nat.le_of_ble_eq_true rfl) dX0_seal_139 ⟨Nat.le_of_ble_eq_true rfl, Nat.le_of_ble_eq_true rfl⟩ (fun r9 F9 R9 hr9 H locs M => ?_)
        obtain ⟨e91, e92, e93⟩ : r9 = (-1000010) - 1 ∧ F9 = va_up F 23 1 ∧ R9 = Rr := ⟨congrArg Prod.fst hr9, congrArg (fun z => z.2.1) hr9, congrArg (fun z => z.2.2) hr9⟩
        rw [e92, e93] at M; rw [e91]
        clear hr9
        have M := xM_drop M
        refine W.widen (k := 3) (n := 271) (Nat.le_of_ble_eq_true rfl) (Nat.le_of_ble_eq_true rfl) ?_
        exact W.iret (v := (-1000010) - 1) hx hb hr (fun t9 ht9 hW9 => ⟨⟨_, (va_up F 23 1, Rr), rfl, (by simp [x_seal, x_fnd, em14, ec14, c_1, ek1, c_2, hf14, h0_5]), ⟨G, (xext.rf _), by rw [ht9]; exact M.1, M.2.1, M.2.2.2⟩⟩, M.2.2.1.F ht9⟩) M.2.2.1.2.2 dX0_seal_142
      · -- a sheet there: True
        refine va_csq (W.runV (As := [.int (nI k1)]) (rest := []) X.1 (metX0_sheetAt_t l D dA A e0 h G T F Rr k1 y_4 (by omega) hy_3) (cwV 1 hts (lw_V q331 q333 qs3 q57 q334) rfl rfl rfl (by decide +kernel) ⟨Nat.le_of_ble_eq_true rfl, Nat.le_of_ble_eq_true rfl⟩) ⟨xPre_blind, x_recv X M, fun U hU hW => ⟨rfl, x_pre X M hU hW⟩⟩ rfl rfl hl.1 rfl (lv_room (Nat.le_of_ble_eq_true rfl)) dX0_seal_29 ⟨Nat.le_of_ble_eq_true rfl, Nat.le_of_ble_eq_true rfl⟩) (fun r9 hr9 => ?_)
        subst hr9
        obtain ⟨z_6, n_7, hs_8⟩ := x_sheet M (show k1 < 8 by omega) hy_3
        have h6hs_8 := hs_8.2.2.2.2.2
        have e2hs_8 := hs_8.2.2.2.2.1
        have nehs_8 := hs_8.ne
        have ecn_7 : (nI n_7).toNatClampNeg = n_7 := nI_clamp (by omega)
        refine lv_iload_n hx hb dX0_seal_32 rfl (lv_at hl 2 rfl) ?_
        refine lv_bipush (v := 7) hx hb dX0_seal_33 (by decide) ?_
        by_cases c_9 : x_rowOk p2 7 (nI n_7) = true
        · -- the row is in: True
          obtain ⟨i_10, hi_10, rfl⟩ := x_rowOk_ex (n := 7) c_9 (by omega) (by omega)
          have ei_10 : (nI i_10).toNatClampNeg = i_10 := nI_clamp (by omega)
          refine x_rowT (k := k1) (kk := i_10) (n := 7) X M hs_8 (by omega) (cwV 2 hts (lw_V q843 q844 q845 q66 q846) rfl rfl rfl (by decide +kernel) ⟨Nat.le_of_ble_eq_true rfl, Nat.le_of_ble_eq_true rfl⟩) hl.1 (Nat.le_of_ble_eq_true rfl) dX0_seal_35 ⟨Nat.le_of_ble_eq_true rfl, Nat.le_of_ble_eq_true rfl⟩ (fun r_11 H locs M => ?_)
          refine W.widen (k := 1) (n := 64) (Nat.le_of_ble_eq_true rfl) (Nat.le_of_ble_eq_true rfl) ?_
          refine lv_astore_n (lv' := [(3, .ref r_11), (0, .ref h), (1, .int (nI k1)), (2, .int (nI i_10))]) hx hb dX0_seal_38 rfl hl (by decide) rfl (fun ls hl => ?_)
          refine lv_aload_n hx hb dX0_seal_39 rfl (lv_at hl 0 rfl) ?_
          refine vp_callSi (W.runS (As := [.ref r_11]) (rest := []) X.1 (metX0_isSealed l D dA A e0 r_11 (x_rowOf Rr k1 i_10 7)) (va_cwS 1 hts (lw_S q1071 q1072 q57 q1073) rfl rfl rfl (by decide +kernel) ⟨Nat.le_of_ble_eq_true rfl, Nat.le_of_ble_eq_true rfl⟩) ⟨gPre_blind, fun U hU hW => ⟨rfl, X.C M.2.2.1 hU hW, by rw [hU]; exact va_P1 (M.1 (21 + (T.length + 0)) _ (xT_k rfl))⟩⟩ rfl rfl hl.1 rfl (lv_room (Nat.le_of_ble_eq_true rfl)) dX0_seal_40 ⟨Nat.le_of_ble_eq_true rfl, Nat.le_of_ble_eq_true rfl⟩) (fun r9 hr9 => ?_)
          subst hr9
          refine lz_if_ne (tgt := 49) hx hb dX0_seal_43 (by decide) (fun c_12 => ?_) (fun c_12 => ?_)
          · -- c_12: x_sealed (x_rowOf Rr k1 i_10 7) = true
            refine lv_aload_n hx hb dX0_seal_49 rfl (lv_at hl 1 rfl) ?_
            refine xg_14 X M dX0_seal_50 ?_
            refine lv_aload_n hx hb dX0_seal_53 rfl (lv_at hl 0 rfl) ?_
            refine lv_iconst (v := 0) hx hb dX0_seal_54 (by decide) ?_
            refine g_iald (n := 7) (f := (x_rowOf Rr k1 i_10 7)) (j := 0) X M.1 (21 + (T.length + 0)) 0 (xT_k (T := T) (j := 0) rfl) rfl (show vp_in (nI 0) _ from vp_in_nI (by decide) (by decide)) rfl dX0_seal_55 ?_
            refine lv_if_ne (tgt := 70) hx hb dX0_seal_56 (by decide) (fun c_13 => ?_) (fun c_13 => ?_)
            · -- c_13: (x_rowOf Rr k1 i_10 7) 0 ≠ 0
              refine lv_aload_n hx hb dX0_seal_70 rfl (lv_at hl 0 rfl) ?_
              refine lv_iconst (v := 0) hx hb dX0_seal_71 (by decide) ?_
              refine g_iald (n := 7) (f := (x_rowOf Rr k1 i_10 7)) (j := 0) X M.1 (21 + (T.length + 0)) 0 (xT_k (T := T) (j := 0) rfl) rfl (show vp_in (nI 0) _ from vp_in_nI (by decide) (by decide)) rfl dX0_seal_72 ?_
              refine lv_iconst (v := 1) hx hb dX0_seal_73 (by decide) ?_
              refine lv_icmp_ne (tgt := 88) hx hb dX0_seal_74 (by decide) (fun c_14 => ?_) (fun c_14 => ?_)
              · -- c_14: (x_rowOf Rr k1 i_10 7) 0 ≠ 1
                refine lv_aload_n hx hb dX0_seal_88 rfl (lv_at hl 0 rfl) ?_
                refine lv_iconst (v := 0) hx hb dX0_seal_89 (by decide) ?_
                refine g_iald (n := 7) (f := (x_rowOf Rr k1 i_10 7)) (j := 0) X M.1 (21 + (T.length + 0)) 0 (xT_k (T := T) (j := 0) rfl) rfl (show vp_in (nI 0) _ from vp_in_nI (by decide) (by decide)) rfl dX0_seal_90 ?_
                refine lv_iconst (v := 2) hx hb dX0_seal_91 (by decide) ?_
                refine lv_icmp_ne (tgt := 106) hx hb dX0_seal_92 (by decide) (fun c_15 => ?_) (fun c_15 => ?_)
                · -- c_15: (x_rowOf Rr k1 i_10 7) 0 ≠ 2
                  refine va_new (ci := 11) (fs := [.int 0, .int 0, .int 0, .int 0, .int 0, .int 0]) X.hx X.hb X.hts in_X13 tyX13 tyX13_ok X.ow (X.hts _ q1143) (X.hts _ q1144) (X.hts _ q91) X.K M.1 M.2.1 M.2.2.1 X.hA rfl (fun j hj => by rcases (show j = 0 ∨ j = 1 ∨ j = 2 ∨ j = 3 ∨ j = 4 ∨ j = 5 by omega) with rfl | rfl | rfl | rfl | rfl | rfl <;> rfl) (Nat.le_of_ble_eq_true rfl) (Nat.le_of_ble_eq_true rfl) dX0_seal_106 (fun q_16 H hP hD hS => ?_)
                  have M := xM_push M hP hD hS
                  rw [List.append_assoc] at M
                  have M : xM D dA A e0 h G (T ++ [(r_11, .inl (dA 0, 7, .inl (x_rowOf Rr k1 i_10 7))), (q_16, .inr (11, [.int 0, .int 0, .int 0, .int 0, .int 0, .int 0]))]) s F Rr H _ := M
                  refine W.widen (k := 2) (n := 70) (Nat.le_of_ble_eq_true rfl) (Nat.le_of_ble_eq_true rfl) ?_
                  refine lv_dup hx hb dX0_seal_109 rfl ?_
                  refine lv_aload_n hx hb dX0_seal_110 rfl (lv_at hl 0 rfl) ?_
                  refine x_ini2 (j := 1) (k := (21 + (T.length + 0))) (As := [.ref r_11]) (rest := [.ref q_16, .ref (g_ad G 14)]) X M rfl (xT_k (T := T) (j := 0) rfl) (by omega) (fun A9 => metX13_init l D dA A9 e0 q_16 r_11 7 (x_rowOf Rr k1 i_10 7) (by decide) (by decide)) (cwI 1 X.hts (lw_meth q1147) rfl rfl rfl (X.hts _ q91) (X.hts _ q1145) (X.hts _ q1146) rfl (by decide +kernel) ⟨Nat.le_of_ble_eq_true rfl, Nat.le_of_ble_eq_true rfl⟩) rfl hl.1 rfl (Nat.le_of_ble_eq_true rfl) dX0_seal_111 ⟨Nat.le_of_ble_eq_true rfl, Nat.le_of_ble_eq_true rfl⟩ (fun H locs M => ?_)
                  have M : xM D dA A e0 h G (T ++ [(r_11, .inl (dA 0, 7, .inl (x_rowOf Rr k1 i_10 7))), (q_16, .inr (11, [.int ((x_rowOf Rr k1 i_10 7) 1), .int ((x_rowOf Rr k1 i_10 7) 2), .int ((x_rowOf Rr k1 i_10 7) 3), .int ((x_rowOf Rr k1 i_10 7) 4), .int ((x_rowOf Rr k1 i_10 7) 5), .int ((x_rowOf Rr k1 i_10 7) 6)]))]) s F Rr H locs := M
                  refine W.widen (k := 2) (n := 70) (Nat.le_of_ble_eq_true rfl) (Nat.le_of_ble_eq_true rfl) ?_
                  have M := xM_asc (cs := [(r_11, .inl (dA 0, 7, .inl (x_rowOf Rr k1 i_10 7)))]) (c0 := (q_16, .inr (11, [.int ((x_rowOf Rr k1 i_10 7) 1), .int ((x_rowOf Rr k1 i_10 7) 2), .int ((x_rowOf Rr k1 i_10 7) 3), .int ((x_rowOf Rr k1 i_10 7) 4), .int ((x_rowOf Rr k1 i_10 7) 5), .int ((x_rowOf Rr k1 i_10 7) 6)]))) M
                  refine xl_addT_14 (ci := 3) (n := n14) X (by decide) M en14 (by omega) hl.1 ⟨Nat.le_of_ble_eq_true rfl, Nat.le_of_ble_eq_true rfl⟩ ⟨Nat.le_of_ble_eq_true rfl, Nat.le_of_ble_eq_true rfl⟩ (Nat.le_of_ble_eq_true rfl) dX0_seal_114 (fun G_17 H locs hxG_17 M => ?_)
                  have M : xM D dA A e0 h G_17 (T ++ [(r_11, .inl (dA 0, 7, .inl (x_rowOf Rr k1 i_10 7)))]) s (va_up F 14 (nI (n14 + 1))) (xrow Rr 140 n14 [(x_rowOf Rr k1 i_10 7) 1, (x_rowOf Rr k1 i_10 7) 2, (x_rowOf Rr k1 i_10 7) 3, (x_rowOf Rr k1 i_10 7) 4, (x_rowOf Rr k1 i_10 7) 5, (x_rowOf Rr k1 i_10 7) 6, nI 3]) H locs := M
                  refine W.widen (k := 3) (n := 270) (Nat.le_of_ble_eq_true rfl) (Nat.le_of_ble_eq_true rfl) ?_
                  refine lv_pop hx hb dX0_seal_119 rfl ?_
                  refine lv_aload_n hx hb dX0_seal_120 rfl (lv_at hl 1 rfl) ?_
                  refine lv_aload_n hx hb dX0_seal_121 rfl (lv_at hl 1 rfl) ?_
                  refine xg_14 X M dX0_seal_122 ?_
                  refine xl_size_14 X M (v := nI (n14 + 1)) rfl hl.1 ⟨Nat.le_of_ble_eq_true rfl, Nat.le_of_ble_eq_true rfl⟩ ⟨Nat.le_of_ble_eq_true rfl, Nat.le_of_ble_eq_true rfl⟩ (Nat.le_of_ble_eq_true rfl) dX0_seal_125 ?_
                  refine lv_iconst (v := 1) hx hb dX0_seal_130 (by decide) ?_
                  refine lv_isub hx hb dX0_seal_131 ?_
                  refine lv_asi (y := nI n14) (nI_pred _) ?_
                  refine x_cU0 (As := [.int (nI n14)]) (rest := []) X M (metX0_well l D dA A e0 h G_17 _ (va_up F 14 (nI (n14 + 1))) (xrow Rr 140 n14 [(x_rowOf Rr k1 i_10 7) 1, (x_rowOf Rr k1 i_10 7) 2, (x_rowOf Rr k1 i_10 7) 3, (x_rowOf Rr k1 i_10 7) 4, (x_rowOf Rr k1 i_10 7) 5, (x_rowOf Rr k1 i_10 7) 6, nI 3]) (nI n14)) (cwV 1 hts (lw_V q318 q320 qs1 q57 q321) rfl rfl rfl (by decide +kernel) ⟨Nat.le_of_ble_eq_true rfl, Nat.le_of_ble_eq_true rfl⟩) rfl hl.1 rfl (Nat.le_of_ble_eq_true rfl) dX0_seal_132 ⟨Nat.le_of_ble_eq_true rfl, Nat.le_of_ble_eq_true rfl⟩ (fun r9 F9 R9 hr9 H locs M => ?_)
                  obtain ⟨e91, e92, e93⟩ : r9 = nI n14 ∧ F9 = va_up (va_up F 14 (nI (n14 + 1))) 23 0 ∧ R9 = xrow Rr 140 n14 [(x_rowOf Rr k1 i_10 7) 1, (x_rowOf Rr k1 i_10 7) 2, (x_rowOf Rr k1 i_10 7) 3, (x_rowOf Rr k1 i_10 7) 4, (x_rowOf Rr k1 i_10 7) 5, (x_rowOf Rr k1 i_10 7) 6, nI 3] := ⟨congrArg Prod.fst hr9, congrArg (fun z => z.2.1) hr9, congrArg (fun z => z.2.2) hr9⟩
                  rw [e92, e93] at M; rw [e91]
                  clear hr9
                  have M := xM_drop M
                  refine W.widen (k := 3) (n := 271) (Nat.le_of_ble_eq_true rfl) (Nat.le_of_ble_eq_true rfl) ?_
                  exact W.iret (v := nI n14) hx hb hr (fun t9 ht9 hW9 => ⟨⟨_, (va_up (va_up F 14 (nI (n14 + 1))) 23 0, xrow Rr 140 n14 [(x_rowOf Rr k1 i_10 7) 1, (x_rowOf Rr k1 i_10 7) 2, (x_rowOf Rr k1 i_10 7) 3, (x_rowOf Rr k1 i_10 7) 4, (x_rowOf Rr k1 i_10 7) 5, (x_rowOf Rr k1 i_10 7) 6, nI 3]), rfl, (by simp [x_seal, x_fnd, em14, ec14, c_1, ek1, c_2, hf14, e2hs_8, nehs_8, ecn_7, c_9, ei_10, c_12, c_13, c_14, c_15]), ⟨G_17, ((xext.rf _).tr hxG_17), by rw [ht9]; exact M.1, M.2.1, M.2.2.2⟩⟩, M.2.2.1.F ht9⟩) M.2.2.1.2.2 dX0_seal_135
                · -- c_15: (x_rowOf Rr k1 i_10 7) 0 = 2
                  refine va_new (ci := 10) (fs := [.int 0, .int 0, .int 0, .int 0, .int 0, .int 0]) X.hx X.hb X.hts in_X12 tyX12 tyX12_ok X.ow (X.hts _ q1130) (X.hts _ q1131) (X.hts _ q90) X.K M.1 M.2.1 M.2.2.1 X.hA rfl (fun j hj => by rcases (show j = 0 ∨ j = 1 ∨ j = 2 ∨ j = 3 ∨ j = 4 ∨ j = 5 by omega) with rfl | rfl | rfl | rfl | rfl | rfl <;> rfl) (Nat.le_of_ble_eq_true rfl) (Nat.le_of_ble_eq_true rfl) dX0_seal_95 (fun q_18 H hP hD hS => ?_)
                  have M := xM_push M hP hD hS
                  rw [List.append_assoc] at M
                  have M : xM D dA A e0 h G (T ++ [(r_11, .inl (dA 0, 7, .inl (x_rowOf Rr k1 i_10 7))), (q_18, .inr (10, [.int 0, .int 0, .int 0, .int 0, .int 0, .int 0]))]) s F Rr H _ := M
                  refine W.widen (k := 2) (n := 70) (Nat.le_of_ble_eq_true rfl) (Nat.le_of_ble_eq_true rfl) ?_
                  refine lv_dup hx hb dX0_seal_98 rfl ?_
                  refine lv_aload_n hx hb dX0_seal_99 rfl (lv_at hl 0 rfl) ?_
                  refine x_ini2 (j := 1) (k := (21 + (T.length + 0))) (As := [.ref r_11]) (rest := [.ref q_18, .ref (g_ad G 14)]) X M rfl (xT_k (T := T) (j := 0) rfl) (by omega) (fun A9 => metX12_init l D dA A9 e0 q_18 r_11 7 (x_rowOf Rr k1 i_10 7) (by decide) (by decide)) (cwI 1 X.hts (lw_meth q1134) rfl rfl rfl (X.hts _ q90) (X.hts _ q1132) (X.hts _ q1133) rfl (by decide +kernel) ⟨Nat.le_of_ble_eq_true rfl, Nat.le_of_ble_eq_true rfl⟩) rfl hl.1 rfl (Nat.le_of_ble_eq_true rfl) dX0_seal_100 ⟨Nat.le_of_ble_eq_true rfl, Nat.le_of_ble_eq_true rfl⟩ (fun H locs M => ?_)
                  have M : xM D dA A e0 h G (T ++ [(r_11, .inl (dA 0, 7, .inl (x_rowOf Rr k1 i_10 7))), (q_18, .inr (10, [.int ((x_rowOf Rr k1 i_10 7) 1), .int ((x_rowOf Rr k1 i_10 7) 2), .int ((x_rowOf Rr k1 i_10 7) 3), .int ((x_rowOf Rr k1 i_10 7) 4), .int ((x_rowOf Rr k1 i_10 7) 5), .int ((x_rowOf Rr k1 i_10 7) 6)]))]) s F Rr H locs := M
                  refine W.widen (k := 2) (n := 70) (Nat.le_of_ble_eq_true rfl) (Nat.le_of_ble_eq_true rfl) ?_
                  refine lv_goto (tgt := 114) hx hb dX0_seal_103 (by decide) ?_
                  have M := xM_asc (cs := [(r_11, .inl (dA 0, 7, .inl (x_rowOf Rr k1 i_10 7)))]) (c0 := (q_18, .inr (10, [.int ((x_rowOf Rr k1 i_10 7) 1), .int ((x_rowOf Rr k1 i_10 7) 2), .int ((x_rowOf Rr k1 i_10 7) 3), .int ((x_rowOf Rr k1 i_10 7) 4), .int ((x_rowOf Rr k1 i_10 7) 5), .int ((x_rowOf Rr k1 i_10 7) 6)]))) M
                  refine xl_addT_14 (ci := 2) (n := n14) X (by decide) M en14 (by omega) hl.1 ⟨Nat.le_of_ble_eq_true rfl, Nat.le_of_ble_eq_true rfl⟩ ⟨Nat.le_of_ble_eq_true rfl, Nat.le_of_ble_eq_true rfl⟩ (Nat.le_of_ble_eq_true rfl) dX0_seal_114 (fun G_19 H locs hxG_19 M => ?_)
                  have M : xM D dA A e0 h G_19 (T ++ [(r_11, .inl (dA 0, 7, .inl (x_rowOf Rr k1 i_10 7)))]) s (va_up F 14 (nI (n14 + 1))) (xrow Rr 140 n14 [(x_rowOf Rr k1 i_10 7) 1, (x_rowOf Rr k1 i_10 7) 2, (x_rowOf Rr k1 i_10 7) 3, (x_rowOf Rr k1 i_10 7) 4, (x_rowOf Rr k1 i_10 7) 5, (x_rowOf Rr k1 i_10 7) 6, nI 2]) H locs := M
                  refine W.widen (k := 3) (n := 270) (Nat.le_of_ble_eq_true rfl) (Nat.le_of_ble_eq_true rfl) ?_
                  refine lv_pop hx hb dX0_seal_119 rfl ?_
                  refine lv_aload_n hx hb dX0_seal_120 rfl (lv_at hl 1 rfl) ?_
                  refine lv_aload_n hx hb dX0_seal_121 rfl (lv_at hl 1 rfl) ?_
                  refine xg_14 X M dX0_seal_122 ?_
                  refine xl_size_14 X M (v := nI (n14 + 1)) rfl hl.1 ⟨Nat.le_of_ble_eq_true rfl, Nat.le_of_ble_eq_true rfl⟩ ⟨Nat.le_of_ble_eq_true rfl, Nat.le_of_ble_eq_true rfl⟩ (Nat.le_of_ble_eq_true rfl) dX0_seal_125 ?_
                  refine lv_iconst (v := 1) hx hb dX0_seal_130 (by decide) ?_
                  refine lv_isub hx hb dX0_seal_131 ?_
                  refine lv_asi (y := nI n14) (nI_pred _) ?_
                  refine x_cU0 (As := [.int (nI n14)]) (rest := []) X M (metX0_well l D dA A e0 h G_19 _ (va_up F 14 (nI (n14 + 1))) (xrow Rr 140 n14 [(x_rowOf Rr k1 i_10 7) 1, (x_rowOf Rr k1 i_10 7) 2, (x_rowOf Rr k1 i_10 7) 3, (x_rowOf Rr k1 i_10 7) 4, (x_rowOf Rr k1 i_10 7) 5, (x_rowOf Rr k1 i_10 7) 6, nI 2]) (nI n14)) (cwV 1 hts (lw_V q318 q320 qs1 q57 q321) rfl rfl rfl (by decide +kernel) ⟨Nat.le_of_ble_eq_true rfl, Nat.le_of_ble_eq_true rfl⟩) rfl hl.1 rfl (Nat.le_of_ble_eq_true rfl) dX0_seal_132 ⟨Nat.le_of_ble_eq_true rfl, Nat.le_of_ble_eq_true rfl⟩ (fun r9 F9 R9 hr9 H locs M => ?_)
                  obtain ⟨e91, e92, e93⟩ : r9 = nI n14 ∧ F9 = va_up (va_up F 14 (nI (n14 + 1))) 23 0 ∧ R9 = xrow Rr 140 n14 [(x_rowOf Rr k1 i_10 7) 1, (x_rowOf Rr k1 i_10 7) 2, (x_rowOf Rr k1 i_10 7) 3, (x_rowOf Rr k1 i_10 7) 4, (x_rowOf Rr k1 i_10 7) 5, (x_rowOf Rr k1 i_10 7) 6, nI 2] := ⟨congrArg Prod.fst hr9, congrArg (fun z => z.2.1) hr9, congrArg (fun z => z.2.2) hr9⟩
                  rw [e92, e93] at M; rw [e91]
                  clear hr9
                  have M := xM_drop M
                  refine W.widen (k := 3) (n := 271) (Nat.le_of_ble_eq_true rfl) (Nat.le_of_ble_eq_true rfl) ?_
                  exact W.iret (v := nI n14) hx hb hr (fun t9 ht9 hW9 => ⟨⟨_, (va_up (va_up F 14 (nI (n14 + 1))) 23 0, xrow Rr 140 n14 [(x_rowOf Rr k1 i_10 7) 1, (x_rowOf Rr k1 i_10 7) 2, (x_rowOf Rr k1 i_10 7) 3, (x_rowOf Rr k1 i_10 7) 4, (x_rowOf Rr k1 i_10 7) 5, (x_rowOf Rr k1 i_10 7) 6, nI 2]), rfl, (by simp [x_seal, x_fnd, em14, ec14, c_1, ek1, c_2, hf14, e2hs_8, nehs_8, ecn_7, c_9, ei_10, c_12, c_13, c_14, c_15]), ⟨G_19, ((xext.rf _).tr hxG_19), by rw [ht9]; exact M.1, M.2.1, M.2.2.2⟩⟩, M.2.2.1.F ht9⟩) M.2.2.1.2.2 dX0_seal_135
              · -- c_14: (x_rowOf Rr k1 i_10 7) 0 = 1
                refine va_new (ci := 9) (fs := [.int 0, .int 0, .int 0, .int 0, .int 0, .int 0]) X.hx X.hb X.hts in_X11 tyX11 tyX11_ok X.ow (X.hts _ q1117) (X.hts _ q1118) (X.hts _ q89) X.K M.1 M.2.1 M.2.2.1 X.hA rfl (fun j hj => by rcases (show j = 0 ∨ j = 1 ∨ j = 2 ∨ j = 3 ∨ j = 4 ∨ j = 5 by omega) with rfl | rfl | rfl | rfl | rfl | rfl <;> rfl) (Nat.le_of_ble_eq_true rfl) (Nat.le_of_ble_eq_true rfl) dX0_seal_77 (fun q_20 H hP hD hS => ?_)
                have M := xM_push M hP hD hS
                rw [List.append_assoc] at M
                have M : xM D dA A e0 h G (T ++ [(r_11, .inl (dA 0, 7, .inl (x_rowOf Rr k1 i_10 7))), (q_20, .inr (9, [.int 0, .int 0, .int 0, .int 0, .int 0, .int 0]))]) s F Rr H _ := M
                refine W.widen (k := 2) (n := 70) (Nat.le_of_ble_eq_true rfl) (Nat.le_of_ble_eq_true rfl) ?_
                refine lv_dup hx hb dX0_seal_80 rfl ?_
                refine lv_aload_n hx hb dX0_seal_81 rfl (lv_at hl 0 rfl) ?_
                refine x_ini2 (j := 1) (k := (21 + (T.length + 0))) (As := [.ref r_11]) (rest := [.ref q_20, .ref (g_ad G 14)]) X M rfl (xT_k (T := T) (j := 0) rfl) (by omega) (fun A9 => metX11_init l D dA A9 e0 q_20 r_11 7 (x_rowOf Rr k1 i_10 7) (by decide) (by decide)) (cwI 1 X.hts (lw_meth q1121) rfl rfl rfl (X.hts _ q89) (X.hts _ q1119) (X.hts _ q1120) rfl (by decide +kernel) ⟨Nat.le_of_ble_eq_true rfl, Nat.le_of_ble_eq_true rfl⟩) rfl hl.1 rfl (Nat.le_of_ble_eq_true rfl) dX0_seal_82 ⟨Nat.le_of_ble_eq_true rfl, Nat.le_of_ble_eq_true rfl⟩ (fun H locs M => ?_)
                have M : xM D dA A e0 h G (T ++ [(r_11, .inl (dA 0, 7, .inl (x_rowOf Rr k1 i_10 7))), (q_20, .inr (9, [.int ((x_rowOf Rr k1 i_10 7) 1), .int ((x_rowOf Rr k1 i_10 7) 2), .int ((x_rowOf Rr k1 i_10 7) 3), .int ((x_rowOf Rr k1 i_10 7) 4), .int ((x_rowOf Rr k1 i_10 7) 5), .int ((x_rowOf Rr k1 i_10 7) 6)]))]) s F Rr H locs := M
                refine W.widen (k := 2) (n := 70) (Nat.le_of_ble_eq_true rfl) (Nat.le_of_ble_eq_true rfl) ?_
                refine lv_goto (tgt := 114) hx hb dX0_seal_85 (by decide) ?_
                have M := xM_asc (cs := [(r_11, .inl (dA 0, 7, .inl (x_rowOf Rr k1 i_10 7)))]) (c0 := (q_20, .inr (9, [.int ((x_rowOf Rr k1 i_10 7) 1), .int ((x_rowOf Rr k1 i_10 7) 2), .int ((x_rowOf Rr k1 i_10 7) 3), .int ((x_rowOf Rr k1 i_10 7) 4), .int ((x_rowOf Rr k1 i_10 7) 5), .int ((x_rowOf Rr k1 i_10 7) 6)]))) M
                refine xl_addT_14 (ci := 1) (n := n14) X (by decide) M en14 (by omega) hl.1 ⟨Nat.le_of_ble_eq_true rfl, Nat.le_of_ble_eq_true rfl⟩ ⟨Nat.le_of_ble_eq_true rfl, Nat.le_of_ble_eq_true rfl⟩ (Nat.le_of_ble_eq_true rfl) dX0_seal_114 (fun G_21 H locs hxG_21 M => ?_)
                have M : xM D dA A e0 h G_21 (T ++ [(r_11, .inl (dA 0, 7, .inl (x_rowOf Rr k1 i_10 7)))]) s (va_up F 14 (nI (n14 + 1))) (xrow Rr 140 n14 [(x_rowOf Rr k1 i_10 7) 1, (x_rowOf Rr k1 i_10 7) 2, (x_rowOf Rr k1 i_10 7) 3, (x_rowOf Rr k1 i_10 7) 4, (x_rowOf Rr k1 i_10 7) 5, (x_rowOf Rr k1 i_10 7) 6, nI 1]) H locs := M
                refine W.widen (k := 3) (n := 270) (Nat.le_of_ble_eq_true rfl) (Nat.le_of_ble_eq_true rfl) ?_
                refine lv_pop hx hb dX0_seal_119 rfl ?_
                refine lv_aload_n hx hb dX0_seal_120 rfl (lv_at hl 1 rfl) ?_
                refine lv_aload_n hx hb dX0_seal_121 rfl (lv_at hl 1 rfl) ?_
                refine xg_14 X M dX0_seal_122 ?_
                refine xl_size_14 X M (v := nI (n14 + 1)) rfl hl.1 ⟨Nat.le_of_ble_eq_true rfl, Nat.le_of_ble_eq_true rfl⟩ ⟨Nat.le_of_ble_eq_true rfl, Nat.le_of_ble_eq_true rfl⟩ (Nat.le_of_ble_eq_true rfl) dX0_seal_125 ?_
                refine lv_iconst (v := 1) hx hb dX0_seal_130 (by decide) ?_
                refine lv_isub hx hb dX0_seal_131 ?_
                refine lv_asi (y := nI n14) (nI_pred _) ?_
                refine x_cU0 (As := [.int (nI n14)]) (rest := []) X M (metX0_well l D dA A e0 h G_21 _ (va_up F 14 (nI (n14 + 1))) (xrow Rr 140 n14 [(x_rowOf Rr k1 i_10 7) 1, (x_rowOf Rr k1 i_10 7) 2, (x_rowOf Rr k1 i_10 7) 3, (x_rowOf Rr k1 i_10 7) 4, (x_rowOf Rr k1 i_10 7) 5, (x_rowOf Rr k1 i_10 7) 6, nI 1]) (nI n14)) (cwV 1 hts (lw_V q318 q320 qs1 q57 q321) rfl rfl rfl (by decide +kernel) ⟨Nat.le_of_ble_eq_true rfl, Nat.le_of_ble_eq_true rfl⟩) rfl hl.1 rfl (Nat.le_of_ble_eq_true rfl) dX0_seal_132 ⟨Nat.le_of_ble_eq_true rfl, Nat.le_of_ble_eq_true rfl⟩ (fun r9 F9 R9 hr9 H locs M => ?_)
                obtain ⟨e91, e92, e93⟩ : r9 = nI n14 ∧ F9 = va_up (va_up F 14 (nI (n14 + 1))) 23 0 ∧ R9 = xrow Rr 140 n14 [(x_rowOf Rr k1 i_10 7) 1, (x_rowOf Rr k1 i_10 7) 2, (x_rowOf Rr k1 i_10 7) 3, (x_rowOf Rr k1 i_10 7) 4, (x_rowOf Rr k1 i_10 7) 5, (x_rowOf Rr k1 i_10 7) 6, nI 1] := ⟨congrArg Prod.fst hr9, congrArg (fun z => z.2.1) hr9, congrArg (fun z => z.2.2) hr9⟩
                rw [e92, e93] at M; rw [e91]
                clear hr9
                have M := xM_drop M
                refine W.widen (k := 3) (n := 271) (Nat.le_of_ble_eq_true rfl) (Nat.le_of_ble_eq_true rfl) ?_
                exact W.iret (v := nI n14) hx hb hr (fun t9 ht9 hW9 => ⟨⟨_, (va_up (va_up F 14 (nI (n14 + 1))) 23 0, xrow Rr 140 n14 [(x_rowOf Rr k1 i_10 7) 1, (x_rowOf Rr k1 i_10 7) 2, (x_rowOf Rr k1 i_10 7) 3, (x_rowOf Rr k1 i_10 7) 4, (x_rowOf Rr k1 i_10 7) 5, (x_rowOf Rr k1 i_10 7) 6, nI 1]), rfl, (by simp [x_seal, x_fnd, em14, ec14, c_1, ek1, c_2, hf14, e2hs_8, nehs_8, ecn_7, c_9, ei_10, c_12, c_13, c_14]), ⟨G_21, ((xext.rf _).tr hxG_21), by rw [ht9]; exact M.1, M.2.1, M.2.2.2⟩⟩, M.2.2.1.F ht9⟩) M.2.2.1.2.2 dX0_seal_135
            · -- c_13: (x_rowOf Rr k1 i_10 7) 0 = 0
              refine va_new (ci := 8) (fs := [.int 0, .int 0, .int 0, .int 0, .int 0, .int 0]) X.hx X.hb X.hts in_X10 tyX10 tyX10_ok X.ow (X.hts _ q1080) (X.hts _ q1081) (X.hts _ q88) X.K M.1 M.2.1 M.2.2.1 X.hA rfl (fun j hj => by rcases (show j = 0 ∨ j = 1 ∨ j = 2 ∨ j = 3 ∨ j = 4 ∨ j = 5 by omega) with rfl | rfl | rfl | rfl | rfl | rfl <;> rfl) (Nat.le_of_ble_eq_true rfl) (Nat.le_of_ble_eq_true rfl) dX0_seal_59 (fun q_22 H hP hD hS => ?_)
              have M := xM_push M hP hD hS
              rw [List.append_assoc] at M
              have M : xM D dA A e0 h G (T ++ [(r_11, .inl (dA 0, 7, .inl (x_rowOf Rr k1 i_10 7))), (q_22, .inr (8, [.int 0, .int 0, .int 0, .int 0, .int 0, .int 0]))]) s F Rr H _ := M
              refine W.widen (k := 2) (n := 70) (Nat.le_of_ble_eq_true rfl) (Nat.le_of_ble_eq_true rfl) ?_
              refine lv_dup hx hb dX0_seal_62 rfl ?_
              refine lv_aload_n hx hb dX0_seal_63 rfl (lv_at hl 0 rfl) ?_
              refine x_ini2 (j := 1) (k := (21 + (T.length + 0))) (As := [.ref r_11]) (rest := [.ref q_22, .ref (g_ad G 14)]) X M rfl (xT_k (T := T) (j := 0) rfl) (by omega) (fun A9 => metX10_init_X10 l D dA A9 e0 q_22 r_11 7 (x_rowOf Rr k1 i_10 7) (by decide) (by decide)) (cwI 1 X.hts (lw_meth q1084) rfl rfl rfl (X.hts _ q88) (X.hts _ q1082) (X.hts _ q1083) rfl (by decide +kernel) ⟨Nat.le_of_ble_eq_true rfl, Nat.le_of_ble_eq_true rfl⟩) rfl hl.1 rfl (Nat.le_of_ble_eq_true rfl) dX0_seal_64 ⟨Nat.le_of_ble_eq_true rfl, Nat.le_of_ble_eq_true rfl⟩ (fun H locs M => ?_)
              have M : xM D dA A e0 h G (T ++ [(r_11, .inl (dA 0, 7, .inl (x_rowOf Rr k1 i_10 7))), (q_22, .inr (8, [.int ((x_rowOf Rr k1 i_10 7) 1), .int ((x_rowOf Rr k1 i_10 7) 2), .int ((x_rowOf Rr k1 i_10 7) 3), .int ((x_rowOf Rr k1 i_10 7) 4), .int ((x_rowOf Rr k1 i_10 7) 5), .int ((x_rowOf Rr k1 i_10 7) 6)]))]) s F Rr H locs := M
              refine W.widen (k := 2) (n := 70) (Nat.le_of_ble_eq_true rfl) (Nat.le_of_ble_eq_true rfl) ?_
              refine lv_goto (tgt := 114) hx hb dX0_seal_67 (by decide) ?_
              have M := xM_asc (cs := [(r_11, .inl (dA 0, 7, .inl (x_rowOf Rr k1 i_10 7)))]) (c0 := (q_22, .inr (8, [.int ((x_rowOf Rr k1 i_10 7) 1), .int ((x_rowOf Rr k1 i_10 7) 2), .int ((x_rowOf Rr k1 i_10 7) 3), .int ((x_rowOf Rr k1 i_10 7) 4), .int ((x_rowOf Rr k1 i_10 7) 5), .int ((x_rowOf Rr k1 i_10 7) 6)]))) M
              refine xl_addT_14 (ci := 0) (n := n14) X (by decide) M en14 (by omega) hl.1 ⟨Nat.le_of_ble_eq_true rfl, Nat.le_of_ble_eq_true rfl⟩ ⟨Nat.le_of_ble_eq_true rfl, Nat.le_of_ble_eq_true rfl⟩ (Nat.le_of_ble_eq_true rfl) dX0_seal_114 (fun G_23 H locs hxG_23 M => ?_)
              have M : xM D dA A e0 h G_23 (T ++ [(r_11, .inl (dA 0, 7, .inl (x_rowOf Rr k1 i_10 7)))]) s (va_up F 14 (nI (n14 + 1))) (xrow Rr 140 n14 [(x_rowOf Rr k1 i_10 7) 1, (x_rowOf Rr k1 i_10 7) 2, (x_rowOf Rr k1 i_10 7) 3, (x_rowOf Rr k1 i_10 7) 4, (x_rowOf Rr k1 i_10 7) 5, (x_rowOf Rr k1 i_10 7) 6, nI 0]) H locs := M
              refine W.widen (k := 3) (n := 270) (Nat.le_of_ble_eq_true rfl) (Nat.le_of_ble_eq_true rfl) ?_
              refine lv_pop hx hb dX0_seal_119 rfl ?_
              refine lv_aload_n hx hb dX0_seal_120 rfl (lv_at hl 1 rfl) ?_
              refine lv_aload_n hx hb dX0_seal_121 rfl (lv_at hl 1 rfl) ?_
              refine xg_14 X M dX0_seal_122 ?_
              refine xl_size_14 X M (v := nI (n14 + 1)) rfl hl.1 ⟨Nat.le_of_ble_eq_true rfl, Nat.le_of_ble_eq_true rfl⟩ ⟨Nat.le_of_ble_eq_true rfl, Nat.le_of_ble_eq_true rfl⟩ (Nat.le_of_ble_eq_true rfl) dX0_seal_125 ?_
              refine lv_iconst (v := 1) hx hb dX0_seal_130 (by decide) ?_
              refine lv_isub hx hb dX0_seal_131 ?_
              refine lv_asi (y := nI n14) (nI_pred _) ?_
              refine x_cU0 (As := [.int (nI n14)]) (rest := []) X M (metX0_well l D dA A e0 h G_23 _ (va_up F 14 (nI (n14 + 1))) (xrow Rr 140 n14 [(x_rowOf Rr k1 i_10 7) 1, (x_rowOf Rr k1 i_10 7) 2, (x_rowOf Rr k1 i_10 7) 3, (x_rowOf Rr k1 i_10 7) 4, (x_rowOf Rr k1 i_10 7) 5, (x_rowOf Rr k1 i_10 7) 6, nI 0]) (nI n14)) (cwV 1 hts (lw_V q318 q320 qs1 q57 q321) rfl rfl rfl (by decide +kernel) ⟨Nat.le_of_ble_eq_true rfl, Nat.le_of_ble_eq_true rfl⟩) rfl hl.1 rfl (Nat.le_of_ble_eq_true rfl) dX0_seal_132 ⟨Nat.le_of_ble_eq_true rfl, Nat.le_of_ble_eq_true rfl⟩ (fun r9 F9 R9 hr9 H locs M => ?_)
              obtain ⟨e91, e92, e93⟩ : r9 = nI n14 ∧ F9 = va_up (va_up F 14 (nI (n14 + 1))) 23 0 ∧ R9 = xrow Rr 140 n14 [(x_rowOf Rr k1 i_10 7) 1, (x_rowOf Rr k1 i_10 7) 2, (x_rowOf Rr k1 i_10 7) 3, (x_rowOf Rr k1 i_10 7) 4, (x_rowOf Rr k1 i_10 7) 5, (x_rowOf Rr k1 i_10 7) 6, nI 0] := ⟨congrArg Prod.fst hr9, congrArg (fun z => z.2.1) hr9, congrArg (fun z => z.2.2) hr9⟩
              rw [e92, e93] at M; rw [e91]
              clear hr9
              have M := xM_drop M
              refine W.widen (k := 3) (n := 271) (Nat.le_of_ble_eq_true rfl) (Nat.le_of_ble_eq_true rfl) ?_
              exact W.iret (v := nI n14) hx hb hr (fun t9 ht9 hW9 => ⟨⟨_, (va_up (va_up F 14 (nI (n14 + 1))) 23 0, xrow Rr 140 n14 [(x_rowOf Rr k1 i_10 7) 1, (x_rowOf Rr k1 i_10 7) 2, (x_rowOf Rr k1 i_10 7) 3, (x_rowOf Rr k1 i_10 7) 4, (x_rowOf Rr k1 i_10 7) 5, (x_rowOf Rr k1 i_10 7) 6, nI 0]), rfl, (by simp [x_seal, x_fnd, em14, ec14, c_1, ek1, c_2, hf14, e2hs_8, nehs_8, ecn_7, c_9, ei_10, c_12, c_13]), ⟨G_23, ((xext.rf _).tr hxG_23), by rw [ht9]; exact M.1, M.2.1, M.2.2.2⟩⟩, M.2.2.1.F ht9⟩) M.2.2.1.2.2 dX0_seal_135
          · -- c_12: x_sealed (x_rowOf Rr k1 i_10 7) = false
            refine lv_ldc (v := (-1000001)) hx hb hown (hts _ q234) dX0_seal_46 ?_
            have M := xM_drop M
            refine W.widen (k := 3) (n := 271) (Nat.le_of_ble_eq_true rfl) (Nat.le_of_ble_eq_true rfl) ?_
            exact W.iret (v := (-1000001)) hx hb hr (fun t9 ht9 hW9 => ⟨⟨_, (F, Rr), rfl, (by simp [x_seal, x_fnd, em14, ec14, c_1, ek1, c_2, hf14, e2hs_8, nehs_8, ecn_7, c_9, ei_10, c_12]), ⟨G, (xext.rf _), by rw [ht9]; exact M.1, M.2.1, M.2.2.2⟩⟩, M.2.2.1.F ht9⟩) M.2.2.1.2.2 dX0_seal_48
        · -- the row is in: False
          have c_9 : x_rowOk p2 7 (nI n_7) = false := Bool.eq_false_iff.mpr c_9
          obtain ⟨g_25, g_24, hg_25, hg_24, -⟩ := xsht_two M hs_8
          refine x_thrown X M (vx_runV (As := [.int p2, .int 7]) (rest := []) X.1 (metX4_row_f l D dA (va_A [] _) e0 y_4 (Rr 0 k1) z_6 n_7 (Rr (30 + k1)) p2 7 (x_rowOk_n c_9)) (cwV 2 hts (lw_V q843 q844 q845 q66 q846) rfl rfl rfl (by decide +kernel) ⟨Nat.le_of_ble_eq_true rfl, Nat.le_of_ble_eq_true rfl⟩) ⟨gPre_blind, va_recv (cl := xCl) X.K M.1 (ci := 4) rfl hg_25, fun U hU hW => ⟨rfl, X.Cn M.2.2.1 (x_F0 X M.2.2.1) hU hW, by rw [hU]; exact va_P2 (M.1 _ _ hg_25) (M.1 _ _ hg_24)⟩⟩ rfl rfl hl.1 rfl (lv_room (Nat.le_of_ble_eq_true rfl)) dX0_seal_35 ⟨Nat.le_of_ble_eq_true rfl, Nat.le_of_ble_eq_true rfl⟩) (fun q9 ce9 H locs M hce9 hcv9 hcl9 => ?_)
          refine x_catch X htab [] { startPc := 27, endPc := 48, handlerPc := 136, catchType := 81 } [{ startPc := 49, endPc := 135, handlerPc := 136, catchType := 81 }] rfl (fun z9 hz9 => by cases hz9) (by decide) (by decide) (X.hts _ q225) hce9 hcv9 hcl9 ?_
          refine W.eq (g2 := F0 m 136 ls [.ref q9]) rfl ?_
          refine W.widen (k := 1) (n := 7) (Nat.le_of_ble_eq_true rfl) (Nat.le_of_ble_eq_true rfl) ?_
          refine lv_astore_n (lv' := [(3, .ref q9), (0, .ref h), (1, .int (nI k1)), (2, .int p2)]) hx hb dX0_seal_136 rfl hl (by decide) rfl (fun ls hl => ?_)
          refine lv_aload_n hx hb dX0_seal_137 rfl (lv_at hl 1 rfl) ?_
          refine lv_aload_n hx hb dX0_seal_138 rfl (lv_at hl 0 rfl) ?_
          refine x_cU0 (As := [.ref q9]) (rest := []) X M (metX0_found l D dA A e0 h G T F Rr q9 2) (cwV 1 hts (lw_V q322 q324 qs2 q57 q325) rfl rfl rfl (by decide +kernel) ⟨Nat.le_of_ble_eq_true rfl, Nat.le_of_ble_eq_true rfl⟩) rfl hl.1 rfl (Nat.le_of_ble_eq_true rfl) dX0_seal_139 ⟨Nat.le_of_ble_eq_true rfl, Nat.le_of_ble_eq_true rfl⟩ (fun r9 F9 R9 hr9 H locs M => ?_)
          obtain ⟨e91, e92, e93⟩ : r9 = (-1000010) - 2 ∧ F9 = va_up F 23 2 ∧ R9 = Rr := ⟨congrArg Prod.fst hr9, congrArg (fun z => z.2.1) hr9, congrArg (fun z => z.2.2) hr9⟩
          rw [e92, e93] at M; rw [e91]
          clear hr9
          have M := xM_drop M
          refine W.widen (k := 3) (n := 271) (Nat.le_of_ble_eq_true rfl) (Nat.le_of_ble_eq_true rfl) ?_
          exact W.iret (v := (-1000010) - 2) hx hb hr (fun t9 ht9 hW9 => ⟨⟨_, (va_up F 23 2, Rr), rfl, (by simp [x_seal, x_fnd, em14, ec14, c_1, ek1, c_2, hf14, e2hs_8, nehs_8, ecn_7, c_9]), ⟨G, (xext.rf _), by rw [ht9]; exact M.1, M.2.1, M.2.2.2⟩⟩, M.2.2.1.F ht9⟩) M.2.2.1.2.2 dX0_seal_142
    · -- c_2: nI n14 = 16
      have hf14 : F 14 = 16 := by rw [en14]; exact c_2
      refine lv_ldc (v := (-1000003)) hx hb hown (hts _ q410) dX0_seal_24 ?_
      refine W.widen (k := 3) (n := 271) (Nat.le_of_ble_eq_true rfl) (Nat.le_of_ble_eq_true rfl) ?_
      exact W.iret (v := (-1000003)) hx hb hr (fun t9 ht9 hW9 => ⟨⟨_, (F, Rr), rfl, (by simp [x_seal, x_fnd, em14, ec14, c_1, ek1, c_2, hf14]), ⟨G, (xext.rf _), by rw [ht9]; exact M.1, M.2.1, M.2.2.2⟩⟩, M.2.2.1.F ht9⟩) M.2.2.1.2.2 dX0_seal_26
  · -- c_1: inB 0 7 p1 = false
    refine lv_ldc (v := (-1000001)) hx hb hown (hts _ q234) dX0_seal_7 ?_
    refine W.widen (k := 3) (n := 271) (Nat.le_of_ble_eq_true rfl) (Nat.le_of_ble_eq_true rfl) ?_
    exact W.iret (v := (-1000001)) hx hb hr (fun t9 ht9 hW9 => ⟨⟨_, (F, Rr), rfl, (by simp [x_seal, x_fnd, em14, ec14, c_1]), ⟨G, (xext.rf _), by rw [ht9]; exact M.1, M.2.1, M.2.2.2⟩⟩, M.2.2.1.F ht9⟩) M.2.2.1.2.2 dX0_seal_9

