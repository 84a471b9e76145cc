/-! LISTS: add -/
def x_min (x y : Int32) : Int32 := if y < x then y else x
theorem x_max_nI {a b : Nat} (ha : a < 2 ^ 31) (hb : b < 2 ^ 31) : x_max (nI a) (nI b) = nI (max a b) := by
  unfold x_max
  by_cases q : a < b
  · rw [if_pos ((nI_ltI ha hb).mpr q), Nat.max_eq_right (by omega)]
  · rw [if_neg (fun z => q ((nI_ltI ha hb).mp z)), Nat.max_eq_left (by omega)]
theorem x_min_nI {a b : Nat} (ha : a < 2 ^ 31) (hb : b < 2 ^ 31) : x_min (nI a) (nI b) = nI (min a b) := by
  unfold x_min
  by_cases q : b < a
  · rw [if_pos ((nI_ltI hb ha).mpr q), Nat.min_eq_right (by omega)]
  · rw [if_neg (fun z => q ((nI_ltI hb ha).mp z)), Nat.min_eq_left (by omega)]
set_option maxHeartbeats 4000000 in
set_option maxRecDepth 100000 in
theorem metJ12_newLength (l : Launch) (c1 : Nat) (g1 : Nat) (k1 : Nat) (hc1 : c1 ≤ 90) (hg1 : g1 ≤ 90) (hk1 : k1 ≤ 90) (hp1 : 0 < c1) : Met l yJ12_newLength (ws_ yJ12_newLength cJ12_newLength 4 (some .int)) ({ frames := 1, cells := 0, slots := 0, locals := 40 } : Room) (va_Pc [.int (nI c1), .int (nI g1), .int (nI k1)] (fun _ => True)) (vp_Si (fun r => r = nI (c1 + max g1 k1))) 0 0 (fun _ => False) := by
  refine Met.ofW (cc := cJ12_newLength) (maxL := 4) (ret := (some .int)) (by decide) rfl ?_
  intro p e s m args below meth c s₁ B hml hv
  obtain ⟨rfl, -⟩ := hv
  have hx := B.exec
  have hb := B.bytes
  have hr := B.returns
  have hts := atoms_spec (ws := (ws_ yJ12_newLength cJ12_newLength 4 (some .int))) B.pre
  have hts : ∀ w ∈ lw_all, w.before _ s = true := fun w h => hts w (List.mem_cons_of_mem _ h)
  have hown : s.vm.findClass RJ12 = some m.cls := findClass_of_methodNamed B.named
  have hlocks := B.notSynchronized
  have S : CallFix p m c cJ12_newLength 4 s ([.int (nI c1), .int (nI g1), .int (nI k1)] : List Value).toArray lw_all RJ12 := ⟨hx, hb, hml, hown, hts⟩
  have hl := lv_entry ([.int (nI c1), .int (nI g1), .int (nI k1)]) (n := 4) (Nat.le_of_ble_eq_true rfl)
  rw [lg_entry_eq]
  generalize (lg_sl ([.int (nI c1), .int (nI g1), .int (nI k1)]) ++ List.replicate (4 - (lg_sl ([.int (nI c1), .int (nI g1), .int (nI k1)])).length) Slot.unset).toArray = ls at hl ⊢
  have hl : lv_has ls 4 [(0, .int (nI c1)), (1, .int (nI g1)), (2, .int (nI k1))] := hl
  refine lv_iload_n hx hb dJ12_newLength_0 rfl (lv_at hl 0 rfl) ?_
  refine lv_iload_n hx hb dJ12_newLength_1 rfl (lv_at hl 1 rfl) ?_
  refine lv_iload_n hx hb dJ12_newLength_2 rfl (lv_at hl 2 rfl) ?_
  refine va_mmax (x := nI g1) (y := nI k1) (rest := [.int (nI c1)]) hx hb (by rw [hml]; exact hl.1.symm) hown (hts _ q529) (hts _ q530) (hts _ q77) (hts _ q531) (Nat.le_of_ble_eq_true rfl) (Nat.le_of_ble_eq_true rfl) (Nat.le_of_ble_eq_true rfl) (Nat.le_of_ble_eq_true rfl) dJ12_newLength_3 ?_
  refine lv_asi (y := nI (max g1 k1)) (show x_max (nI g1) (nI k1) = _ from x_max_nI (by omega) (by omega)) ?_
  refine lv_iadd hx hb dJ12_newLength_6 ?_
  refine lv_asi (y := nI (c1 + (max g1 k1))) (nI_add c1 (max g1 k1)) ?_
  refine lv_istore_n (lv' := [(3, .int (nI (c1 + (max g1 k1)))), (0, .int (nI c1)), (1, .int (nI g1)), (2, .int (nI k1))]) hx hb dJ12_newLength_7 rfl hl (by decide) rfl (fun ls hl => ?_)
  refine lv_iconst (v := 0) hx hb dJ12_newLength_8 (by decide) ?_
  refine lv_iload_n hx hb dJ12_newLength_9 rfl (lv_at hl 0 rfl) ?_
  refine ln_icmp_ge (tgt := 21) hx hb (a := 0) (b := c1 + (max g1 k1)) (by omega) (by omega) dJ12_newLength_10 (by decide) (fun c_1 => absurd (by omega) (fun h9 => h9)) (fun c_1 => ?_)
  refine lv_iload_n hx hb dJ12_newLength_13 rfl (lv_at hl 0 rfl) ?_
  refine lv_ldc (v := 2147483639) hx hb hown (hts _ q532) dJ12_newLength_14 ?_
  refine ln_icmp_gt (tgt := 21) hx hb (a := c1 + (max g1 k1)) (b := 2147483639) (by omega) (by omega) dJ12_newLength_16 (by decide) (fun c_2 => absurd (by omega) (fun h9 => h9)) (fun c_2 => ?_)
  refine lv_iload_n hx hb dJ12_newLength_19 rfl (lv_at hl 0 rfl) ?_
  exact W.iret (v := nI (c1 + (max g1 k1))) hx hb hr (fun t9 ht9 hW9 => ⟨_, rfl, rfl, ht9⟩) (fun _ h9 => by cases h9) dJ12_newLength_20

set_option maxHeartbeats 4000000 in
set_option maxRecDepth 100000 in
theorem metJ14_copyOf_3 (l : Launch) (D : va_G) (dA : Nat → ClassId) (A : Nat → Prop) (e0 : Nat) (ed : Nat) (cap : Nat) (r : Nat → Option Nat) (n2 : Nat) (mi : Nat) (hc : cap ≤ 90) (hn2 : n2 ≤ 200) : Met l yJ14_copyOf_3 (ws_ yJ14_copyOf_3 cJ14_copyOf_3 4 (some (.array (.object "java/lang/Object")))) ({ frames := 1, cells := 1, slots := 200, locals := 60 } : Room) (va_Pc [.ref ed, .int (nI n2), .ref mi] (fun U => xC D dA A e0 U ∧ va_P D xCl [(ed, .inl (dA 4, cap, .inr (.inr (.inr (.inr r)))))] U.heap ∧ va_D A [(ed, .inl (dA 4, cap, .inr (.inr (.inr (.inr r)))))] ∧ (∀ y, (∃ i, i < min cap n2 ∧ r i = some y) → xAt A U y) ∧ va_Mi "[Ljava/lang/Object;" mi U)) (va_Qr (fun _ : Unit => True) (fun _ a t => va_P D xCl [(ed, .inl (dA 4, cap, .inr (.inr (.inr (.inr r))))), (a, .inl (dA 4, n2, .inr (.inr (.inr (.inr (va_cpy r (fun _ => none) 0 0 (min cap n2)))))))] t.heap ∧ va_D A [(ed, .inl (dA 4, cap, .inr (.inr (.inr (.inr r))))), (a, .inl (dA 4, n2, .inr (.inr (.inr (.inr (va_cpy r (fun _ => none) 0 0 (min cap n2)))))))]) A) 1 200 A := by
  refine Met.ofW (cc := cJ14_copyOf_3) (maxL := 4) (ret := (some (.array (.object "java/lang/Object")))) (by decide) rfl ?_
  intro p e s m args below meth c s₁ B hml hv
  obtain ⟨rfl, hC, hP, hD, hE, hMi⟩ := hv
  have hx := B.exec
  have hb := B.bytes
  have hr := B.returns
  have hts := atoms_spec (ws := (ws_ yJ14_copyOf_3 cJ14_copyOf_3 4 (some (.array (.object "java/lang/Object"))))) B.pre
  have hts : ∀ w ∈ lw_all, w.before _ s = true := fun w h => hts w (List.mem_cons_of_mem _ h)
  have hown : s.vm.findClass RJ14 = some m.cls := findClass_of_methodNamed B.named
  have hlocks := B.notSynchronized
  have S : CallFix p m c cJ14_copyOf_3 4 s ([.ref ed, .int (nI n2), .ref mi] : List Value).toArray lw_all RJ14 := ⟨hx, hb, hml, hown, hts⟩
  have X : xX RJ14 p s m ([.ref ed, .int (nI n2), .ref mi] : List Value).toArray c cJ14_copyOf_3 4 D dA A e0 := ⟨S, hC⟩
  have M : gM D A s [(ed, .inl (dA 4, cap, .inr (.inr (.inr (.inr r)))))] s.heap [] := ⟨hP, hD, va_S.rf⟩
  have hl := lv_entry ([.ref ed, .int (nI n2), .ref mi]) (n := 4) (Nat.le_of_ble_eq_true rfl)
  rw [lg_entry_eq]
  generalize (lg_sl ([.ref ed, .int (nI n2), .ref mi]) ++ List.replicate (4 - (lg_sl ([.ref ed, .int (nI n2), .ref mi])).length) Slot.unset).toArray = ls at hl ⊢
  have hl : lv_has ls 4 [(0, .ref ed), (1, .int (nI n2)), (2, .ref mi)] := hl
  refine lv_aload_n hx hb dJ14_copyOf_3_0 rfl (lv_at hl 2 rfl) ?_
  refine va_ldcM X.hx X.hb X.ow (X.hts _ q790) hMi dJ14_copyOf_3_1 ?_
  refine lv_acmp_ne (rx := some mi) (ry := some mi) (tgt := 13) hx hb dJ14_copyOf_3_3 (by decide) (fun c9 => absurd rfl c9) (fun c9 => ?_)
  refine lv_iload_n hx hb dJ14_copyOf_3_6 rfl (lv_at hl 1 rfl) ?_
  refine g_newq (N' := n2) X 4 rfl (X.hts _ q792) X.T.2.2.2.2.1 M.1 M.2.1 M.2.2 (nI_pos (by omega)) (nI_clamp (by omega)) (by omega) (Nat.le_of_ble_eq_true rfl) (by show 0 + n2 ≤ 200; omega) dJ14_copyOf_3_7 (fun q_1 H hP hD hS => ?_)
  have M : gM D A s [(ed, .inl (dA 4, cap, .inr (.inr (.inr (.inr r))))), (q_1, .inl (dA 4, n2, .inr (.inr (.inr (.inr (fun _ => none))))))] H _ := ⟨hP, hD, hS⟩
  refine W.widen (k := 1) (n := 200) (Nat.le_of_ble_eq_true rfl) (by first | omega | (dsimp only; omega)) ?_
  refine lv_goto (tgt := 24) hx hb dJ14_copyOf_3_10 (by decide) ?_
  refine lv_astore_n (lv' := [(3, .ref q_1), (0, .ref ed), (1, .int (nI n2)), (2, .ref mi)]) hx hb dJ14_copyOf_3_24 rfl hl (by decide) rfl (fun ls hl => ?_)
  refine lv_aload_n hx hb dJ14_copyOf_3_25 rfl (lv_at hl 1 rfl) ?_
  refine lv_iconst (v := 0) hx hb dJ14_copyOf_3_26 (by decide) ?_
  refine lv_aload_n hx hb dJ14_copyOf_3_27 rfl (lv_at hl 0 rfl) ?_
  refine lv_iconst (v := 0) hx hb dJ14_copyOf_3_28 (by decide) ?_
  refine lv_aload_n hx hb dJ14_copyOf_3_29 rfl (lv_at hl 1 rfl) ?_
  refine va_alen (v := nI cap) X.hx X.hb X.K M.1 0 4 rfl rfl rfl dJ14_copyOf_3_30 ?_
  refine lv_iload_n hx hb dJ14_copyOf_3_31 rfl (lv_at hl 2 rfl) ?_
  refine va_mmin (x := nI cap) (y := nI n2) (rest := [.int 0, .ref q_1, .int 0, .ref ed]) hx hb (by rw [hml]; exact hl.1.symm) hown (hts _ q547) (hts _ q548) (hts _ q77) (hts _ q549) (Nat.le_of_ble_eq_true rfl) (Nat.le_of_ble_eq_true rfl) (Nat.le_of_ble_eq_true rfl) (Nat.le_of_ble_eq_true rfl) dJ14_copyOf_3_32 ?_
  refine lv_asi (y := nI (min cap n2)) (show x_min (nI cap) (nI n2) = _ from x_min_nI (by omega) (by omega)) ?_
  refine va_copyM hx hb (by rw [hml]; exact hl.1.symm) hown (hts _ q550) (hts _ q379) (hts _ q378) (hts _ q71) X.K M.1 M.2.1 M.2.2 0 1 4 4 rfl rfl rfl rfl (by decide) (by decide) (nI_pos (by omega)) (by rw [nI_clamp (show min cap n2 < 2 ^ 31 by omega)]; show 0 + min cap n2 ≤ cap; omega) (by rw [nI_clamp (show min cap n2 < 2 ^ 31 by omega)]; show 0 + min cap n2 ≤ n2; omega) (fun i9 h9 y9 e9 => (hE y9 ⟨i9, by rw [nI_clamp (show min cap n2 < 2 ^ 31 by omega)] at h9; exact h9, by rw [← e9]; show r i9 = r (0 + i9); rw [Nat.zero_add]⟩).now M.2.2) (Nat.le_of_ble_eq_true rfl) (Nat.le_of_ble_eq_true rfl) dJ14_copyOf_3_35 (fun H locs hP hD hS => ?_)
  rw [nI_clamp (show min cap n2 < 2 ^ 31 by omega)] at hP hD
  have M : gM D A s [(ed, .inl (dA 4, cap, .inr (.inr (.inr (.inr r))))), (q_1, .inl (dA 4, n2, .inr (.inr (.inr (.inr (va_cpy r (fun _ => none) 0 0 (min cap n2)))))))] H locs := ⟨hP, hD, hS⟩
  refine lv_aload_n hx hb dJ14_copyOf_3_38 rfl (lv_at hl 0 rfl) ?_
  exact W.aret (v := .ref q_1) hx hb hr (Or.inr ⟨_, rfl⟩) (Or.inr ⟨_, rfl⟩) (fun t9 ht9 hW9 => ⟨⟨(), _, rfl, trivial, by rw [ht9]; exact M.1, M.2.1⟩, M.2.2.F ht9⟩) M.2.2.2.2 dJ14_copyOf_3_39

theorem x_arecv {D : va_G} {dA : Nat → ClassId} {s : State} {ws : va_W} {H : Heap} {a n : Nat} {f : Nat → Option Nat} (hK : va_K D xCl (xTy dA) s) (hP : va_P D xCl ws H) (k : Nat) (ha : ws[k]? = some (a, .inl (dA 4, n, .inr (.inr (.inr (.inr f)))))) : ∃ cell : Cell, H[a]? = some cell ∧ cell.vm.isStatics = false ∧ s.vm.findClass "[Ljava/lang/Object;" = some cell.cls :=
  ⟨_, hP k _ ha, rfl, va_nmO (hK.2 4 _ rfl).2 (by decide +kernel)⟩
set_option maxHeartbeats 4000000 in
set_option maxRecDepth 100000 in
theorem metJ14_copyOf_2 (l : Launch) (D : va_G) (dA : Nat → ClassId) (A : Nat → Prop) (e0 : Nat) (ed : Nat) (cap : Nat) (r : Nat → Option Nat) (n2 : Nat) (hc : cap ≤ 90) (hn2 : n2 ≤ 200) : Met l yJ14_copyOf_2 (ws_ yJ14_copyOf_2 cJ14_copyOf_2 2 (some (.array (.object "java/lang/Object")))) ({ frames := 2, cells := 1, slots := 200, locals := 83 } : Room) (va_Pc [.ref ed, .int (nI n2)] (fun U => xC D dA A e0 U ∧ va_P D xCl [(ed, .inl (dA 4, cap, .inr (.inr (.inr (.inr r)))))] U.heap ∧ va_D A [(ed, .inl (dA 4, cap, .inr (.inr (.inr (.inr r)))))] ∧ ∀ y, (∃ i, i < min cap n2 ∧ r i = some y) → xAt A U y)) (va_Qr (fun _ : Unit => True) (fun _ a t => va_P D xCl [(ed, .inl (dA 4, cap, .inr (.inr (.inr (.inr r))))), (a, .inl (dA 4, n2, .inr (.inr (.inr (.inr (va_cpy r (fun _ => none) 0 0 (min cap n2)))))))] t.heap ∧ va_D A [(ed, .inl (dA 4, cap, .inr (.inr (.inr (.inr r))))), (a, .inl (dA 4, n2, .inr (.inr (.inr (.inr (va_cpy r (fun _ => none) 0 0 (min cap n2)))))))]) A) 1 200 A := by
  refine Met.ofW (cc := cJ14_copyOf_2) (maxL := 2) (ret := (some (.array (.object "java/lang/Object")))) (by decide) rfl ?_
  intro p e s m args below meth c s₁ B hml hv
  obtain ⟨rfl, hC, hP, hD, hE⟩ := hv
  have hx := B.exec
  have hb := B.bytes
  have hr := B.returns
  have hts := atoms_spec (ws := (ws_ yJ14_copyOf_2 cJ14_copyOf_2 2 (some (.array (.object "java/lang/Object"))))) B.pre
  have hts : ∀ w ∈ lw_all, w.before _ s = true := fun w h => hts w (List.mem_cons_of_mem _ h)
  have hown : s.vm.findClass RJ14 = some m.cls := findClass_of_methodNamed B.named
  have hlocks := B.notSynchronized
  have S : CallFix p m c cJ14_copyOf_2 2 s ([.ref ed, .int (nI n2)] : List Value).toArray lw_all RJ14 := ⟨hx, hb, hml, hown, hts⟩
  have X : xX RJ14 p s m ([.ref ed, .int (nI n2)] : List Value).toArray c cJ14_copyOf_2 2 D dA A e0 := ⟨S, hC⟩
  have M : gM D A s [(ed, .inl (dA 4, cap, .inr (.inr (.inr (.inr r)))))] s.heap [] := ⟨hP, hD, va_S.rf⟩
  have hl := lv_entry ([.ref ed, .int (nI n2)]) (n := 2) (Nat.le_of_ble_eq_true rfl)
  rw [lg_entry_eq]
  generalize (lg_sl ([.ref ed, .int (nI n2)]) ++ List.replicate (2 - (lg_sl ([.ref ed, .int (nI n2)])).length) Slot.unset).toArray = ls at hl ⊢
  have hl : lv_has ls 2 [(0, .ref ed), (1, .int (nI n2))] := hl
  obtain ⟨mi, hMi⟩ := X.T.2.2.2.2.2.1
  refine lv_aload_n hx hb dJ14_copyOf_2_0 rfl (lv_at hl 0 rfl) ?_
  refine lv_iload_n hx hb dJ14_copyOf_2_1 rfl (lv_at hl 1 rfl) ?_
  refine lv_aload_n hx hb dJ14_copyOf_2_2 rfl (lv_at hl 0 rfl) ?_
  refine va_getC (mi := mi) (rest := [.int (nI n2), .ref ed]) X.hx X.hb (by rw [hml]; exact hl.1.symm) X.ow (X.hts _ q762) (va_Dc.use X.T.2.2.2.2.2.2) (X.hts _ q2002) (X.hts _ q763) (X.hts _ q786) hMi (x_arecv X.K M.1 0 rfl) (Nat.le_of_ble_eq_true rfl) (Nat.le_of_ble_eq_true rfl) dJ14_copyOf_2_3 ?_
  have hPc := M.1.sub (ws' := [(ed, .inl (dA 4, cap, .inr (.inr (.inr (.inr r)))))]) [0] rfl
  have hDc := M.2.1.sub (ws' := [(ed, .inl (dA 4, cap, .inr (.inr (.inr (.inr r)))))]) [0] (by decide) rfl
  have hFc := va_free (wc := [(ed, .inl (dA 4, cap, .inr (.inr (.inr (.inr r)))))]) M.2.1 M.2.2 X.hA [0] rfl
  refine va_callr (va_runS (As := [.ref ed, .int (nI n2), .ref mi]) (rest := []) X.1 (metJ14_copyOf_3 l D dA (va_A [(ed, .inl (dA 4, cap, .inr (.inr (.inr (.inr r)))))] s.heap.size) e0 ed cap r n2 mi hc hn2) (va_cwS 3 hts (lw_S q787 q788 q78 q789) rfl rfl rfl (by decide +kernel) ⟨Nat.le_of_ble_eq_true rfl, Nat.le_of_ble_eq_true rfl⟩) ⟨gPre_blindM, fun U hU hW => ⟨rfl, X.Cn M.2.2 hFc hU hW, by rw [hU]; exact hPc, hDc.self, (fun y hy => (hE y hy).call M.2.2 hFc hU hW), hMi.moved hW.alike⟩⟩ rfl rfl hl.1 rfl (lv_room (Nat.le_of_ble_eq_true rfl)) dJ14_copyOf_2_6 ⟨Nat.le_of_ble_eq_true rfl, Nat.le_of_ble_eq_true rfl⟩) M.2.2 (fun q _ h => hFc q h) hFc (fun u9 a9 t9 H locs ht9 hvm9 hp9 hB9 hz9 hk9 hS => ?_)
  obtain ⟨hP1, hD1⟩ := hB9
  rw [ht9] at hP1
  obtain ⟨hP, hD⟩ := va_join (wr := []) (w1 := [(ed, .inl (dA 4, cap, .inr (.inr (.inr (.inr r))))), (a9, .inl (dA 4, n2, .inr (.inr (.inr (.inr (va_cpy r (fun _ => none) 0 0 (min cap n2)))))))]) M.1 M.2.1 [0] [] rfl rfl (by decide) (by decide) hk9 hFc hP1 hD1
  have M : gM D A s [(ed, .inl (dA 4, cap, .inr (.inr (.inr (.inr r))))), (a9, .inl (dA 4, n2, .inr (.inr (.inr (.inr (va_cpy r (fun _ => none) 0 0 (min cap n2)))))))] H locs := ⟨hP, hD, hS⟩
  refine W.widen (k := 1) (n := 200) (Nat.le_of_ble_eq_true rfl) (Nat.le_of_ble_eq_true rfl) ?_
  exact W.aret (v := .ref a9) hx hb hr (Or.inr ⟨_, rfl⟩) (Or.inr ⟨_, rfl⟩) (fun t9 ht9 hW9 => ⟨⟨(), _, rfl, trivial, by rw [ht9]; exact M.1, M.2.1⟩, M.2.2.F ht9⟩) M.2.2.2.2 dJ14_copyOf_2_9

def xAdd (n y0 : Nat) (r : Nat → Option Nat) (u : Nat × Nat × (Nat → Option Nat)) : Prop := (∀ i, i < n → u.2.2 i = r i) ∧ u.2.2 n = some y0 ∧ n + 1 ≤ u.2.1 ∧ 0 < u.2.1 ∧ u.2.1 ≤ 90
theorem xAdd_up {n y0 ed cap : Nat} {r : Nat → Option Nat} (h1 : n < cap) (h2 : cap ≤ 90) : xAdd n y0 r (ed, cap, va_up r n (some y0)) := ⟨fun i hi => up_n _ _ (by omega), up_s _ _ _, h1, by show 0 < cap; omega, h2⟩
theorem xAdd_cp {n y0 ed cap c2 : Nat} {r : Nat → Option Nat} (he : n = cap) (h1 : cap < c2) (h2 : c2 ≤ 90) : xAdd n y0 r (ed, c2, va_up (va_cpy r (fun _ => none) 0 0 (min cap c2)) n (some y0)) := by
  refine ⟨fun i hi => ?_, up_s _ _ _, by show n + 1 ≤ c2; omega, by show 0 < c2; omega, h2⟩
  show va_up (va_cpy r (fun _ => none) 0 0 (min cap c2)) n (some y0) i = r i
  rw [up_n _ _ (by omega)]
  unfold va_cpy
  rw [if_pos ⟨Nat.zero_le _, by rw [Nat.min_eq_left (by omega)]; omega⟩, Nat.zero_add, Nat.sub_zero]
theorem xAdd_s {y0 ed : Nat} {r g : Nat → Option Nat} : xAdd 0 y0 r (ed, 10, va_up g 0 (some y0)) := ⟨fun i hi => absurd hi (Nat.not_lt_zero _), (show va_up g 0 (some y0) 0 = some y0 from up_s _ _ _), by show 0 + 1 ≤ 10; omega, by show 0 < 10; omega, by show 10 ≤ 90; omega⟩
set_option maxHeartbeats 4000000 in
set_option maxRecDepth 100000 in
theorem metJ2_grow_2S (l : Launch) (D : va_G) (dA : Nat → ClassId) (A : Nat → Prop) (e0 : Nat) (a : Nat) (mc : Int32) : Met l yJ2_grow_2 (ws_ yJ2_grow_2 cJ2_grow_2 4 (some (.array (.object "java/lang/Object")))) ({ frames := 1, cells := 1, slots := 10, locals := 60 } : Room) (va_Pc [.ref a, .int 1] (fun U => xC D dA A e0 U ∧ va_P D xCl [(a, .inr (2, [.int mc, .ref e0, .int 0]))] U.heap ∧ va_D A [(a, .inr (2, [.int mc, .ref e0, .int 0]))])) (va_Qr (fun _ : Unit => True) (fun _ q t => va_P D xCl [(a, .inr (2, [.int mc, .ref q, .int 0])), (q, .inl (dA 4, 10, .inr (.inr (.inr (.inr (fun _ => none))))))] t.heap ∧ va_D A [(a, .inr (2, [.int mc, .ref q, .int 0])), (q, .inl (dA 4, 10, .inr (.inr (.inr (.inr (fun _ => none))))))]) A) 1 10 A := by
  refine Met.ofW (cc := cJ2_grow_2) (maxL := 4) (ret := (some (.array (.object "java/lang/Object")))) (by decide) rfl ?_
  intro p e s m args below meth c s₁ B hml hv
  obtain ⟨rfl, hC, hP, hD⟩ := hv
  have hx := B.exec
  have hb := B.bytes
  have hr := B.returns
  have hts := atoms_spec (ws := (ws_ yJ2_grow_2 cJ2_grow_2 4 (some (.array (.object "java/lang/Object"))))) B.pre
  have hts : ∀ w ∈ lw_all, w.before _ s = true := fun w h => hts w (List.mem_cons_of_mem _ h)
  have hown : s.vm.findClass RJ2 = some m.cls := findClass_of_methodNamed B.named
  have hlocks := B.notSynchronized
  have S : CallFix p m c cJ2_grow_2 4 s ([.ref a, .int 1] : List Value).toArray lw_all RJ2 := ⟨hx, hb, hml, hown, hts⟩
  have X : xX RJ2 p s m ([.ref a, .int 1] : List Value).toArray c cJ2_grow_2 4 D dA A e0 := ⟨S, hC⟩
  have M : gM D A s [(a, .inr (2, [.int mc, .ref e0, .int 0]))] s.heap [] := ⟨hP, hD, va_S.rf⟩
  have hl := lv_entry ([.ref a, .int 1]) (n := 4) (Nat.le_of_ble_eq_true rfl)
  rw [lg_entry_eq]
  generalize (lg_sl ([.ref a, .int 1]) ++ List.replicate (4 - (lg_sl ([.ref a, .int 1])).length) Slot.unset).toArray = ls at hl ⊢
  have hl : lv_has ls 4 [(0, .ref a), (1, .int 1)] := hl
  refine lv_aload_n hx hb dJ2_grow_2_0 rfl (lv_at hl 0 rfl) ?_
  refine va_get (cl := xCl) (ci := 2) (fs := [.int mc, .ref e0, .int 0]) X.hx X.hb X.hts in_J2 X.ow X.K M.1 0 rfl rfl 1 (by decide) (X.hts _ q118) (fun _ h9 => h9) rfl dJ2_grow_2_1 ?_
  refine va_tlen (v := 0) X.hx X.hb X.Z.2.1 M.2.2 rfl dJ2_grow_2_4 ?_
  refine lv_istore_n (lv' := [(2, .int 0), (0, .ref a), (1, .int 1)]) hx hb dJ2_grow_2_5 rfl hl (by decide) rfl (fun ls hl => ?_)
  refine lv_iload_n hx hb dJ2_grow_2_6 rfl (lv_at hl 0 rfl) ?_
  refine lb_if_gt (tgt := 20) hx hb dJ2_grow_2_7 (by decide) (fun c_1 c_1' => absurd c_1 (by decide)) (fun c_1 c_1' => ?_)
  refine lv_aload_n hx hb dJ2_grow_2_10 rfl (lv_at hl 1 rfl) ?_
  refine va_get (cl := xCl) (ci := 2) (fs := [.int mc, .ref e0, .int 0]) X.hx X.hb X.hts in_J2 X.ow X.K M.1 0 rfl rfl 1 (by decide) (X.hts _ q118) (fun _ h9 => h9) rfl dJ2_grow_2_11 ?_
  refine va_gets X.hx X.hb X.Z.1 M.2.2 X.ow (X.hts _ q116) (fun _ h9 => h9) dJ2_grow_2_14 ?_
  refine lv_acmp_eq (rx := some e0) (ry := some e0) (tgt := 45) hx hb dJ2_grow_2_17 (by decide) (fun c9 => ?_) (fun c9 => absurd rfl c9)
  refine lv_aload_n hx hb dJ2_grow_2_45 rfl (lv_at hl 1 rfl) ?_
  refine lv_bipush (v := 10) hx hb dJ2_grow_2_46 (by decide) ?_
  refine lv_iload_n hx hb dJ2_grow_2_48 rfl (lv_at hl 2 rfl) ?_
  refine va_mmax (x := 10) (y := 1) (rest := [.ref a]) hx hb (by rw [hml]; exact hl.1.symm) hown (hts _ q793) (hts _ q530) (hts _ q77) (hts _ q531) (Nat.le_of_ble_eq_true rfl) (Nat.le_of_ble_eq_true rfl) (Nat.le_of_ble_eq_true rfl) (Nat.le_of_ble_eq_true rfl) dJ2_grow_2_49 ?_
  refine lv_asi (y := nI 10) (show x_max 10 1 = _ from by decide) ?_
  refine g_newq (N' := 10) X 4 rfl (X.hts _ q794) X.T.2.2.2.2.1 M.1 M.2.1 M.2.2 (nI_pos (by omega)) (nI_clamp (by omega)) (by omega) (Nat.le_of_ble_eq_true rfl) (by show 0 + 10 ≤ 10; omega) dJ2_grow_2_52 (fun q_2 H hP hD hS => ?_)
  have M : gM D A s [(a, .inr (2, [.int mc, .ref e0, .int 0])), (q_2, .inl (dA 4, 10, .inr (.inr (.inr (.inr (fun _ => none))))))] H _ := ⟨hP, hD, hS⟩
  refine W.widen (k := 1) (n := 10) (Nat.le_of_ble_eq_true rfl) (by first | omega | (dsimp only; omega)) ?_
  refine lv_dup_x1 hx hb dJ2_grow_2_55 rfl rfl ?_
  refine va_put (cl := xCl) (D := D) (ci := 2) (fs := [.int mc, .ref e0, .int 0]) (v := .ref q_2) (ty := .array (.object "java/lang/Object")) X.hx X.hb X.hts in_J2 tyJ2 tyJ2_ok nmJ2 X.ow X.K M.1 M.2.1 M.2.2 0 rfl rfl 1 (by decide) (X.hts _ q118) (fun _ h9 => h9) rfl (by decide +kernel) rfl rfl (Nat.le_of_ble_eq_true rfl) dJ2_grow_2_56 (fun H locs hP hD hS => ?_)
  have M : gM D A s [(a, .inr (2, [.int mc, .ref q_2, .int 0])), (q_2, .inl (dA 4, 10, .inr (.inr (.inr (.inr (fun _ => none))))))] H locs := ⟨hP, hD, hS⟩
  exact W.aret (v := .ref q_2) hx hb hr (Or.inr ⟨_, rfl⟩) (Or.inr ⟨_, rfl⟩) (fun t9 ht9 hW9 => ⟨⟨(), _, rfl, trivial, by rw [ht9]; exact M.1, M.2.1⟩, M.2.2.F ht9⟩) M.2.2.2.2 dJ2_grow_2_59

set_option maxHeartbeats 4000000 in
set_option maxRecDepth 100000 in
theorem metJ2_growS (l : Launch) (D : va_G) (dA : Nat → ClassId) (A : Nat → Prop) (e0 : Nat) (a : Nat) (mc : Int32) : Met l yJ2_grow (ws_ yJ2_grow cJ2_grow 1 (some (.array (.object "java/lang/Object")))) ({ frames := 2, cells := 1, slots := 10, locals := 83 } : Room) (va_Pc [.ref a] (fun U => xC D dA A e0 U ∧ va_P D xCl [(a, .inr (2, [.int mc, .ref e0, .int 0]))] U.heap ∧ va_D A [(a, .inr (2, [.int mc, .ref e0, .int 0]))])) (va_Qr (fun _ : Unit => True) (fun _ q t => va_P D xCl [(a, .inr (2, [.int mc, .ref q, .int 0])), (q, .inl (dA 4, 10, .inr (.inr (.inr (.inr (fun _ => none))))))] t.heap ∧ va_D A [(a, .inr (2, [.int mc, .ref q, .int 0])), (q, .inl (dA 4, 10, .inr (.inr (.inr (.inr (fun _ => none))))))]) A) 1 10 A := by
  refine Met.ofW (cc := cJ2_grow) (maxL := 1) (ret := (some (.array (.object "java/lang/Object")))) (by decide) rfl ?_
  intro p e s m args below meth c s₁ B hml hv
  obtain ⟨rfl, hC, hP, hD⟩ := hv
  have hx := B.exec
  have hb := B.bytes
  have hr := B.returns
  have hts := atoms_spec (ws := (ws_ yJ2_grow cJ2_grow 1 (some (.array (.object "java/lang/Object"))))) B.pre
  have hts : ∀ w ∈ lw_all, w.before _ s = true := fun w h => hts w (List.mem_cons_of_mem _ h)
  have hown : s.vm.findClass RJ2 = some m.cls := findClass_of_methodNamed B.named
  have hlocks := B.notSynchronized
  have S : CallFix p m c cJ2_grow 1 s ([.ref a] : List Value).toArray lw_all RJ2 := ⟨hx, hb, hml, hown, hts⟩
  have X : xX RJ2 p s m ([.ref a] : List Value).toArray c cJ2_grow 1 D dA A e0 := ⟨S, hC⟩
  have M : gM D A s [(a, .inr (2, [.int mc, .ref e0, .int 0]))] s.heap [] := ⟨hP, hD, va_S.rf⟩
  have hl := lv_entry ([.ref a]) (n := 1) (Nat.le_of_ble_eq_true rfl)
  rw [lg_entry_eq]
  generalize (lg_sl ([.ref a]) ++ List.replicate (1 - (lg_sl ([.ref a])).length) Slot.unset).toArray = ls at hl ⊢
  have hl : lv_has ls 1 [(0, .ref a)] := hl
  refine lv_aload_n hx hb dJ2_grow_0 rfl (lv_at hl 0 rfl) ?_
  refine lv_aload_n hx hb dJ2_grow_1 rfl (lv_at hl 0 rfl) ?_
  refine va_get (cl := xCl) (ci := 2) (fs := [.int mc, .ref e0, .int 0]) X.hx X.hb X.hts in_J2 X.ow X.K M.1 0 rfl rfl 2 (by decide) (X.hts _ q119) (fun _ h9 => h9) rfl dJ2_grow_2 ?_
  refine lv_iconst (v := 1) hx hb dJ2_grow_5 (by decide) ?_
  refine lv_iadd hx hb dJ2_grow_6 ?_
  refine lv_asi (y := 1) (by decide) ?_
  have hPc := M.1.sub (ws' := [(a, .inr (2, [.int mc, .ref e0, .int 0]))]) [0] rfl
  have hDc := M.2.1.sub (ws' := [(a, .inr (2, [.int mc, .ref e0, .int 0]))]) [0] (by decide) rfl
  have hFc := va_free (wc := [(a, .inr (2, [.int mc, .ref e0, .int 0]))]) M.2.1 M.2.2 X.hA [0] rfl
  refine va_callr (va_runV (As := [.int 1]) (rest := []) X.1 (metJ2_grow_2S l D dA (va_A [(a, .inr (2, [.int mc, .ref e0, .int 0]))] s.heap.size) e0 a mc) (cwV 1 hts (lw_V q754 q756 qs12 q60 q757) rfl rfl rfl (by decide +kernel) ⟨Nat.le_of_ble_eq_true rfl, Nat.le_of_ble_eq_true rfl⟩) ⟨gPre_blindD, va_recv (cl := xCl) X.K M.1 (ci := 2) (q0 := 0) rfl rfl, fun U hU hW => ⟨rfl, X.Cn M.2.2 hFc hU hW, by rw [hU]; exact hPc, hDc.self⟩⟩ rfl rfl hl.1 rfl (lv_room (Nat.le_of_ble_eq_true rfl)) dJ2_grow_7 ⟨Nat.le_of_ble_eq_true rfl, Nat.le_of_ble_eq_true rfl⟩) M.2.2 (fun q _ h => hFc q h) hFc (fun u9 a9 t9 H locs ht9 hvm9 hp9 hB9 hz9 hk9 hS => ?_)
  obtain ⟨hP1, hD1⟩ := hB9
  rw [ht9] at hP1
  obtain ⟨hP, hD⟩ := va_join (wr := []) (w1 := [(a, .inr (2, [.int mc, .ref a9, .int 0])), (a9, .inl (dA 4, 10, .inr (.inr (.inr (.inr (fun _ => none))))))]) M.1 M.2.1 [0] [] rfl rfl (by decide) (by decide) hk9 hFc hP1 hD1
  have M : gM D A s [(a, .inr (2, [.int mc, .ref a9, .int 0])), (a9, .inl (dA 4, 10, .inr (.inr (.inr (.inr (fun _ => none))))))] H locs := ⟨hP, hD, hS⟩
  refine W.widen (k := 1) (n := 10) (Nat.le_of_ble_eq_true rfl) (Nat.le_of_ble_eq_true rfl) ?_
  exact W.aret (v := .ref a9) hx hb hr (Or.inr ⟨_, rfl⟩) (Or.inr ⟨_, rfl⟩) (fun t9 ht9 hW9 => ⟨⟨(), _, rfl, trivial, by rw [ht9]; exact M.1, M.2.1⟩, M.2.2.F ht9⟩) M.2.2.2.2 dJ2_grow_10

set_option maxHeartbeats 4000000 in
set_option maxRecDepth 100000 in
theorem metJ2_add_2S (l : Launch) (D : va_G) (dA : Nat → ClassId) (A : Nat → Prop) (e0 : Nat) (a : Nat) (mc : Int32) (y0 : Nat) (r : Nat → Option Nat) : Met l yJ2_add_2 (ws_ yJ2_add_2 cJ2_add_2 4 none) ({ frames := 3, cells := 1, slots := 10, locals := 103 } : Room) (va_Pc [.ref a, .ref y0, .ref e0, .int 0] (fun U => xC D dA A e0 U ∧ va_P D xCl [(a, .inr (2, [.int mc, .ref e0, .int 0]))] U.heap ∧ va_D A [(a, .inr (2, [.int mc, .ref e0, .int 0]))] ∧ ∀ y, y = y0 → xAt A U y)) (va_Qv (xAdd 0 y0 r) (fun u t => va_P D xCl [(a, .inr (2, [.int (mc), .ref u.1, .int (1)])), (u.1, .inl (dA 4, u.2.1, .inr (.inr (.inr (.inr u.2.2)))))] t.heap ∧ va_D A [(a, .inr (2, [.int (mc), .ref u.1, .int (1)])), (u.1, .inl (dA 4, u.2.1, .inr (.inr (.inr (.inr u.2.2)))))]) A) 1 10 A := by
  refine Met.ofW (cc := cJ2_add_2) (maxL := 4) (ret := none) (by decide) rfl ?_
  intro p e s m args below meth c s₁ B hml hv
  obtain ⟨rfl, hC, hP, hD, hE⟩ := hv
  have hx := B.exec
  have hb := B.bytes
  have hr := B.returns
  have hts := atoms_spec (ws := (ws_ yJ2_add_2 cJ2_add_2 4 none)) B.pre
  have hts : ∀ w ∈ lw_all, w.before _ s = true := fun w h => hts w (List.mem_cons_of_mem _ h)
  have hown : s.vm.findClass RJ2 = some m.cls := findClass_of_methodNamed B.named
  have hlocks := B.notSynchronized
  have S : CallFix p m c cJ2_add_2 4 s ([.ref a, .ref y0, .ref e0, .int 0] : List Value).toArray lw_all RJ2 := ⟨hx, hb, hml, hown, hts⟩
  have X : xX RJ2 p s m ([.ref a, .ref y0, .ref e0, .int 0] : List Value).toArray c cJ2_add_2 4 D dA A e0 := ⟨S, hC⟩
  have M : gM D A s [(a, .inr (2, [.int mc, .ref e0, .int 0]))] s.heap [] := ⟨hP, hD, va_S.rf⟩
  have hl := lv_entry ([.ref a, .ref y0, .ref e0, .int 0]) (n := 4) (Nat.le_of_ble_eq_true rfl)
  rw [lg_entry_eq]
  generalize (lg_sl ([.ref a, .ref y0, .ref e0, .int 0]) ++ List.replicate (4 - (lg_sl ([.ref a, .ref y0, .ref e0, .int 0])).length) Slot.unset).toArray = ls at hl ⊢
  have hl : lv_has ls 4 [(0, .ref a), (1, .ref y0), (2, .ref e0), (3, .int 0)] := hl
  refine lv_iload_n hx hb dJ2_add_2_0 rfl (lv_at hl 3 rfl) ?_
  refine lv_aload_n hx hb dJ2_add_2_1 rfl (lv_at hl 2 rfl) ?_
  refine va_tlen (v := 0) X.hx X.hb X.Z.2.1 M.2.2 rfl dJ2_add_2_2 ?_
  refine lv_icmp_ne (tgt := 11) hx hb dJ2_add_2_3 (by decide) (fun c_1 => absurd c_1 (by decide)) (fun c_1 => ?_)
  refine lv_aload_n hx hb dJ2_add_2_6 rfl (lv_at hl 0 rfl) ?_
  have hPc := M.1.sub (ws' := [(a, .inr (2, [.int mc, .ref e0, .int 0]))]) [0] rfl
  have hDc := M.2.1.sub (ws' := [(a, .inr (2, [.int mc, .ref e0, .int 0]))]) [0] (by decide) rfl
  have hFc := va_free (wc := [(a, .inr (2, [.int mc, .ref e0, .int 0]))]) M.2.1 M.2.2 X.hA [0] rfl
  refine va_callr (va_runV (As := []) (rest := []) X.1 (metJ2_growS l D dA (va_A [(a, .inr (2, [.int mc, .ref e0, .int 0]))] s.heap.size) e0 a mc) (cwV 0 hts (lw_V q750 q752 qs11 q60 q753) rfl rfl rfl (by decide +kernel) ⟨Nat.le_of_ble_eq_true rfl, Nat.le_of_ble_eq_true rfl⟩) ⟨gPre_blindD, va_recv (cl := xCl) X.K M.1 (ci := 2) (q0 := 0) rfl rfl, fun U hU hW => ⟨rfl, X.Cn M.2.2 hFc hU hW, by rw [hU]; exact hPc, hDc.self⟩⟩ rfl rfl hl.1 rfl (lv_room (Nat.le_of_ble_eq_true rfl)) dJ2_add_2_7 ⟨Nat.le_of_ble_eq_true rfl, Nat.le_of_ble_eq_true rfl⟩) M.2.2 (fun q _ h => hFc q h) hFc (fun u9 a9 t9 H locs ht9 hvm9 hp9 hB9 hz9 hk9 hS => ?_)
  obtain ⟨hP1, hD1⟩ := hB9
  rw [ht9] at hP1
  obtain ⟨hP, hD⟩ := va_join (wr := []) (w1 := [(a, .inr (2, [.int mc, .ref a9, .int 0])), (a9, .inl (dA 4, 10, .inr (.inr (.inr (.inr (fun _ => none))))))]) M.1 M.2.1 [0] [] rfl rfl (by decide) (by decide) hk9 hFc hP1 hD1
  have M : gM D A s [(a, .inr (2, [.int mc, .ref a9, .int 0])), (a9, .inl (dA 4, 10, .inr (.inr (.inr (.inr (fun _ => none))))))] H locs := ⟨hP, hD, hS⟩
  refine W.widen (k := 1) (n := 10) (Nat.le_of_ble_eq_true rfl) (Nat.le_of_ble_eq_true rfl) ?_
  refine lv_astore_n (lv' := [(2, .ref a9), (0, .ref a), (1, .ref y0), (3, .int 0)]) hx hb dJ2_add_2_10 rfl hl (by decide) rfl (fun ls hl => ?_)
  refine lv_aload_n hx hb dJ2_add_2_11 rfl (lv_at hl 0 rfl) ?_
  refine lv_iload_n hx hb dJ2_add_2_12 rfl (lv_at hl 3 rfl) ?_
  refine lv_aload_n hx hb dJ2_add_2_13 rfl (lv_at hl 2 rfl) ?_
  refine va_astqM X.hx X.hb X.K M.1 M.2.1 M.2.2 1 4 rfl rfl ((hE y0 rfl).now M.2.2) (show vp_in (nI 0) _ from vp_in_nI (by decide) (by decide)) dJ2_add_2_14 (fun H locs hP hD hS => ?_)
  have M : gM D A s [(a, .inr (2, [.int mc, .ref a9, .int 0])), (a9, .inl (dA 4, 10, .inr (.inr (.inr (.inr (va_up (fun _ => none) 0 (some y0)))))))] H locs := ⟨hP, hD, hS⟩
  refine lv_aload_n hx hb dJ2_add_2_15 rfl (lv_at hl 1 rfl) ?_
  refine lv_iload_n hx hb dJ2_add_2_16 rfl (lv_at hl 3 rfl) ?_
  refine lv_iconst (v := 1) hx hb dJ2_add_2_17 (by decide) ?_
  refine lv_iadd hx hb dJ2_add_2_18 ?_
  refine lv_asi (y := 1) (by decide) ?_
  refine va_put (cl := xCl) (D := D) (ci := 2) (fs := [.int mc, .ref a9, .int 0]) (v := .int 1) (ty := .int) X.hx X.hb X.hts in_J2 tyJ2 tyJ2_ok nmJ2 X.ow X.K M.1 M.2.1 M.2.2 0 rfl rfl 2 (by decide) (X.hts _ q119) (fun _ h9 => h9) rfl (by decide +kernel) rfl rfl (Nat.le_of_ble_eq_true rfl) dJ2_add_2_19 (fun H locs hP hD hS => ?_)
  have M : gM D A s [(a, .inr (2, [.int mc, .ref a9, .int 1])), (a9, .inl (dA 4, 10, .inr (.inr (.inr (.inr (va_up (fun _ => none) 0 (some y0)))))))] H locs := ⟨hP, hD, hS⟩
  exact W.vret hx hb hr (fun t9 ht9 hW9 => ⟨⟨(a9, 10, va_up (fun _ => none) 0 (some y0)), rfl, xAdd_s, by rw [ht9]; exact M.1, M.2.1⟩, M.2.2.F ht9⟩) M.2.2.2.2 dJ2_add_2_22

set_option maxHeartbeats 4000000 in
set_option maxRecDepth 100000 in
theorem metJ2_grow_2O (l : Launch) (D : va_G) (dA : Nat → ClassId) (A : Nat → Prop) (e0 : Nat) (a : Nat) (mc : Int32) (ed : Nat) (cap : Nat) (r : Nat → Option Nat) (n : Nat) (hc : cap ≤ 90) (hp : 0 < cap) (hn60 : n < 60) (he : n = cap) : Met l yJ2_grow_2 (ws_ yJ2_grow_2 cJ2_grow_2 4 (some (.array (.object "java/lang/Object")))) ({ frames := 3, cells := 1, slots := 200, locals := 104 } : Room) (va_Pc [.ref a, .int (nI (n + 1))] (fun U => xC D dA A e0 U ∧ va_P D xCl [(a, .inr (2, [.int mc, .ref ed, .int (nI n)])), (ed, .inl (dA 4, cap, .inr (.inr (.inr (.inr r)))))] U.heap ∧ va_D A [(a, .inr (2, [.int mc, .ref ed, .int (nI n)])), (ed, .inl (dA 4, cap, .inr (.inr (.inr (.inr r)))))] ∧ ∀ y, (∃ i, i < n ∧ r i = some y) → xAt A U y)) (va_Qr (fun _ : Unit => True) (fun _ q t => va_P D xCl [(a, .inr (2, [.int mc, .ref q, .int (nI n)])), (q, .inl (dA 4, (cap + max (n + 1 - cap) (cap / 2 ^ 1)), .inr (.inr (.inr (.inr (va_cpy r (fun _ => none) 0 0 (min cap (cap + max (n + 1 - cap) (cap / 2 ^ 1)))))))))] t.heap ∧ va_D A [(a, .inr (2, [.int mc, .ref q, .int (nI n)])), (q, .inl (dA 4, (cap + max (n + 1 - cap) (cap / 2 ^ 1)), .inr (.inr (.inr (.inr (va_cpy r (fun _ => none) 0 0 (min cap (cap + max (n + 1 - cap) (cap / 2 ^ 1)))))))))]) A) 1 200 A := by
  refine Met.ofW (cc := cJ2_grow_2) (maxL := 4) (ret := (some (.array (.object "java/lang/Object")))) (by decide) rfl ?_
  intro p e s m args below meth c s₁ B hml hv
  obtain ⟨rfl, hC, hP, hD, hE⟩ := hv
  have hx := B.exec
  have hb := B.bytes
  have hr := B.returns
  have hts := atoms_spec (ws := (ws_ yJ2_grow_2 cJ2_grow_2 4 (some (.array (.object "java/lang/Object"))))) B.pre
  have hts : ∀ w ∈ lw_all, w.before _ s = true := fun w h => hts w (List.mem_cons_of_mem _ h)
  have hown : s.vm.findClass RJ2 = some m.cls := findClass_of_methodNamed B.named
  have hlocks := B.notSynchronized
  have S : CallFix p m c cJ2_grow_2 4 s ([.ref a, .int (nI (n + 1))] : List Value).toArray lw_all RJ2 := ⟨hx, hb, hml, hown, hts⟩
  have X : xX RJ2 p s m ([.ref a, .int (nI (n + 1))] : List Value).toArray c cJ2_grow_2 4 D dA A e0 := ⟨S, hC⟩
  have M : gM D A s [(a, .inr (2, [.int mc, .ref ed, .int (nI n)])), (ed, .inl (dA 4, cap, .inr (.inr (.inr (.inr r)))))] s.heap [] := ⟨hP, hD, va_S.rf⟩
  have hl := lv_entry ([.ref a, .int (nI (n + 1))]) (n := 4) (Nat.le_of_ble_eq_true rfl)
  rw [lg_entry_eq]
  generalize (lg_sl ([.ref a, .int (nI (n + 1))]) ++ List.replicate (4 - (lg_sl ([.ref a, .int (nI (n + 1))])).length) Slot.unset).toArray = ls at hl ⊢
  have hl : lv_has ls 4 [(0, .ref a), (1, .int (nI (n + 1)))] := hl
  refine lv_aload_n hx hb dJ2_grow_2_0 rfl (lv_at hl 0 rfl) ?_
  refine va_get (cl := xCl) (ci := 2) (fs := [.int mc, .ref ed, .int (nI n)]) X.hx X.hb X.hts in_J2 X.ow X.K M.1 0 rfl rfl 1 (by decide) (X.hts _ q118) (fun _ h9 => h9) rfl dJ2_grow_2_1 ?_
  refine va_alen (v := nI cap) X.hx X.hb X.K M.1 1 4 rfl rfl rfl dJ2_grow_2_4 ?_
  refine lv_istore_n (lv' := [(2, .int (nI cap)), (0, .ref a), (1, .int (nI (n + 1)))]) hx hb dJ2_grow_2_5 rfl hl (by decide) rfl (fun ls hl => ?_)
  refine lv_iload_n hx hb dJ2_grow_2_6 rfl (lv_at hl 0 rfl) ?_
  refine lb_if_gt (tgt := 20) hx hb dJ2_grow_2_7 (by decide) (fun c_1 c_1' => ?_) (fun c_1 c_1' => absurd (Int32.not_le.mpr (nI_lt (a := 0) hp (by omega)) c_1) (fun h9 => h9))
  refine lv_iload_n hx hb dJ2_grow_2_20 rfl (lv_at hl 0 rfl) ?_
  refine lv_iload_n hx hb dJ2_grow_2_21 rfl (lv_at hl 2 rfl) ?_
  refine lv_iload_n hx hb dJ2_grow_2_22 rfl (lv_at hl 0 rfl) ?_
  refine lv_isub hx hb dJ2_grow_2_23 ?_
  refine lv_asi (y := nI ((n + 1) - cap)) (nI_subN (a := n + 1) (b := cap) (by omega)) ?_
  refine lv_iload_n hx hb dJ2_grow_2_24 rfl (lv_at hl 0 rfl) ?_
  refine lv_iconst (v := 1) hx hb dJ2_grow_2_25 (by decide) ?_
  refine lv_ishr hx hb dJ2_grow_2_26 ?_
  refine lv_asi (y := nI (cap / 2 ^ 1)) (pk_shrN (n := cap) (by omega) ((1 : Int32) &&& 31) 1 (by decide)) ?_
  refine s_cI (v := nI (cap + max ((n + 1) - cap) (cap / 2 ^ 1))) (As := [.int (nI cap), .int (nI ((n + 1) - cap)), .int (nI (cap / 2 ^ 1))]) (rest := []) S (metJ12_newLength l cap ((n + 1) - cap) (cap / 2 ^ 1) (by omega) (by omega) (by omega) (by omega)) (va_cwS 3 hts (lw_S q758 q527 q76 q528) rfl rfl rfl (by decide +kernel) ⟨Nat.le_of_ble_eq_true rfl, Nat.le_of_ble_eq_true rfl⟩) rfl hl.1 rfl (Nat.le_of_ble_eq_true rfl) dJ2_grow_2_27 ⟨Nat.le_of_ble_eq_true rfl, Nat.le_of_ble_eq_true rfl⟩ ?_
  refine lv_istore_n (lv' := [(3, .int (nI (cap + max ((n + 1) - cap) (cap / 2 ^ 1)))), (2, .int (nI cap)), (0, .ref a), (1, .int (nI (n + 1)))]) hx hb dJ2_grow_2_30 rfl hl (by decide) rfl (fun ls hl => ?_)
  refine lv_aload_n hx hb dJ2_grow_2_31 rfl (lv_at hl 2 rfl) ?_
  refine lv_aload_n hx hb dJ2_grow_2_32 rfl (lv_at hl 2 rfl) ?_
  refine va_get (cl := xCl) (ci := 2) (fs := [.int mc, .ref ed, .int (nI n)]) X.hx X.hb X.hts in_J2 X.ow X.K M.1 0 rfl rfl 1 (by decide) (X.hts _ q118) (fun _ h9 => h9) rfl dJ2_grow_2_33 ?_
  refine lv_iload_n hx hb dJ2_grow_2_36 rfl (lv_at hl 0 rfl) ?_
  have hPc := M.1.sub (ws' := [(ed, .inl (dA 4, cap, .inr (.inr (.inr (.inr r)))))]) [1] rfl
  have hDc := M.2.1.sub (ws' := [(ed, .inl (dA 4, cap, .inr (.inr (.inr (.inr r)))))]) [1] (by decide) rfl
  have hFc := va_free (wc := [(ed, .inl (dA 4, cap, .inr (.inr (.inr (.inr r)))))]) M.2.1 M.2.2 X.hA [1] rfl
  refine va_callr (va_runS (As := [.ref ed, .int (nI (cap + max (n + 1 - cap) (cap / 2 ^ 1)))]) (rest := [.ref a]) X.1 (metJ14_copyOf_2 l D dA (va_A [(ed, .inl (dA 4, cap, .inr (.inr (.inr (.inr r)))))] s.heap.size) e0 ed cap r (cap + max (n + 1 - cap) (cap / 2 ^ 1)) hc (by omega)) (va_cwS 2 hts (lw_S q759 q760 q78 q761) rfl rfl rfl (by decide +kernel) ⟨Nat.le_of_ble_eq_true rfl, Nat.le_of_ble_eq_true rfl⟩) ⟨gPre_blindE, fun U hU hW => ⟨rfl, X.Cn M.2.2 hFc hU hW, by rw [hU]; exact hPc, hDc.self, fun y hy => (hE y (by obtain ⟨i, h1, h2⟩ := hy; exact ⟨i, by omega, h2⟩)).call M.2.2 hFc hU hW⟩⟩ rfl rfl hl.1 rfl (lv_room (Nat.le_of_ble_eq_true rfl)) dJ2_grow_2_37 ⟨Nat.le_of_ble_eq_true rfl, Nat.le_of_ble_eq_true rfl⟩) M.2.2 (fun q _ h => hFc q h) hFc (fun u9 a9 t9 H locs ht9 hvm9 hp9 hB9 hz9 hk9 hS => ?_)
  obtain ⟨hP1, hD1⟩ := hB9
  rw [ht9] at hP1
  obtain ⟨hP, hD⟩ := va_join (wr := [(a, .inr (2, [.int mc, .ref ed, .int (nI n)]))]) (w1 := [(ed, .inl (dA 4, cap, .inr (.inr (.inr (.inr r))))), (a9, .inl (dA 4, (cap + max (n + 1 - cap) (cap / 2 ^ 1)), .inr (.inr (.inr (.inr (va_cpy r (fun _ => none) 0 0 (min cap (cap + max (n + 1 - cap) (cap / 2 ^ 1)))))))))]) M.1 M.2.1 [1] [0] rfl rfl (by decide) (by decide) hk9 hFc hP1 hD1
  have M : gM D A s [(a, .inr (2, [.int mc, .ref ed, .int (nI n)])), (ed, .inl (dA 4, cap, .inr (.inr (.inr (.inr r))))), (a9, .inl (dA 4, (cap + max (n + 1 - cap) (cap / 2 ^ 1)), .inr (.inr (.inr (.inr (va_cpy r (fun _ => none) 0 0 (min cap (cap + max (n + 1 - cap) (cap / 2 ^ 1)))))))))] H locs := ⟨hP, hD, hS⟩
  refine W.widen (k := 1) (n := 200) (Nat.le_of_ble_eq_true rfl) (Nat.le_of_ble_eq_true rfl) ?_
  refine lv_dup_x1 hx hb dJ2_grow_2_40 rfl rfl ?_
  refine va_put (cl := xCl) (D := D) (ci := 2) (fs := [.int mc, .ref ed, .int (nI n)]) (v := .ref a9) (ty := .array (.object "java/lang/Object")) X.hx X.hb X.hts in_J2 tyJ2 tyJ2_ok nmJ2 X.ow X.K M.1 M.2.1 M.2.2 0 rfl rfl 1 (by decide) (X.hts _ q118) (fun _ h9 => h9) rfl (by decide +kernel) rfl rfl (Nat.le_of_ble_eq_true rfl) dJ2_grow_2_41 (fun H locs hP hD hS => ?_)
  have M : gM D A s [(a, .inr (2, [.int mc, .ref a9, .int (nI n)])), (ed, .inl (dA 4, cap, .inr (.inr (.inr (.inr r))))), (a9, .inl (dA 4, (cap + max (n + 1 - cap) (cap / 2 ^ 1)), .inr (.inr (.inr (.inr (va_cpy r (fun _ => none) 0 0 (min cap (cap + max (n + 1 - cap) (cap / 2 ^ 1)))))))))] H locs := ⟨hP, hD, hS⟩
  exact W.aret (v := .ref a9) hx hb hr (Or.inr ⟨_, rfl⟩) (Or.inr ⟨_, rfl⟩) (fun t9 ht9 hW9 => ⟨⟨(), _, rfl, trivial, by rw [ht9]; exact M.1.sub [0, 2] rfl, M.2.1.sub [0, 2] (by decide) rfl⟩, M.2.2.F ht9⟩) M.2.2.2.2 dJ2_grow_2_44

set_option maxHeartbeats 4000000 in
set_option maxRecDepth 100000 in
theorem metJ2_growO (l : Launch) (D : va_G) (dA : Nat → ClassId) (A : Nat → Prop) (e0 : Nat) (a : Nat) (mc : Int32) (ed : Nat) (cap : Nat) (r : Nat → Option Nat) (n : Nat) (hc : cap ≤ 90) (hp : 0 < cap) (hn60 : n < 60) (he : n = cap) : Met l yJ2_grow (ws_ yJ2_grow cJ2_grow 1 (some (.array (.object "java/lang/Object")))) ({ frames := 4, cells := 1, slots := 200, locals := 127 } : Room) (va_Pc [.ref a] (fun U => xC D dA A e0 U ∧ va_P D xCl [(a, .inr (2, [.int mc, .ref ed, .int (nI n)])), (ed, .inl (dA 4, cap, .inr (.inr (.inr (.inr r)))))] U.heap ∧ va_D A [(a, .inr (2, [.int mc, .ref ed, .int (nI n)])), (ed, .inl (dA 4, cap, .inr (.inr (.inr (.inr r)))))] ∧ ∀ y, (∃ i, i < n ∧ r i = some y) → xAt A U y)) (va_Qr (fun _ : Unit => True) (fun _ q t => va_P D xCl [(a, .inr (2, [.int mc, .ref q, .int (nI n)])), (q, .inl (dA 4, (cap + max (n + 1 - cap) (cap / 2 ^ 1)), .inr (.inr (.inr (.inr (va_cpy r (fun _ => none) 0 0 (min cap (cap + max (n + 1 - cap) (cap / 2 ^ 1)))))))))] t.heap ∧ va_D A [(a, .inr (2, [.int mc, .ref q, .int (nI n)])), (q, .inl (dA 4, (cap + max (n + 1 - cap) (cap / 2 ^ 1)), .inr (.inr (.inr (.inr (va_cpy r (fun _ => none) 0 0 (min cap (cap + max (n + 1 - cap) (cap / 2 ^ 1)))))))))]) A) 1 200 A := by
  refine Met.ofW (cc := cJ2_grow) (maxL := 1) (ret := (some (.array (.object "java/lang/Object")))) (by decide) rfl ?_
  intro p e s m args below meth c s₁ B hml hv
  obtain ⟨rfl, hC, hP, hD, hE⟩ := hv
  have hx := B.exec
  have hb := B.bytes
  have hr := B.returns
  have hts := atoms_spec (ws := (ws_ yJ2_grow cJ2_grow 1 (some (.array (.object "java/lang/Object"))))) B.pre
  have hts : ∀ w ∈ lw_all, w.before _ s = true := fun w h => hts w (List.mem_cons_of_mem _ h)
  have hown : s.vm.findClass RJ2 = some m.cls := findClass_of_methodNamed B.named
  have hlocks := B.notSynchronized
  have S : CallFix p m c cJ2_grow 1 s ([.ref a] : List Value).toArray lw_all RJ2 := ⟨hx, hb, hml, hown, hts⟩
  have X : xX RJ2 p s m ([.ref a] : List Value).toArray c cJ2_grow 1 D dA A e0 := ⟨S, hC⟩
  have M : gM D A s [(a, .inr (2, [.int mc, .ref ed, .int (nI n)])), (ed, .inl (dA 4, cap, .inr (.inr (.inr (.inr r)))))] s.heap [] := ⟨hP, hD, va_S.rf⟩
  have hl := lv_entry ([.ref a]) (n := 1) (Nat.le_of_ble_eq_true rfl)
  rw [lg_entry_eq]
  generalize (lg_sl ([.ref a]) ++ List.replicate (1 - (lg_sl ([.ref a])).length) Slot.unset).toArray = ls at hl ⊢
  have hl : lv_has ls 1 [(0, .ref a)] := hl
  refine lv_aload_n hx hb dJ2_grow_0 rfl (lv_at hl 0 rfl) ?_
  refine lv_aload_n hx hb dJ2_grow_1 rfl (lv_at hl 0 rfl) ?_
  refine va_get (cl := xCl) (ci := 2) (fs := [.int mc, .ref ed, .int (nI n)]) X.hx X.hb X.hts in_J2 X.ow X.K M.1 0 rfl rfl 2 (by decide) (X.hts _ q119) (fun _ h9 => h9) rfl dJ2_grow_2 ?_
  refine lv_iconst (v := 1) hx hb dJ2_grow_5 (by decide) ?_
  refine lv_iadd hx hb dJ2_grow_6 ?_
  refine lv_asi (y := nI (n + 1)) (nI_add n 1) ?_
  have hPc := M.1.sub (ws' := [(a, .inr (2, [.int mc, .ref ed, .int (nI n)])), (ed, .inl (dA 4, cap, .inr (.inr (.inr (.inr r)))))]) [0, 1] rfl
  have hDc := M.2.1.sub (ws' := [(a, .inr (2, [.int mc, .ref ed, .int (nI n)])), (ed, .inl (dA 4, cap, .inr (.inr (.inr (.inr r)))))]) [0, 1] (by decide) rfl
  have hFc := va_free (wc := [(a, .inr (2, [.int mc, .ref ed, .int (nI n)])), (ed, .inl (dA 4, cap, .inr (.inr (.inr (.inr r)))))]) M.2.1 M.2.2 X.hA [0, 1] rfl
  refine va_callr (va_runV (As := [.int (nI (n + 1))]) (rest := []) X.1 (metJ2_grow_2O l D dA (va_A [(a, .inr (2, [.int mc, .ref ed, .int (nI n)])), (ed, .inl (dA 4, cap, .inr (.inr (.inr (.inr r)))))] s.heap.size) e0 a mc ed cap r n hc hp hn60 he) (cwV 1 hts (lw_V q754 q756 qs12 q60 q757) rfl rfl rfl (by decide +kernel) ⟨Nat.le_of_ble_eq_true rfl, Nat.le_of_ble_eq_true rfl⟩) ⟨gPre_blindE, va_recv (cl := xCl) X.K M.1 (ci := 2) (q0 := 0) rfl rfl, fun U hU hW => ⟨rfl, X.Cn M.2.2 hFc hU hW, by rw [hU]; exact hPc, hDc.self, fun y hy => (hE y hy).call M.2.2 hFc hU hW⟩⟩ rfl rfl hl.1 rfl (lv_room (Nat.le_of_ble_eq_true rfl)) dJ2_grow_7 ⟨Nat.le_of_ble_eq_true rfl, Nat.le_of_ble_eq_true rfl⟩) M.2.2 (fun q _ h => hFc q h) hFc (fun u9 a9 t9 H locs ht9 hvm9 hp9 hB9 hz9 hk9 hS => ?_)
  obtain ⟨hP1, hD1⟩ := hB9
  rw [ht9] at hP1
  obtain ⟨hP, hD⟩ := va_join (wr := []) (w1 := [(a, .inr (2, [.int mc, .ref a9, .int (nI n)])), (a9, .inl (dA 4, (cap + max (n + 1 - cap) (cap / 2 ^ 1)), .inr (.inr (.inr (.inr (va_cpy r (fun _ => none) 0 0 (min cap (cap + max (n + 1 - cap) (cap / 2 ^ 1)))))))))]) M.1 M.2.1 [0, 1] [] rfl rfl (by decide) (by decide) hk9 hFc hP1 hD1
  have M : gM D A s [(a, .inr (2, [.int mc, .ref a9, .int (nI n)])), (a9, .inl (dA 4, (cap + max (n + 1 - cap) (cap / 2 ^ 1)), .inr (.inr (.inr (.inr (va_cpy r (fun _ => none) 0 0 (min cap (cap + max (n + 1 - cap) (cap / 2 ^ 1)))))))))] H locs := ⟨hP, hD, hS⟩
  refine W.widen (k := 1) (n := 200) (Nat.le_of_ble_eq_true rfl) (Nat.le_of_ble_eq_true rfl) ?_
  exact W.aret (v := .ref a9) hx hb hr (Or.inr ⟨_, rfl⟩) (Or.inr ⟨_, rfl⟩) (fun t9 ht9 hW9 => ⟨⟨(), _, rfl, trivial, by rw [ht9]; exact M.1, M.2.1⟩, M.2.2.F ht9⟩) M.2.2.2.2 dJ2_grow_10

set_option maxHeartbeats 4000000 in
set_option maxRecDepth 100000 in
theorem metJ2_add_2O (l : Launch) (D : va_G) (dA : Nat → ClassId) (A : Nat → Prop) (e0 : Nat) (a : Nat) (mc : Int32) (ed : Nat) (cap : Nat) (r : Nat → Option Nat) (n : Nat) (hc : cap ≤ 90) (hp : 0 < cap) (hn60 : n < 60) (y0 : Nat) (hnc : n ≤ cap) : Met l yJ2_add_2 (ws_ yJ2_add_2 cJ2_add_2 4 none) ({ frames := 5, cells := 1, slots := 200, locals := 147 } : Room) (va_Pc [.ref a, .ref y0, .ref ed, .int (nI n)] (fun U => xC D dA A e0 U ∧ va_P D xCl [(a, .inr (2, [.int mc, .ref ed, .int (nI n)])), (ed, .inl (dA 4, cap, .inr (.inr (.inr (.inr r)))))] U.heap ∧ va_D A [(a, .inr (2, [.int mc, .ref ed, .int (nI n)])), (ed, .inl (dA 4, cap, .inr (.inr (.inr (.inr r)))))] ∧ ∀ y, (y = y0 ∨ ∃ i, i < n ∧ r i = some y) → xAt A U y)) (va_Qv (xAdd n y0 r) (fun u t => va_P D xCl [(a, .inr (2, [.int (mc), .ref u.1, .int (nI (n + 1))])), (u.1, .inl (dA 4, u.2.1, .inr (.inr (.inr (.inr u.2.2)))))] t.heap ∧ va_D A [(a, .inr (2, [.int (mc), .ref u.1, .int (nI (n + 1))])), (u.1, .inl (dA 4, u.2.1, .inr (.inr (.inr (.inr u.2.2)))))]) A) 1 200 A := by
  refine Met.ofW (cc := cJ2_add_2) (maxL := 4) (ret := none) (by decide) rfl ?_
  intro p e s m args below meth c s₁ B hml hv
  obtain ⟨rfl, hC, hP, hD, hE⟩ := hv
  have hx := B.exec
  have hb := B.bytes
  have hr := B.returns
  have hts := atoms_spec (ws := (ws_ yJ2_add_2 cJ2_add_2 4 none)) B.pre
  have hts : ∀ w ∈ lw_all, w.before _ s = true := fun w h => hts w (List.mem_cons_of_mem _ h)
  have hown : s.vm.findClass RJ2 = some m.cls := findClass_of_methodNamed B.named
  have hlocks := B.notSynchronized
  have S : CallFix p m c cJ2_add_2 4 s ([.ref a, .ref y0, .ref ed, .int (nI n)] : List Value).toArray lw_all RJ2 := ⟨hx, hb, hml, hown, hts⟩
  have X : xX RJ2 p s m ([.ref a, .ref y0, .ref ed, .int (nI n)] : List Value).toArray c cJ2_add_2 4 D dA A e0 := ⟨S, hC⟩
  have M : gM D A s [(a, .inr (2, [.int mc, .ref ed, .int (nI n)])), (ed, .inl (dA 4, cap, .inr (.inr (.inr (.inr r)))))] s.heap [] := ⟨hP, hD, va_S.rf⟩
  have hl := lv_entry ([.ref a, .ref y0, .ref ed, .int (nI n)]) (n := 4) (Nat.le_of_ble_eq_true rfl)
  rw [lg_entry_eq]
  generalize (lg_sl ([.ref a, .ref y0, .ref ed, .int (nI n)]) ++ List.replicate (4 - (lg_sl ([.ref a, .ref y0, .ref ed, .int (nI n)])).length) Slot.unset).toArray = ls at hl ⊢
  have hl : lv_has ls 4 [(0, .ref a), (1, .ref y0), (2, .ref ed), (3, .int (nI n))] := hl
  refine lv_iload_n hx hb dJ2_add_2_0 rfl (lv_at hl 3 rfl) ?_
  refine lv_aload_n hx hb dJ2_add_2_1 rfl (lv_at hl 2 rfl) ?_
  refine va_alen (v := nI cap) X.hx X.hb X.K M.1 1 4 rfl rfl rfl dJ2_add_2_2 ?_
  refine lv_icmp_ne (tgt := 11) hx hb dJ2_add_2_3 (by decide) (fun c_1 => ?_) (fun c_1 => ?_)
  · -- c_1: nI n ≠ nI cap
    have hlt : n < cap := nI_lt_ne c_1 hnc
    refine lv_aload_n hx hb dJ2_add_2_11 rfl (lv_at hl 2 rfl) ?_
    refine lv_iload_n hx hb dJ2_add_2_12 rfl (lv_at hl 3 rfl) ?_
    refine lv_aload_n hx hb dJ2_add_2_13 rfl (lv_at hl 1 rfl) ?_
    refine va_astqM X.hx X.hb X.K M.1 M.2.1 M.2.2 1 4 rfl rfl ((hE y0 (Or.inl rfl)).now M.2.2) (vp_in_nI (by omega) (by omega)) dJ2_add_2_14 (fun H locs hP hD hS => ?_)
    rw [nI_clamp (show n < 2 ^ 31 by omega)] at hP hD
    have M : gM D A s [(a, .inr (2, [.int mc, .ref ed, .int (nI n)])), (ed, .inl (dA 4, cap, .inr (.inr (.inr (.inr (va_up r n (some y0)))))))] H locs := ⟨hP, hD, hS⟩
    refine lv_aload_n hx hb dJ2_add_2_15 rfl (lv_at hl 0 rfl) ?_
    refine lv_iload_n hx hb dJ2_add_2_16 rfl (lv_at hl 3 rfl) ?_
    refine lv_iconst (v := 1) hx hb dJ2_add_2_17 (by decide) ?_
    refine lv_iadd hx hb dJ2_add_2_18 ?_
    refine lv_asi (y := nI (n + 1)) (nI_add n 1) ?_
    refine va_put (cl := xCl) (D := D) (ci := 2) (fs := [.int mc, .ref ed, .int (nI n)]) (v := .int (nI (n + 1))) (ty := .int) X.hx X.hb X.hts in_J2 tyJ2 tyJ2_ok nmJ2 X.ow X.K M.1 M.2.1 M.2.2 0 rfl rfl 2 (by decide) (X.hts _ q119) (fun _ h9 => h9) rfl (by decide +kernel) rfl rfl (Nat.le_of_ble_eq_true rfl) dJ2_add_2_19 (fun H locs hP hD hS => ?_)
    have M : gM D A s [(a, .inr (2, [.int mc, .ref ed, .int (nI (n + 1))])), (ed, .inl (dA 4, cap, .inr (.inr (.inr (.inr (va_up r n (some y0)))))))] H locs := ⟨hP, hD, hS⟩
    refine W.widen (k := 1) (n := 200) (Nat.le_of_ble_eq_true rfl) (Nat.le_of_ble_eq_true rfl) ?_
    exact W.vret hx hb hr (fun t9 ht9 hW9 => ⟨⟨(ed, cap, va_up r n (some y0)), rfl, xAdd_up hlt hc, by rw [ht9]; exact M.1, M.2.1⟩, M.2.2.F ht9⟩) M.2.2.2.2 dJ2_add_2_22
  · -- c_1: nI n = nI cap
    have he : n = cap := nI_inj c_1 (by omega) (by omega)
    refine lv_aload_n hx hb dJ2_add_2_6 rfl (lv_at hl 0 rfl) ?_
    have hPc := M.1.sub (ws' := [(a, .inr (2, [.int mc, .ref ed, .int (nI n)])), (ed, .inl (dA 4, cap, .inr (.inr (.inr (.inr r)))))]) [0, 1] rfl
    have hDc := M.2.1.sub (ws' := [(a, .inr (2, [.int mc, .ref ed, .int (nI n)])), (ed, .inl (dA 4, cap, .inr (.inr (.inr (.inr r)))))]) [0, 1] (by decide) rfl
    have hFc := va_free (wc := [(a, .inr (2, [.int mc, .ref ed, .int (nI n)])), (ed, .inl (dA 4, cap, .inr (.inr (.inr (.inr r)))))]) M.2.1 M.2.2 X.hA [0, 1] rfl
    refine va_callr (va_runV (As := []) (rest := []) X.1 (metJ2_growO l D dA (va_A [(a, .inr (2, [.int mc, .ref ed, .int (nI n)])), (ed, .inl (dA 4, cap, .inr (.inr (.inr (.inr r)))))] s.heap.size) e0 a mc ed cap r n hc hp hn60 he) (cwV 0 hts (lw_V q750 q752 qs11 q60 q753) rfl rfl rfl (by decide +kernel) ⟨Nat.le_of_ble_eq_true rfl, Nat.le_of_ble_eq_true rfl⟩) ⟨gPre_blindE, va_recv (cl := xCl) X.K M.1 (ci := 2) (q0 := 0) rfl rfl, fun U hU hW => ⟨rfl, X.Cn M.2.2 hFc hU hW, by rw [hU]; exact hPc, hDc.self, fun y hy => (hE y (Or.inr hy)).call M.2.2 hFc hU hW⟩⟩ rfl rfl hl.1 rfl (lv_room (Nat.le_of_ble_eq_true rfl)) dJ2_add_2_7 ⟨Nat.le_of_ble_eq_true rfl, Nat.le_of_ble_eq_true rfl⟩) M.2.2 (fun q _ h => hFc q h) hFc (fun u9 a9 t9 H locs ht9 hvm9 hp9 hB9 hz9 hk9 hS => ?_)
    obtain ⟨hP1, hD1⟩ := hB9
    rw [ht9] at hP1
    obtain ⟨hP, hD⟩ := va_join (wr := []) (w1 := [(a, .inr (2, [.int mc, .ref a9, .int (nI n)])), (a9, .inl (dA 4, (cap + max (n + 1 - cap) (cap / 2 ^ 1)), .inr (.inr (.inr (.inr (va_cpy r (fun _ => none) 0 0 (min cap (cap + max (n + 1 - cap) (cap / 2 ^ 1)))))))))]) M.1 M.2.1 [0, 1] [] rfl rfl (by decide) (by decide) hk9 hFc hP1 hD1
    have M : gM D A s [(a, .inr (2, [.int mc, .ref a9, .int (nI n)])), (a9, .inl (dA 4, (cap + max (n + 1 - cap) (cap / 2 ^ 1)), .inr (.inr (.inr (.inr (va_cpy r (fun _ => none) 0 0 (min cap (cap + max (n + 1 - cap) (cap / 2 ^ 1)))))))))] H locs := ⟨hP, hD, hS⟩
    refine W.widen (k := 1) (n := 200) (Nat.le_of_ble_eq_true rfl) (Nat.le_of_ble_eq_true rfl) ?_
    refine lv_astore_n (lv' := [(2, .ref a9), (0, .ref a), (1, .ref y0), (3, .int (nI n))]) hx hb dJ2_add_2_10 rfl hl (by decide) rfl (fun ls hl => ?_)
    refine lv_aload_n hx hb dJ2_add_2_11 rfl (lv_at hl 0 rfl) ?_
    refine lv_iload_n hx hb dJ2_add_2_12 rfl (lv_at hl 3 rfl) ?_
    refine lv_aload_n hx hb dJ2_add_2_13 rfl (lv_at hl 2 rfl) ?_
    refine va_astqM X.hx X.hb X.K M.1 M.2.1 M.2.2 1 4 rfl rfl ((hE y0 (Or.inl rfl)).now M.2.2) (vp_in_nI (by omega) (by omega)) dJ2_add_2_14 (fun H locs hP hD hS => ?_)
    rw [nI_clamp (show n < 2 ^ 31 by omega)] at hP hD
    have M : gM D A s [(a, .inr (2, [.int mc, .ref a9, .int (nI n)])), (a9, .inl (dA 4, (cap + max (n + 1 - cap) (cap / 2 ^ 1)), .inr (.inr (.inr (.inr (va_up (va_cpy r (fun _ => none) 0 0 (min cap (cap + max (n + 1 - cap) (cap / 2 ^ 1)))) n (some y0)))))))] H locs := ⟨hP, hD, hS⟩
    refine lv_aload_n hx hb dJ2_add_2_15 rfl (lv_at hl 1 rfl) ?_
    refine lv_iload_n hx hb dJ2_add_2_16 rfl (lv_at hl 3 rfl) ?_
    refine lv_iconst (v := 1) hx hb dJ2_add_2_17 (by decide) ?_
    refine lv_iadd hx hb dJ2_add_2_18 ?_
    refine lv_asi (y := nI (n + 1)) (nI_add n 1) ?_
    refine va_put (cl := xCl) (D := D) (ci := 2) (fs := [.int mc, .ref a9, .int (nI n)]) (v := .int (nI (n + 1))) (ty := .int) X.hx X.hb X.hts in_J2 tyJ2 tyJ2_ok nmJ2 X.ow X.K M.1 M.2.1 M.2.2 0 rfl rfl 2 (by decide) (X.hts _ q119) (fun _ h9 => h9) rfl (by decide +kernel) rfl rfl (Nat.le_of_ble_eq_true rfl) dJ2_add_2_19 (fun H locs hP hD hS => ?_)
    have M : gM D A s [(a, .inr (2, [.int mc, .ref a9, .int (nI (n + 1))])), (a9, .inl (dA 4, (cap + max (n + 1 - cap) (cap / 2 ^ 1)), .inr (.inr (.inr (.inr (va_up (va_cpy r (fun _ => none) 0 0 (min cap (cap + max (n + 1 - cap) (cap / 2 ^ 1)))) n (some y0)))))))] H locs := ⟨hP, hD, hS⟩
    exact W.vret hx hb hr (fun t9 ht9 hW9 => ⟨⟨(a9, (cap + max (n + 1 - cap) (cap / 2 ^ 1)), va_up (va_cpy r (fun _ => none) 0 0 (min cap (cap + max (n + 1 - cap) (cap / 2 ^ 1)))) n (some y0)), rfl, xAdd_cp he (by omega) (by omega), by rw [ht9]; exact M.1, M.2.1⟩, M.2.2.F ht9⟩) M.2.2.2.2 dJ2_add_2_22

set_option maxHeartbeats 4000000 in
set_option maxRecDepth 100000 in
theorem metJ2_addS (l : Launch) (D : va_G) (dA : Nat → ClassId) (A : Nat → Prop) (e0 : Nat) (a : Nat) (mc : Int32) (y0 : Nat) (r : Nat → Option Nat) : Met l yJ2_add (ws_ yJ2_add cJ2_add 2 (some .boolean)) ({ frames := 6, cells := 1, slots := 10, locals := 170 } : Room) (va_Pc [.ref a, .ref y0] (fun U => xC D dA A e0 U ∧ va_P D xCl [(a, .inr (2, [.int mc, .ref e0, .int 0]))] U.heap ∧ va_D A [(a, .inr (2, [.int mc, .ref e0, .int 0]))] ∧ ∀ y, y = y0 → xAt A U y)) (va_Qi (fun x u => x = 1 ∧ xAdd 0 y0 r u) (fun u t => va_P D xCl [(a, .inr (2, [.int (mc + 1), .ref u.1, .int (1)])), (u.1, .inl (dA 4, u.2.1, .inr (.inr (.inr (.inr u.2.2)))))] t.heap ∧ va_D A [(a, .inr (2, [.int (mc + 1), .ref u.1, .int (1)])), (u.1, .inl (dA 4, u.2.1, .inr (.inr (.inr (.inr u.2.2)))))]) A) 1 10 A := by
  refine Met.ofW (cc := cJ2_add) (maxL := 2) (ret := (some .boolean)) (by decide) rfl ?_
  intro p e s m args below meth c s₁ B hml hv
  obtain ⟨rfl, hC, hP, hD, hE⟩ := hv
  have hx := B.exec
  have hb := B.bytes
  have hr := B.returns
  have hts := atoms_spec (ws := (ws_ yJ2_add cJ2_add 2 (some .boolean))) B.pre
  have hts : ∀ w ∈ lw_all, w.before _ s = true := fun w h => hts w (List.mem_cons_of_mem _ h)
  have hown : s.vm.findClass RJ2 = some m.cls := findClass_of_methodNamed B.named
  have hlocks := B.notSynchronized
  have S : CallFix p m c cJ2_add 2 s ([.ref a, .ref y0] : List Value).toArray lw_all RJ2 := ⟨hx, hb, hml, hown, hts⟩
  have X : xX RJ2 p s m ([.ref a, .ref y0] : List Value).toArray c cJ2_add 2 D dA A e0 := ⟨S, hC⟩
  have M : gM D A s [(a, .inr (2, [.int mc, .ref e0, .int 0]))] s.heap [] := ⟨hP, hD, va_S.rf⟩
  have hl := lv_entry ([.ref a, .ref y0]) (n := 2) (Nat.le_of_ble_eq_true rfl)
  rw [lg_entry_eq]
  generalize (lg_sl ([.ref a, .ref y0]) ++ List.replicate (2 - (lg_sl ([.ref a, .ref y0])).length) Slot.unset).toArray = ls at hl ⊢
  have hl : lv_has ls 2 [(0, .ref a), (1, .ref y0)] := hl
  refine lv_aload_n hx hb dJ2_add_0 rfl (lv_at hl 0 rfl) ?_
  refine lv_dup hx hb dJ2_add_1 rfl ?_
  refine va_get (cl := xCl) (ci := 2) (fs := [.int mc, .ref e0, .int 0]) X.hx X.hb X.hts in_J2 X.ow X.K M.1 0 rfl rfl 0 (by decide) (X.hts _ q121) (u_same (X.hts _ q122)) rfl dJ2_add_2 ?_
  refine lv_iconst (v := 1) hx hb dJ2_add_5 (by decide) ?_
  refine lv_iadd hx hb dJ2_add_6 ?_
  refine va_put (cl := xCl) (D := D) (ci := 2) (fs := [.int mc, .ref e0, .int 0]) (v := .int (mc + 1)) (ty := .int) X.hx X.hb X.hts in_J2 tyJ2 tyJ2_ok nmJ2 X.ow X.K M.1 M.2.1 M.2.2 0 rfl rfl 0 (by decide) (X.hts _ q121) (u_same (X.hts _ q122)) rfl (by decide +kernel) rfl rfl (Nat.le_of_ble_eq_true rfl) dJ2_add_7 (fun H locs hP hD hS => ?_)
  have M : gM D A s [(a, .inr (2, [.int (mc + 1), .ref e0, .int 0]))] H locs := ⟨hP, hD, hS⟩
  refine lv_aload_n hx hb dJ2_add_10 rfl (lv_at hl 0 rfl) ?_
  refine lv_aload_n hx hb dJ2_add_11 rfl (lv_at hl 1 rfl) ?_
  refine lv_aload_n hx hb dJ2_add_12 rfl (lv_at hl 0 rfl) ?_
  refine va_get (cl := xCl) (ci := 2) (fs := [.int (mc + 1), .ref e0, .int 0]) X.hx X.hb X.hts in_J2 X.ow X.K M.1 0 rfl rfl 1 (by decide) (X.hts _ q118) (fun _ h9 => h9) rfl dJ2_add_13 ?_
  refine lv_aload_n hx hb dJ2_add_16 rfl (lv_at hl 0 rfl) ?_
  refine va_get (cl := xCl) (ci := 2) (fs := [.int (mc + 1), .ref e0, .int 0]) X.hx X.hb X.hts in_J2 X.ow X.K M.1 0 rfl rfl 2 (by decide) (X.hts _ q119) (fun _ h9 => h9) rfl dJ2_add_17 ?_
  have hPc := M.1.sub (ws' := [(a, .inr (2, [.int (mc + 1), .ref e0, .int 0]))]) [0] rfl
  have hDc := M.2.1.sub (ws' := [(a, .inr (2, [.int (mc + 1), .ref e0, .int 0]))]) [0] (by decide) rfl
  have hFc := va_free (wc := [(a, .inr (2, [.int (mc + 1), .ref e0, .int 0]))]) M.2.1 M.2.2 X.hA [0] rfl
  refine va_callv (va_runV (As := [.ref y0, .ref e0, .int 0]) (rest := []) X.1 (metJ2_add_2S l D dA (va_A [(a, .inr (2, [.int (mc + 1), .ref e0, .int 0]))] H.size) e0 a (mc + 1) y0 r) (cwV 3 hts (lw_V q746 q748 qs10 q60 q749) rfl rfl rfl (by decide +kernel) ⟨Nat.le_of_ble_eq_true rfl, Nat.le_of_ble_eq_true rfl⟩) ⟨gPre_blindE, va_recv (cl := xCl) X.K M.1 (ci := 2) (q0 := 0) rfl rfl, fun U hU hW => ⟨rfl, X.Cn M.2.2 hFc hU hW, by rw [hU]; exact hPc, hDc.self, fun y hy => (hE y hy).call M.2.2 hFc hU hW⟩⟩ rfl rfl hl.1 rfl (lv_room (Nat.le_of_ble_eq_true rfl)) dJ2_add_20 ⟨Nat.le_of_ble_eq_true rfl, Nat.le_of_ble_eq_true rfl⟩) M.2.2 (fun q _ h => hFc q h) hFc (fun u9 t9 H locs ht9 hvm9 hp9 hB9 hz9 hk9 hS => ?_)
  obtain ⟨hP1, hD1⟩ := hB9
  rw [ht9] at hP1
  obtain ⟨hP, hD⟩ := va_join (wr := []) (w1 := [(a, .inr (2, [.int (mc + 1), .ref u9.1, .int 1])), (u9.1, .inl (dA 4, u9.2.1, .inr (.inr (.inr (.inr u9.2.2)))))]) M.1 M.2.1 [0] [] rfl rfl (by decide) (by decide) hk9 hFc hP1 hD1
  have M : gM D A s [(a, .inr (2, [.int (mc + 1), .ref u9.1, .int 1])), (u9.1, .inl (dA 4, u9.2.1, .inr (.inr (.inr (.inr u9.2.2)))))] H locs := ⟨hP, hD, hS⟩
  refine W.widen (k := 1) (n := 10) (Nat.le_of_ble_eq_true rfl) (Nat.le_of_ble_eq_true rfl) ?_
  refine lv_iconst (v := 1) hx hb dJ2_add_23 (by decide) ?_
  exact W.zret (v := 1) hx hb hr rfl (fun t9 ht9 hW9 => ⟨⟨_, u9, rfl, ⟨rfl, hp9⟩, by rw [ht9]; exact M.1, M.2.1⟩, M.2.2.F ht9⟩) M.2.2.2.2 dJ2_add_24

set_option maxHeartbeats 4000000 in
set_option maxRecDepth 100000 in
theorem metJ2_addO (l : Launch) (D : va_G) (dA : Nat → ClassId) (A : Nat → Prop) (e0 : Nat) (a : Nat) (mc : Int32) (ed : Nat) (cap : Nat) (r : Nat → Option Nat) (n : Nat) (hc : cap ≤ 90) (hp : 0 < cap) (hn60 : n < 60) (y0 : Nat) (hnc : n ≤ cap) : Met l yJ2_add (ws_ yJ2_add cJ2_add 2 (some .boolean)) ({ frames := 6, cells := 1, slots := 200, locals := 170 } : Room) (va_Pc [.ref a, .ref y0] (fun U => xC D dA A e0 U ∧ va_P D xCl [(a, .inr (2, [.int mc, .ref ed, .int (nI n)])), (ed, .inl (dA 4, cap, .inr (.inr (.inr (.inr r)))))] U.heap ∧ va_D A [(a, .inr (2, [.int mc, .ref ed, .int (nI n)])), (ed, .inl (dA 4, cap, .inr (.inr (.inr (.inr r)))))] ∧ ∀ y, (y = y0 ∨ ∃ i, i < n ∧ r i = some y) → xAt A U y)) (va_Qi (fun x u => x = 1 ∧ xAdd n y0 r u) (fun u t => va_P D xCl [(a, .inr (2, [.int (mc + 1), .ref u.1, .int (nI (n + 1))])), (u.1, .inl (dA 4, u.2.1, .inr (.inr (.inr (.inr u.2.2)))))] t.heap ∧ va_D A [(a, .inr (2, [.int (mc + 1), .ref u.1, .int (nI (n + 1))])), (u.1, .inl (dA 4, u.2.1, .inr (.inr (.inr (.inr u.2.2)))))]) A) 1 200 A := by
  refine Met.ofW (cc := cJ2_add) (maxL := 2) (ret := (some .boolean)) (by decide) rfl ?_
  intro p e s m args below meth c s₁ B hml hv
  obtain ⟨rfl, hC, hP, hD, hE⟩ := hv
  have hx := B.exec
  have hb := B.bytes
  have hr := B.returns
  have hts := atoms_spec (ws := (ws_ yJ2_add cJ2_add 2 (some .boolean))) B.pre
  have hts : ∀ w ∈ lw_all, w.before _ s = true := fun w h => hts w (List.mem_cons_of_mem _ h)
  have hown : s.vm.findClass RJ2 = some m.cls := findClass_of_methodNamed B.named
  have hlocks := B.notSynchronized
  have S : CallFix p m c cJ2_add 2 s ([.ref a, .ref y0] : List Value).toArray lw_all RJ2 := ⟨hx, hb, hml, hown, hts⟩
  have X : xX RJ2 p s m ([.ref a, .ref y0] : List Value).toArray c cJ2_add 2 D dA A e0 := ⟨S, hC⟩
  have M : gM D A s [(a, .inr (2, [.int mc, .ref ed, .int (nI n)])), (ed, .inl (dA 4, cap, .inr (.inr (.inr (.inr r)))))] s.heap [] := ⟨hP, hD, va_S.rf⟩
  have hl := lv_entry ([.ref a, .ref y0]) (n := 2) (Nat.le_of_ble_eq_true rfl)
  rw [lg_entry_eq]
  generalize (lg_sl ([.ref a, .ref y0]) ++ List.replicate (2 - (lg_sl ([.ref a, .ref y0])).length) Slot.unset).toArray = ls at hl ⊢
  have hl : lv_has ls 2 [(0, .ref a), (1, .ref y0)] := hl
  refine lv_aload_n hx hb dJ2_add_0 rfl (lv_at hl 0 rfl) ?_
  refine lv_dup hx hb dJ2_add_1 rfl ?_
  refine va_get (cl := xCl) (ci := 2) (fs := [.int mc, .ref ed, .int (nI n)]) X.hx X.hb X.hts in_J2 X.ow X.K M.1 0 rfl rfl 0 (by decide) (X.hts _ q121) (u_same (X.hts _ q122)) rfl dJ2_add_2 ?_
  refine lv_iconst (v := 1) hx hb dJ2_add_5 (by decide) ?_
  refine lv_iadd hx hb dJ2_add_6 ?_
  refine va_put (cl := xCl) (D := D) (ci := 2) (fs := [.int mc, .ref ed, .int (nI n)]) (v := .int (mc + 1)) (ty := .int) X.hx X.hb X.hts in_J2 tyJ2 tyJ2_ok nmJ2 X.ow X.K M.1 M.2.1 M.2.2 0 rfl rfl 0 (by decide) (X.hts _ q121) (u_same (X.hts _ q122)) rfl (by decide +kernel) rfl rfl (Nat.le_of_ble_eq_true rfl) dJ2_add_7 (fun H locs hP hD hS => ?_)
  have M : gM D A s [(a, .inr (2, [.int (mc + 1), .ref ed, .int (nI n)])), (ed, .inl (dA 4, cap, .inr (.inr (.inr (.inr r)))))] H locs := ⟨hP, hD, hS⟩
  refine lv_aload_n hx hb dJ2_add_10 rfl (lv_at hl 0 rfl) ?_
  refine lv_aload_n hx hb dJ2_add_11 rfl (lv_at hl 1 rfl) ?_
  refine lv_aload_n hx hb dJ2_add_12 rfl (lv_at hl 0 rfl) ?_
  refine va_get (cl := xCl) (ci := 2) (fs := [.int (mc + 1), .ref ed, .int (nI n)]) X.hx X.hb X.hts in_J2 X.ow X.K M.1 0 rfl rfl 1 (by decide) (X.hts _ q118) (fun _ h9 => h9) rfl dJ2_add_13 ?_
  refine lv_aload_n hx hb dJ2_add_16 rfl (lv_at hl 0 rfl) ?_
  refine va_get (cl := xCl) (ci := 2) (fs := [.int (mc + 1), .ref ed, .int (nI n)]) X.hx X.hb X.hts in_J2 X.ow X.K M.1 0 rfl rfl 2 (by decide) (X.hts _ q119) (fun _ h9 => h9) rfl dJ2_add_17 ?_
  have hPc := M.1.sub (ws' := [(a, .inr (2, [.int (mc + 1), .ref ed, .int (nI n)])), (ed, .inl (dA 4, cap, .inr (.inr (.inr (.inr r)))))]) [0, 1] rfl
  have hDc := M.2.1.sub (ws' := [(a, .inr (2, [.int (mc + 1), .ref ed, .int (nI n)])), (ed, .inl (dA 4, cap, .inr (.inr (.inr (.inr r)))))]) [0, 1] (by decide) rfl
  have hFc := va_free (wc := [(a, .inr (2, [.int (mc + 1), .ref ed, .int (nI n)])), (ed, .inl (dA 4, cap, .inr (.inr (.inr (.inr r)))))]) M.2.1 M.2.2 X.hA [0, 1] rfl
  refine va_callv (va_runV (As := [.ref y0, .ref ed, .int (nI n)]) (rest := []) X.1 (metJ2_add_2O l D dA (va_A [(a, .inr (2, [.int (mc + 1), .ref ed, .int (nI n)])), (ed, .inl (dA 4, cap, .inr (.inr (.inr (.inr r)))))] H.size) e0 a (mc + 1) ed cap r n hc hp hn60 y0 hnc) (cwV 3 hts (lw_V q746 q748 qs10 q60 q749) rfl rfl rfl (by decide +kernel) ⟨Nat.le_of_ble_eq_true rfl, Nat.le_of_ble_eq_true rfl⟩) ⟨gPre_blindE, va_recv (cl := xCl) X.K M.1 (ci := 2) (q0 := 0) rfl rfl, fun U hU hW => ⟨rfl, X.Cn M.2.2 hFc hU hW, by rw [hU]; exact hPc, hDc.self, fun y hy => (hE y hy).call M.2.2 hFc hU hW⟩⟩ rfl rfl hl.1 rfl (lv_room (Nat.le_of_ble_eq_true rfl)) dJ2_add_20 ⟨Nat.le_of_ble_eq_true rfl, Nat.le_of_ble_eq_true rfl⟩) M.2.2 (fun q _ h => hFc q h) hFc (fun u9 t9 H locs ht9 hvm9 hp9 hB9 hz9 hk9 hS => ?_)
  obtain ⟨hP1, hD1⟩ := hB9
  rw [ht9] at hP1
  obtain ⟨hP, hD⟩ := va_join (wr := []) (w1 := [(a, .inr (2, [.int (mc + 1), .ref u9.1, .int (nI (n + 1))])), (u9.1, .inl (dA 4, u9.2.1, .inr (.inr (.inr (.inr u9.2.2)))))]) M.1 M.2.1 [0, 1] [] rfl rfl (by decide) (by decide) hk9 hFc hP1 hD1
  have M : gM D A s [(a, .inr (2, [.int (mc + 1), .ref u9.1, .int (nI (n + 1))])), (u9.1, .inl (dA 4, u9.2.1, .inr (.inr (.inr (.inr u9.2.2)))))] H locs := ⟨hP, hD, hS⟩
  refine W.widen (k := 1) (n := 200) (Nat.le_of_ble_eq_true rfl) (Nat.le_of_ble_eq_true rfl) ?_
  refine lv_iconst (v := 1) hx hb dJ2_add_23 (by decide) ?_
  exact W.zret (v := 1) hx hb hr rfl (fun t9 ht9 hW9 => ⟨⟨_, u9, rfl, ⟨rfl, hp9⟩, by rw [ht9]; exact M.1, M.2.1⟩, M.2.2.F ht9⟩) M.2.2.2.2 dJ2_add_24

