/-! THE SYSTEM'S WORLD, 2: what is made, what goes to the pool, what calls give back -/
theorem xK_new {D : va_G} {dA : Nat → ClassId} {cA : ClassId} {ty : FieldType} {s : State} (h : va_K D xCl (xTy dA ++ [(cA, ty)]) s) (i : Nat) (hi : (xTy dA)[i]? = some (dA i, ty)) : cA = dA i := by
  have h1 := (h.2 5 (cA, ty) rfl).2
  have hl : i < 5 := (List.getElem?_eq_some_iff.mp hi).1
  have h2 := (h.2 i (dA i, ty) (by rw [List.getElem?_append_left hl]; exact hi)).2
  cases ty with
  | object C =>
    obtain ⟨-, -, -, -, -, a⟩ := h1
    obtain ⟨-, -, -, -, -, b⟩ := h2
    exact Option.some.inj (a.symm.trans b)
  | _ => exact Option.some.inj (h1.symm.trans h2)
section ANY
variable {A B : Nat → Prop} {s U : State} {H : Heap} {locs : List Loc} {y : Nat}
theorem va_Any.moved {E : String} {u U : State} {H : Heap} {a : Nat} (hvm : u.vm.Alike U.vm) (h : va_Any E u H a) : va_Any E U H a := by
  obtain ⟨cell, h1, h2, ⟨kC, h3⟩, h4⟩ := h
  obtain ⟨k', hk', -⟩ := hvm.2.2 _ _ h3
  exact ⟨cell, h1, h2, ⟨k', hk'⟩, fun comp hc => by rw [hvm.assignable]; exact h4 comp (by rw [hvm.findClass] at hc; exact hc)⟩
theorem va_Any.kept {E : String} {u : State} {H H1 : Heap} {a : Nat} (h : va_Any E u H a) (hq : H1[a]? = H[a]?) : va_Any E u H1 a := by
  obtain ⟨cell, h1, h2⟩ := h
  exact ⟨cell, hq.trans h1, h2⟩
/-- a thing that may lie in a list, and that the method doesn't write -/
def xAt (A : Nat → Prop) (U : State) (y : Nat) : Prop := va_Any "java/lang/Object" U U.heap y ∧ ¬ A y
theorem xAt.now (h : xAt A s y) (hS : va_S A s.heap H locs) : va_Any "java/lang/Object" s H y := by
  obtain ⟨h1, h2⟩ := h
  have hl : y < s.heap.size := by obtain ⟨c, hc, -⟩ := h1; exact (Array.getElem?_eq_some_iff.mp hc).1
  exact h1.kept (hS.2.1 y hl h2)
theorem xAt.call {wc : va_W} (h : xAt A s y) (hS : va_S A s.heap H locs) (hF : ∀ q, va_A wc H.size q → A q) (hU : U.heap = H) (hW : s.WarmedH U.vm) : xAt (va_A wc H.size) U y := ⟨by rw [hU]; exact (h.now hS).moved hW.alike, fun q => h.2 (hF y q)⟩
theorem xAt.frame {g : JFrame} {mk : MethodId} {a : Array Value} (h : xAt A U y) : xAt A (U.calling g mk a) y := ⟨va_Any.moved (u := U) (U := U.calling g mk a) (Vm.Alike.refl U.vm) h.1, h.2⟩
end ANY
/-- a start with things E of lists beside its cells -/
theorem gPre_blindE {D : va_G} {dA : Nat → ClassId} {A : Nat → Prop} {e0 : Nat} {ws : va_W} {As : List Value} {E : Nat → Prop} : FrameBlind (va_Pc As (fun U => xC D dA A e0 U ∧ va_P D xCl ws U.heap ∧ va_D A ws ∧ ∀ y, E y → xAt A U y)) := fun a U g mk q => ⟨q.1, q.2.1.frame, q.2.2.1, q.2.2.2.1, fun y hy => (q.2.2.2.2 y hy).frame⟩
theorem gPre_blindM {D : va_G} {dA : Nat → ClassId} {A : Nat → Prop} {e0 : Nat} {ws : va_W} {As : List Value} {E : Nat → Prop} {C : String} {mi : Nat} : FrameBlind (va_Pc As (fun U => xC D dA A e0 U ∧ va_P D xCl ws U.heap ∧ va_D A ws ∧ (∀ y, E y → xAt A U y) ∧ va_Mi C mi U)) := fun a U g mk q => ⟨q.1, q.2.1.frame, q.2.2.1, q.2.2.2.1, fun y hy => (q.2.2.2.2.1 y hy).frame, va_Mi.moved (u := U) (U := U.calling g mk a) (Vm.Alike.refl U.vm) q.2.2.2.2.2⟩
section GNEW
variable {p : Program} {l : Launch} {e : Env} {R : Room} {s : State} {m : MethodId} {args : Array Value} {below : List Frame} {meth : Method} {c : Code} {H : Heap} {locs : List Loc} {cells slots : Nat} {Q : State → Prop}
variable {own : String} {cc : ByteArray} {nL pc : Nat} {ls : Array Slot} {rest : List Value} {D : va_G} {dA : Nat → ClassId} {A : Nat → Prop} {e0 : Nat} {ws : va_W} {a : Nat}
/-- a new row of references -/
theorem g_newq {C : String} {index : Nat} (X : xX own p s m args c cc nL D dA A e0) (i : Nat) (hi : (xTy dA)[i]? = some (dA i, .object C)) (hclink : (Cond.classLink own index C).before args s = true) (hover : va_AO C s) (hP : va_P D xCl ws H) (hD : va_D A ws) (hS : va_S A s.heap H locs) {n : Int32} {N' : Nat} (hn : ¬ n < 0) (hN : n.toNatClampNeg = N') (hbytes : N' * 4 ≤ 536870912) (hcells : cells + 1 ≤ R.cells) (hslots : slots + N' ≤ R.slots) (hdg : decode cc pc = .ok (.anewarray index, 3))
    (kk : ∀ (q : Nat) (H1 : Heap), va_P D xCl (ws ++ [(q, .inl (dA i, N', .inr (.inr (.inr (.inr (fun _ => none))))))]) H1 → va_D A (ws ++ [(q, .inl (dA i, N', .inr (.inr (.inr (.inr (fun _ => none))))))]) → va_S A s.heap H1 locs → W p l e R s m args below meth c H1 locs (cells + 1) (slots + N') Q (F0 m (pc + 3) ls (.ref q :: rest))) : W p l e R s m args below meth c H locs cells slots Q (F0 m pc ls (.int n :: rest)) := by
  refine va_newq X.hx X.hb X.ow hclink hover X.K hP hD hS X.hA hn hN hbytes hcells hslots hdg (fun q cA H1 hK hP hD hS => ?_)
  have e := xK_new hK i hi
  subst e
  exact kk q H1 hP hD hS
/-- a new row of ints -/
theorem g_newi (X : xX own p s m args c cc nL D dA A e0) (harr : (Cond.arrayClass .int).before args s = true) (hP : va_P D xCl ws H) (hD : va_D A ws) (hS : va_S A s.heap H locs) {n : Int32} {N' : Nat} (hn : ¬ n < 0) (hN : n.toNatClampNeg = N') (hbytes : N' * 4 ≤ 536870912) (hcells : cells + 1 ≤ R.cells) (hslots : slots + N' ≤ R.slots) (hdg : decode cc pc = .ok (.newarray .int, 2))
    (kk : ∀ (q : Nat) (H1 : Heap), va_P D xCl (ws ++ [(q, .inl (dA 0, N', .inl (fun _ => 0)))]) H1 → va_D A (ws ++ [(q, .inl (dA 0, N', .inl (fun _ => 0)))]) → va_S A s.heap H1 locs → W p l e R s m args below meth c H1 locs (cells + 1) (slots + N') Q (F0 m (pc + 2) ls (.ref q :: rest))) : W p l e R s m args below meth c H locs cells slots Q (F0 m pc ls (.int n :: rest)) := by
  refine va_newa (atype := .int) (ty := .int) (a0 := (N', .inl (fun _ => 0))) X.hx X.hb harr rfl X.K hP hD hS X.hA (fun cA => rfl) hn hN hbytes hcells hslots hdg (fun q cA H1 hK hP hD hS => ?_)
  have e := xK_new hK 0 rfl
  subst e
  exact kk q H1 hP hD hS
/-- a new row of booleans -/
theorem g_newz (X : xX own p s m args c cc nL D dA A e0) (harr : (Cond.arrayClass .boolean).before args s = true) (hP : va_P D xCl ws H) (hD : va_D A ws) (hS : va_S A s.heap H locs) {n : Int32} {N' : Nat} (hn : ¬ n < 0) (hN : n.toNatClampNeg = N') (hbytes : N' * 1 ≤ 536870912) (hcells : cells + 1 ≤ R.cells) (hslots : slots + N' ≤ R.slots) (hdg : decode cc pc = .ok (.newarray .boolean, 2))
    (kk : ∀ (q : Nat) (H1 : Heap), va_P D xCl (ws ++ [(q, .inl (dA 2, N', .inl (fun _ => 0)))]) H1 → va_D A (ws ++ [(q, .inl (dA 2, N', .inl (fun _ => 0)))]) → va_S A s.heap H1 locs → W p l e R s m args below meth c H1 locs (cells + 1) (slots + N') Q (F0 m (pc + 2) ls (.ref q :: rest))) : W p l e R s m args below meth c H locs cells slots Q (F0 m pc ls (.int n :: rest)) := by
  refine va_newa (atype := .boolean) (ty := .boolean) (a0 := (N', .inl (fun _ => 0))) X.hx X.hb harr rfl X.K hP hD hS X.hA (fun cA => rfl) hn hN hbytes hcells hslots hdg (fun q cA H1 hK hP hD hS => ?_)
  have e := xK_new hK 2 rfl
  subst e
  exact kk q H1 hP hD hS
/-- a new row of bytes -/
theorem g_newb (X : xX own p s m args c cc nL D dA A e0) (harr : (Cond.arrayClass .byte).before args s = true) (hP : va_P D xCl ws H) (hD : va_D A ws) (hS : va_S A s.heap H locs) {n : Int32} {N' : Nat} (hn : ¬ n < 0) (hN : n.toNatClampNeg = N') (hbytes : N' * 1 ≤ 536870912) (hcells : cells + 1 ≤ R.cells) (hslots : slots + N' ≤ R.slots) (hdg : decode cc pc = .ok (.newarray .byte, 2))
    (kk : ∀ (q : Nat) (H1 : Heap), va_P D xCl (ws ++ [(q, .inl (dA 1, N', .inl (fun _ => 0)))]) H1 → va_D A (ws ++ [(q, .inl (dA 1, N', .inl (fun _ => 0)))]) → va_S A s.heap H1 locs → W p l e R s m args below meth c H1 locs (cells + 1) (slots + N') Q (F0 m (pc + 2) ls (.ref q :: rest))) : W p l e R s m args below meth c H locs cells slots Q (F0 m pc ls (.int n :: rest)) := by
  refine va_newa (atype := .byte) (ty := .byte) (a0 := (N', .inl (fun _ => 0))) X.hx X.hb harr rfl X.K hP hD hS X.hA (fun cA => rfl) hn hN hbytes hcells hslots hdg (fun q cA H1 hK hP hD hS => ?_)
  have e := xK_new hK 1 rfl
  subst e
  exact kk q H1 hP hD hS
end GNEW
section XPOOL
variable {p : Program} {l : Launch} {e : Env} {R : Room} {s : State} {m : MethodId} {args : Array Value} {below : List Frame} {meth : Method} {c : Code} {H : Heap} {locs : List Loc} {cells slots : Nat} {Q : State → Prop}
variable {own : String} {cc : ByteArray} {nL pc : Nat} {ls : Array Slot} {rest : List Value} {D : va_G} {dA : Nat → ClassId} {A : Nat → Prop} {e0 h : Nat} {G : xG} {T : va_W} {F : Nat → Int32} {Rr : Nat → Nat → Int32}
/-- what is made goes behind the world's temporary cells -/
theorem xM_push {q : Nat} {x : va_E} (M : xM D dA A e0 h G T s F Rr H locs) {H1 : Heap} (hP : va_P D xCl (xWs h dA G F Rr T ++ [(q, x)]) H1) (hD : va_D A (xWs h dA G F Rr T ++ [(q, x)])) (hS : va_S A s.heap H1 locs) : xM D dA A e0 h G (T ++ [(q, x)]) s F Rr H1 locs := by
  refine ⟨?_, ?_, hS, M.2.2.2⟩
  · have := hP.swap (a := xW h dA G F Rr ++ T) (b := va_pl (g_L G) (g_f G)) (c := [(q, x)])
    rw [List.append_assoc (xW h dA G F Rr)] at this
    exact this
  · have := hD.swap (a := xW h dA G F Rr ++ T) (b := va_pl (g_L G) (g_f G)) (c := [(q, x)])
    rw [List.append_assoc (xW h dA G F Rr)] at this
    exact this
/-- a temporary cell's place -/
theorem xT_at {j : Nat} {a : Nat} {x : va_E} (ht : T[j]? = some (a, x)) : (xWs h dA G F Rr T)[21 + j]? = some (a, x) := by
  have hl : j < T.length := (List.getElem?_eq_some_iff.mp ht).1
  unfold xWs
  have e : (xW h dA G F Rr).length = 21 := rfl
  rw [List.getElem?_append_left (by rw [List.length_append, e]; omega), List.getElem?_append_right (by rw [e]; omega), e, Nat.add_sub_cancel_left]
  exact ht
theorem xT_set {j : Nat} {x : Nat × va_E} (hl : j < T.length) : (xWs h dA G F Rr T).set (21 + j) x = xWs h dA G F Rr (T.set j x) := by
  unfold xWs
  have e : (xW h dA G F Rr).length = 21 := rfl
  rw [List.set_append_left _ _ (by rw [List.length_append, e]; omega), List.set_append_right _ _ (by rw [e]; omega), e, Nat.add_sub_cancel_left]
/-- a temporary cell is written -/
theorem xM_setT {j : Nat} {a : Nat} {x0 x : va_E} (M : xM D dA A e0 h G T s F Rr H locs) (ht : T[j]? = some (a, x0)) {H1 : Heap} {locs1 : List Loc} (hP : va_P D xCl ((xWs h dA G F Rr T).set (21 + j) (a, x)) H1) (hD : va_D A ((xWs h dA G F Rr T).set (21 + j) (a, x))) (hS : va_S A s.heap H1 locs1) : xM D dA A e0 h G (T.set j (a, x)) s F Rr H1 locs1 := by
  rw [xT_set (List.getElem?_eq_some_iff.mp ht).1] at hP hD
  exact ⟨hP, hD, hS, M.2.2.2⟩
/-- temporary cells are let go -/
theorem xM_drop {T' : va_W} (M : xM D dA A e0 h G (T ++ T') s F Rr H locs) : xM D dA A e0 h G T s F Rr H locs := by
  have g : ∀ (k : Nat) (q : Nat × va_E), ((xW h dA G F Rr ++ T) ++ va_pl (g_L G) (g_f G))[k]? = some q → ((xW h dA G F Rr ++ (T ++ T')) ++ va_pl (g_L G) (g_f G))[if k < (xW h dA G F Rr ++ T).length then k else k + T'.length]? = some q := by
    intro k q hk
    rw [← List.append_assoc (xW h dA G F Rr)]
    by_cases h1 : k < (xW h dA G F Rr ++ T).length
    · rw [if_pos h1]
      rw [List.getElem?_append_left h1] at hk
      rw [List.getElem?_append_left (by rw [List.length_append]; omega), List.getElem?_append_left h1]
      exact hk
    · rw [if_neg h1]
      rw [List.getElem?_append_right (by omega)] at hk
      rw [List.getElem?_append_right (by rw [List.length_append]; omega), List.length_append (as := xW h dA G F Rr ++ T) (bs := T'), show k + T'.length - ((xW h dA G F Rr ++ T).length + T'.length) = k - (xW h dA G F Rr ++ T).length by omega]
      exact hk
  refine ⟨M.1.by _ g, M.2.1.by _ g (fun i j _ _ e => ?_), M.2.2⟩
  by_cases h1 : i < (xW h dA G F Rr ++ T).length <;> by_cases h2 : j < (xW h dA G F Rr ++ T).length <;> simp only [h1, h2, if_true, if_false] at e <;> omega
/-- the last temporary cell goes to the pool, with a role -/
def gAdd (G : xG) (q c : Nat) (x : va_E) : xG := (g_ad G, g_rs G, g_mc G, g_ed G, g_cap G, g_r G, g_L G ++ [q], va_up (g_k G) q c, va_up (g_f G) q x)
theorem gAdd_at (G : xG) (q c : Nat) (x : va_E) : xat (gAdd G q c x) q c x := ⟨List.mem_append_right _ (List.mem_singleton.mpr rfl), up_s _ _ _, up_s _ _ _⟩
theorem gAdd_xat {q c : Nat} {x : va_E} (hq : q ∉ g_L G) {y c' : Nat} {x' : va_E} (ha : xat G y c' x') : xat (gAdd G q c x) y c' x' := by
  obtain ⟨h1, h2, h3⟩ := ha
  have hn : y ≠ q := fun e => hq (e ▸ h1)
  exact ⟨List.mem_append_left _ h1, (up_n _ _ hn).trans h2, (up_n _ _ hn).trans h3⟩
theorem gAdd_ext {q c : Nat} {x : va_E} (hq : q ∉ g_L G) : xext G (gAdd G q c x) := fun y hy _ => by
  have hn : y ≠ q := fun e => hq (e ▸ hy)
  exact ⟨List.mem_append_left _ hy, up_n _ _ hn, up_n _ _ hn⟩
theorem xel_mono {G' : xG} (hx : ∀ y c x, xat G y c x → xat G' y c x) {j k y : Nat} (hh : xel dA G Rr j k y) : xel dA G' Rr j k y := by
  unfold xel at hh ⊢
  split at hh
  · rename_i q; rw [if_pos q]; exact hx _ _ _ hh
  rename_i q0; rw [if_neg q0]
  split at hh
  · rename_i q; rw [if_pos q]; obtain ⟨g, a, b⟩ := hh; exact ⟨g, hx _ _ _ a, b⟩
  rename_i q1; rw [if_neg q1]
  split at hh
  · rename_i q; rw [if_pos q]; exact hx _ _ _ hh
  rename_i q2; rw [if_neg q2]
  split at hh
  · rename_i q; rw [if_pos q]; exact hx _ _ _ hh
  rename_i q3; rw [if_neg q3]
  split at hh
  · rename_i q; rw [if_pos q]; obtain ⟨ci, a, b, d⟩ := hh; exact ⟨ci, a, b, hx _ _ _ d⟩
  rename_i q4; rw [if_neg q4]; exact hx _ _ _ hh
theorem xI_mono {G' : xG} (hrs : g_rs G' = g_rs G) (hed : g_ed G' = g_ed G) (hcap : g_cap G' = g_cap G) (hr : g_r G' = g_r G) (hx : ∀ y c x, xat G y c x → xat G' y c x) (I : xI dA e0 G F Rr) : xI dA e0 G' F Rr := by
  have L : ∀ j N, xLs dA e0 G F Rr j N → xLs dA e0 G' F Rr j N := by
    intro j N hh
    refine ⟨hh.1, ?_, fun k hk => ?_⟩
    · rw [hed, hcap, hr]
      exact hh.2.1.imp id (fun z => ⟨hx _ _ _ z.1, z.2⟩)
    · obtain ⟨y, a, b⟩ := hh.2.2 k hk
      exact ⟨y, by rw [hr]; exact a, xel_mono hx b⟩
  obtain ⟨a, b, c, d, e, f, g, i, j⟩ := I
  refine ⟨L _ _ a, L _ _ b, L _ _ c, L _ _ d, L _ _ e, L _ _ f, fun s hs => ?_, i, j⟩
  rw [hrs]
  rcases g s hs with q | ⟨y, z, n, q1, q2, q3, q4, q5⟩
  · exact Or.inl q
  · exact Or.inr ⟨y, z, n, q1, hx _ _ _ q2, q3, hx _ _ _ q4, q5⟩
theorem xM_pool {q : Nat} {x : va_E} (M : xM D dA A e0 h G (T ++ [(q, x)]) s F Rr H locs) (c0 : Nat) : q ∉ g_L G ∧ xM D dA A e0 h (gAdd G q c0 x) T s F Rr H locs := by
  have e1 : xWs h dA G F Rr (T ++ [(q, x)]) = ((xW h dA G F Rr ++ T) ++ [(q, x)]) ++ va_pl (g_L G) (g_f G) := by unfold xWs; rw [← List.append_assoc (xW h dA G F Rr)]
  have hP := M.1
  have hD := M.2.1
  rw [e1] at hP hD
  have hP2 := hP.swap
  have hD2 := hD.swap
  have hq : q ∉ g_L G := va_pl_fresh2 hD2
  refine ⟨hq, ?_, ?_, M.2.2.1, xI_mono (G := G) (G' := gAdd G q c0 x) rfl rfl rfl rfl (fun y c x' ha => gAdd_xat hq ha) M.2.2.2⟩
  · show va_P D xCl ((xW h dA G F Rr ++ T) ++ va_pl (g_L G ++ [q]) (va_up (g_f G) q x)) H
    rw [← va_pl_push hq, ← List.append_assoc]; exact hP2
  · show va_D A ((xW h dA G F Rr ++ T) ++ va_pl (g_L G ++ [q]) (va_up (g_f G) q x))
    rw [← va_pl_push hq, ← List.append_assoc]; exact hD2
/-- a callee that writes one cell -/
theorem fr_set {ws : va_W} {i a : Nat} {x0 x : va_E} {H1 : Heap} (hP : va_P D xCl ws H) (hD : va_D A ws) (hi : ws[i]? = some (a, x0)) (hk : ∀ q : Nat, q < H.size → ¬ va_A [(a, x0)] H.size q → H1[q]? = H[q]?) (h1 : va_at D xCl (a, x) H1) : va_P D xCl (ws.set i (a, x)) H1 ∧ va_D A (ws.set i (a, x)) := by
  refine ⟨fun k q hq => ?_, hD.set hi⟩
  have hl := (List.getElem?_eq_some_iff.mp hi).1
  by_cases hkp : k = i
  · subst hkp
    rw [List.getElem?_set_self hl] at hq
    cases hq
    exact h1
  · rw [List.getElem?_set_ne (Ne.symm hkp)] at hq
    have hlt := (hP k q hq).lt
    refine (hP k q hq).kept (hk q.1 hlt (fun z => ?_))
    rcases z with ⟨k2, e2, z⟩ | z
    · rcases k2 with _ | k2
      · cases z
        exact hkp (hD.1 k i q _ hq hi rfl)
      · cases z
    · omega
end XPOOL
