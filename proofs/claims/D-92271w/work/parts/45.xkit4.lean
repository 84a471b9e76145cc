/-! THE SYSTEM'S WORLD, 5: things made beside the world -/
section XMADE
variable {p : Program} {l : Launch} {e : Env} {R : Room} {s : State} {m : MethodId} {args : Array Value} {below : List Frame} {meth : Method} {c : Code} {H : Heap} {locs : List Loc} {cells slots : Nat} {Q : State → Prop}
variable {own : String} {cc : ByteArray} {nL pc : Nat} {ls : Array Slot} {rest : List Value} {D : va_G} {dA : Nat → ClassId} {A : Nat → Prop} {e0 h : Nat} {G : xG} {T cs : va_W} {F : Nat → Int32} {Rr : Nat → Nat → Int32}
theorem xT_atk {j : Nat} {q : Nat × va_E} (hc : cs[j]? = some q) : (T ++ cs)[T.length + j]? = some q := by
  rw [List.getElem?_append_right (by omega), Nat.add_sub_cancel_left]; exact hc
theorem xT_k {j a : Nat} {x : va_E} (hc : cs[j]? = some (a, x)) : (xWs h dA G F Rr (T ++ cs))[21 + (T.length + j)]? = some (a, x) := xT_at (xT_atk hc)
theorem xT_setk {j : Nat} {q : Nat × va_E} : (T ++ cs).set (T.length + j) q = T ++ cs.set j q := by
  rw [List.set_append_right _ _ (by omega), Nat.add_sub_cancel_left]
theorem xM_setk {j : Nat} {a : Nat} {x0 x : va_E} (M : xM D dA A e0 h G (T ++ cs) s F Rr H locs) (ht : cs[j]? = some (a, x0)) {H1 : Heap} {locs1 : List Loc} (hP : va_P D xCl ((xWs h dA G F Rr (T ++ cs)).set (21 + (T.length + j)) (a, x)) H1) (hD : va_D A ((xWs h dA G F Rr (T ++ cs)).set (21 + (T.length + j)) (a, x))) (hS : va_S A s.heap H1 locs1) : xM D dA A e0 h G (T ++ cs.set j (a, x)) s F Rr H1 locs1 := by
  have := xM_setT M (xT_atk ht) hP hD hS
  rw [xT_setk] at this; exact this
theorem va_D1 {ws : va_W} {i a : Nat} {x : va_E} (hD : va_D A ws) (hi : ws[i]? = some (a, x)) : va_D A [(a, x)] := by
  refine ⟨fun t t' q q' hq hq' e => ?_, fun t q hq => ?_⟩
  · rcases t with _ | t <;> rcases t' with _ | t' <;> (try cases hq) <;> (try cases hq') <;> rfl
  · rcases t with _ | t
    · cases hq; exact hD.2 i _ hi
    · cases hq
theorem va_free1 {ws : va_W} {i a : Nat} {x : va_E} {H0 H : Heap} {locs : List Loc} (hD : va_D A ws) (hS : va_S A H0 H locs) (hA : ∀ q, H0.size ≤ q → A q) (hi : ws[i]? = some (a, x)) : ∀ q, va_A [(a, x)] H.size q → A q := by
  intro q z
  rcases z with ⟨t, e2, z⟩ | z
  · rcases t with _ | t
    · cases z; exact hD.2 i _ hi
    · cases z
  · exact hA q (Nat.le_trans hS.1 z)
theorem xM_pushI {q : Nat} {x : va_E} (I : xI dA e0 G F Rr) {H1 : Heap} {locs1 : List Loc} (hP : va_P D xCl (xWs h dA G F Rr T ++ [(q, x)]) H1) (hD : va_D A (xWs h dA G F Rr T ++ [(q, x)])) (hS : va_S A s.heap H1 locs1) : xM D dA A e0 h G (T ++ [(q, x)]) s F Rr H1 locs1 := by
  refine ⟨?_, ?_, hS, I⟩
  · have := hP.swap (a := xW h dA G F Rr ++ T) (b := va_pl (g_L G) (g_f G)) (c := [(q, x)])
    rw [List.append_assoc (xW h dA G F Rr)] at this
    exact this
  · have := hD.swap (a := xW h dA G F Rr ++ T) (b := va_pl (g_L G) (g_f G)) (c := [(q, x)])
    rw [List.append_assoc (xW h dA G F Rr)] at this
    exact this
variable {y : MethodName} {bytes : ByteArray} {maxL n index mc ms : Nat} {wsc : List Cond} {rm : Room} {As st : List Value}
/-- a thing made is told its fields: it alone is known there -/
theorem x_ini1 {j a : Nat} {x0 x : va_E} (X : xX own p s m args c cc nL D dA A e0) (M : xM D dA A e0 h G (T ++ cs) s F Rr H locs) (hj : cs[j]? = some (a, x0)) (hM : ∀ A' : Nat → Prop, Met l y wsc rm (va_Pc (.ref a :: As) (fun U => xC D dA A' e0 U ∧ va_P D xCl [(a, x0)] U.heap ∧ va_D A' [(a, x0)])) (va_Qv (fun _ : Unit => True) (fun _ t => va_P D xCl [(a, x)] t.heap ∧ va_D A' [(a, x)]) A') mc ms A')
    (cw : CallB R s args own index y bytes maxL none wsc rm mc ms n ∧ y.name = "<init>" ∧ (Cond.instanceMethod y).before args s = true) (hn : As.length = n) (hl : ls.size = nL) (hst : st = As.reverse ++ .ref a :: rest) (hW : (rest.map fun v => v.category).sum ≤ 8) (hdg : decode cc pc = .ok (.invokespecial index, 3)) (hf : cells + mc ≤ R.cells ∧ slots + ms ≤ R.slots)
    (kk : ∀ (H1 : Heap) (locs1 : List Loc), xM D dA A e0 h G (T ++ cs.set j (a, x)) s F Rr H1 locs1 → W p l e R s m args below meth c H1 locs1 (cells + mc) (slots + ms) Q (F0 m (pc + 3) ls rest)) : W p l e R s m args below meth c H locs cells slots Q (F0 m pc ls st) := by
  have hi := xT_k (h := h) (dA := dA) (G := G) (F := F) (Rr := Rr) (T := T) hj
  have hDc := va_D1 M.2.1 hi
  have hFc := va_free1 M.2.1 M.2.2.1 X.hA hi
  refine va_callv (va_runI (As := As) (rest := rest) X.1 (hM _) cw ⟨gPre_blindD, fun U hU hW => ⟨rfl, X.Cn M.2.2.1 hFc hU hW, by rw [hU]; exact va_P1 (M.1 _ _ hi), hDc.self⟩⟩ rfl hn hl hst (by simpa [JFrame.monitorRoom] using hW) hdg hf) M.2.2.1 (fun q _ h => hFc q h) hFc (fun u t H1 locs1 ht hvm hp hB hz hk hS => ?_)
  obtain ⟨hP1, hD1⟩ := hB; rw [ht] at hP1
  obtain ⟨p1, d1⟩ := fr_set (x := x) M.1 M.2.1 hi hk (hP1 0 _ rfl)
  exact kk H1 locs1 (xM_setk M hj p1 d1 hS)
/-- .. and a second thing beside it, that is only read: it lies at k -/
theorem x_ini2 {j k a b : Nat} {x0 x z : va_E} (X : xX own p s m args c cc nL D dA A e0) (M : xM D dA A e0 h G (T ++ cs) s F Rr H locs) (hj : cs[j]? = some (a, x0)) (hk0 : (xWs h dA G F Rr (T ++ cs))[k]? = some (b, z)) (hjk : 21 + (T.length + j) ≠ k) (hM : ∀ A' : Nat → Prop, Met l y wsc rm (va_Pc (.ref a :: As) (fun U => xC D dA A' e0 U ∧ va_P D xCl [(a, x0), (b, z)] U.heap ∧ va_D A' [(a, x0), (b, z)])) (va_Qv (fun _ : Unit => True) (fun _ t => va_P D xCl [(a, x), (b, z)] t.heap ∧ va_D A' [(a, x), (b, z)]) A') mc ms A')
    (cw : CallB R s args own index y bytes maxL none wsc rm mc ms n ∧ y.name = "<init>" ∧ (Cond.instanceMethod y).before args s = true) (hn : As.length = n) (hl : ls.size = nL) (hst : st = As.reverse ++ .ref a :: rest) (hW : (rest.map fun v => v.category).sum ≤ 8) (hdg : decode cc pc = .ok (.invokespecial index, 3)) (hf : cells + mc ≤ R.cells ∧ slots + ms ≤ R.slots)
    (kk : ∀ (H1 : Heap) (locs1 : List Loc), xM D dA A e0 h G (T ++ cs.set j (a, x)) s F Rr H1 locs1 → W p l e R s m args below meth c H1 locs1 (cells + mc) (slots + ms) Q (F0 m (pc + 3) ls rest)) : W p l e R s m args below meth c H locs cells slots Q (F0 m pc ls st) := by
  have hi := xT_k (h := h) (dA := dA) (G := G) (F := F) (Rr := Rr) (T := T) hj
  have hDc := va_D2 M.2.1 hi hk0 hjk
  have hFc := va_free2 M.2.1 M.2.2.1 X.hA hi hk0
  refine va_callv (va_runI (As := As) (rest := rest) X.1 (hM _) cw ⟨gPre_blindD, fun U hU hW => ⟨rfl, X.Cn M.2.2.1 hFc hU hW, by rw [hU]; exact va_P2 (M.1 _ _ hi) (M.1 _ _ hk0), hDc.self⟩⟩ rfl hn hl hst (by simpa [JFrame.monitorRoom] using hW) hdg hf) M.2.2.1 (fun q _ h => hFc q h) hFc (fun u t H1 locs1 ht hvm hp hB hz hk hS => ?_)
  obtain ⟨hP1, hD1⟩ := hB; rw [ht] at hP1
  obtain ⟨p1, d1, -⟩ := fr_upd2 (x := x) (u := b) (y := z) M.1 M.2.1 hi hk0 hjk hk hFc hP1 hD1
  have e1 : ((xWs h dA G F Rr (T ++ cs)).set (21 + (T.length + j)) (a, x)).set k (b, z) = (xWs h dA G F Rr (T ++ cs)).set (21 + (T.length + j)) (a, x) := by
    apply List.ext_getElem?
    intro t
    by_cases ht' : t = k
    · subst ht'
      rw [List.getElem?_set_self (by rw [List.length_set]; exact (List.getElem?_eq_some_iff.mp hk0).1), List.getElem?_set_ne hjk, hk0]
    · rw [List.getElem?_set_ne (Ne.symm ht')]
  rw [e1] at p1 d1
  exact kk H1 locs1 (xM_setk M hj p1 d1 hS)
/-- .. and it makes a second thing of its own, that goes behind -/
theorem x_iniN {j a : Nat} {x0 : va_E} {x z : Nat → va_E} (X : xX own p s m args c cc nL D dA A e0) (M : xM D dA A e0 h G (T ++ cs) s F Rr H locs) (hj : cs[j]? = some (a, x0)) (hM : ∀ A' : Nat → Prop, Met l y wsc rm (va_Pc (.ref a :: As) (fun U => xC D dA A' e0 U ∧ va_P D xCl [(a, x0)] U.heap ∧ va_D A' [(a, x0)])) (va_Qv (fun _ : Nat => True) (fun u t => va_P D xCl [(a, x u), (u, z u)] t.heap ∧ va_D A' [(a, x u), (u, z u)]) A') mc ms A')
    (cw : CallB R s args own index y bytes maxL none wsc rm mc ms n ∧ y.name = "<init>" ∧ (Cond.instanceMethod y).before args s = true) (hn : As.length = n) (hl : ls.size = nL) (hst : st = As.reverse ++ .ref a :: rest) (hW : (rest.map fun v => v.category).sum ≤ 8) (hdg : decode cc pc = .ok (.invokespecial index, 3)) (hf : cells + mc ≤ R.cells ∧ slots + ms ≤ R.slots)
    (kk : ∀ (u : Nat) (H1 : Heap) (locs1 : List Loc), xM D dA A e0 h G ((T ++ cs.set j (a, x u)) ++ [(u, z u)]) s F Rr H1 locs1 → W p l e R s m args below meth c H1 locs1 (cells + mc) (slots + ms) Q (F0 m (pc + 3) ls rest)) : W p l e R s m args below meth c H locs cells slots Q (F0 m pc ls st) := by
  have hi := xT_k (h := h) (dA := dA) (G := G) (F := F) (Rr := Rr) (T := T) hj
  have hDc := va_D1 M.2.1 hi
  have hFc := va_free1 M.2.1 M.2.2.1 X.hA hi
  refine va_callv (va_runI (As := As) (rest := rest) X.1 (hM _) cw ⟨gPre_blindD, fun U hU hW => ⟨rfl, X.Cn M.2.2.1 hFc hU hW, by rw [hU]; exact va_P1 (M.1 _ _ hi), hDc.self⟩⟩ rfl hn hl hst (by simpa [JFrame.monitorRoom] using hW) hdg hf) M.2.2.1 (fun q _ h => hFc q h) hFc (fun u t H1 locs1 ht hvm hp hB hz hk hS => ?_)
  obtain ⟨hP1, hD1⟩ := hB; rw [ht] at hP1
  obtain ⟨p1, d1, -⟩ := fr_upd1 (x := x u) (u := u) (y := z u) M.1 M.2.1 hi hk hFc hP1 hD1
  rw [xT_set (by rw [List.length_append]; have := (List.getElem?_eq_some_iff.mp hj).1; omega), xT_setk] at p1 d1
  exact kk u H1 locs1 (xM_pushI (T := T ++ cs.set j (a, x u)) M.2.2.2 p1 d1 hS)
/-- a call on a thing made, with one of the pool's, that only asks: an int -/
theorem x_cTE {Cn : String} {Tn : u_T} {Nn ci c0 j a b : Nat} {fs : List Value} {x : va_E} {v : Int32} {ret : Option FieldType} (X : xX own p s m args c cc nL D dA A e0) (M : xM D dA A e0 h G (T ++ cs) s F Rr H locs) (hj : cs[j]? = some (a, .inr (ci, fs))) (hb : xat G b c0 x) (hc : xCl[ci]? = some (Cn, Tn, Nn)) (hM : Met l y wsc rm (va_Pc (.ref a :: As) (fun U => xC D dA A e0 U ∧ va_P D xCl [(a, .inr (ci, fs)), (b, x)] U.heap)) (vp_Si (fun r => r = v)) 0 0 (fun _ => False)) (cw : CallW R s args own Cn index y bytes maxL ret wsc rm 0 0 n) (hn : As.length = n) (hl : ls.size = nL) (hst : st = As.reverse ++ .ref a :: rest) (hW : (rest.map fun v => v.category).sum ≤ 8) (hdg : decode cc pc = .ok (.invokevirtual index, 3)) (hf : cells ≤ R.cells ∧ slots ≤ R.slots) (kk : W p l e R s m args below meth c H locs cells slots Q (F0 m (pc + 3) ls (.int v :: rest))) : W p l e R s m args below meth c H locs cells slots Q (F0 m pc ls st) := by
  obtain ⟨q9, h9⟩ := xat_ws hb (xW h dA G F Rr ++ (T ++ cs))
  have hi := xT_k (h := h) (dA := dA) (G := G) (F := F) (Rr := Rr) (T := T) hj
  exact vp_callSi (W.runV (As := As) (rest := rest) X.1 hM cw ⟨gPre_blind, va_recv (cl := xCl) X.K M.1 hc hi, fun U hU hW => ⟨rfl, X.C M.2.2.1 hU hW, by rw [hU]; exact va_P2 (M.1 _ _ hi) (M.1 q9 _ h9)⟩⟩ rfl hn hl hst (by simpa [JFrame.monitorRoom] using hW) hdg hf) (fun r hr => by subst hr; exact kk)
end XMADE
