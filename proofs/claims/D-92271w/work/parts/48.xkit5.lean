/-! EXCEPTIONS: what is thrown, what catches it -/
abbrev xfnd (n : Int32) : va_E := .inr (13, [.null, .null, .null, .null, .null, .int 0, .int n])
theorem zq_ex {C n d : String} {A : Nat → Prop} {U : State} {H : Heap} (h : va_Zq C n d A U H) : ∃ v : Value, (v = .null ∨ ∃ t : Nat, v = .ref t) ∧ va_Z C n d v A U H := by
  rcases h with h | ⟨t, h⟩
  · exact ⟨_, Or.inl rfl, h⟩
  · exact ⟨_, Or.inr ⟨t, rfl⟩, h⟩
theorem x_recvN {s : State} {H : Heap} {D : va_G} {a q0 ci : Nat} {q : vw_C} {fs : List Value} {ws : va_W} {tys : List (ClassId × FieldType)} (hK : va_K D xCl tys s) (hP : va_P D xCl ws H) (hc : xCl[ci]? = some q) (he : ws[q0]? = some (a, .inr (ci, fs))) : ∃ cell : Cell, H[a]? = some cell ∧ cell.vm = .none ∧ s.vm.findClass q.1 = some cell.cls := by
  obtain ⟨q', h1, cell, g1, g2, g3, -⟩ := hP q0 _ he
  exact ⟨cell, g1, g3, by rw [g2]; exact (hK.1 ci q hc).2.1⟩
/-- a Finding goes out; it is new, and nothing old has changed but in A -/
abbrev xThr (D : va_G) (A : Nat → Prop) (n : Int32) : String → Addr → State → State → Prop := vx_X (fun _ : Unit => True) (fun E q _ t => E = RX3 ∧ A q ∧ va_at D xCl (q, xfnd n) t.heap) A
/-- .. out of a method of the system's: its world stands as it was, the Finding beside it -/
abbrev xThrW (D : va_G) (dA : Nat → ClassId) (A : Nat → Prop) (h : Nat) (G : xG) (T : va_W) (F : Nat → Int32) (Rr : Nat → Nat → Int32) (n : Int32) : String → Addr → State → State → Prop := vx_X (fun _ : Unit => True) (fun E q _ t => E = RX3 ∧ va_P D xCl (xWs h dA G F Rr (T ++ [(q, xfnd n)])) t.heap ∧ va_D A (xWs h dA G F Rr (T ++ [(q, xfnd n)]))) A
/-- behind a callee that leaves the cells wc as they were, and makes one -/
theorem fr_new {D : va_G} {A : Nat → Prop} {ws wc : va_W} {u : Nat} {y : va_E} {H H1 : Heap} (hP : va_P D xCl ws H) (hD : va_D A ws) (hsub : ∀ (k : Nat) (q : Nat × va_E), wc[k]? = some q → ∃ i : Nat, ws[i]? = some q) (hfr : ∀ q : Nat, q < H.size → ¬ va_A wc H.size q → H1[q]? = H[q]?) (hF : ∀ q, va_A wc H.size q → A q) (hP1 : va_P D xCl (wc ++ [(u, y)]) H1) (hD1 : va_D (va_A wc H.size) (wc ++ [(u, y)])) :
    va_P D xCl (ws ++ [(u, y)]) H1 ∧ va_D A (ws ++ [(u, y)]) ∧ H.size ≤ u := by
  have hu1 : (wc ++ [(u, y)])[wc.length]? = some (u, y) := by rw [List.getElem?_append_right (Nat.le_refl _), Nat.sub_self]; rfl
  have hu : H.size ≤ u := by
    rcases hD1.2 _ _ hu1 with ⟨k, e2, z⟩ | z
    · have hl := (List.getElem?_eq_some_iff.mp z).1
      have := hD1.1 k wc.length (u, e2) _ (by rw [List.getElem?_append_left hl]; exact z) hu1 rfl
      omega
    · exact z
  have old : ∀ (t : Nat) (q : Nat × va_E), ws[t]? = some q → q.1 < H.size ∧ va_at D xCl q H1 := by
    intro t q hq
    have hlt := (hP t q hq).lt
    refine ⟨hlt, ?_⟩
    by_cases hin : va_A wc H.size q.1
    · rcases hin with ⟨k, e2, z⟩ | z
      · obtain ⟨i, hi⟩ := hsub k _ z
        have e3 := hD.1 t i q _ hq hi rfl
        subst e3
        have e4 := Option.some.inj (hq.symm.trans hi)
        have hl := (List.getElem?_eq_some_iff.mp z).1
        rw [e4]
        exact hP1 k _ (by rw [List.getElem?_append_left hl]; exact z)
      · omega
    · exact (hP t q hq).kept (hfr q.1 hlt hin)
  have key : ∀ (t : Nat) (q : Nat × va_E), (ws ++ [(u, y)])[t]? = some q → (t < ws.length ∧ ws[t]? = some q) ∨ (t = ws.length ∧ q = (u, y)) := by
    intro t q hq
    by_cases hl : t < ws.length
    · rw [List.getElem?_append_left hl] at hq; exact Or.inl ⟨hl, hq⟩
    · rw [List.getElem?_append_right (by omega)] at hq
      have h0 : t - ws.length = 0 := by
        have z9 : t - ws.length < 1 := (List.getElem?_eq_some_iff.mp hq).1
        omega
      rw [h0] at hq
      cases hq; exact Or.inr ⟨by omega, rfl⟩
  refine ⟨fun t q hq => ?_, ⟨fun t t' q q' hq hq' e => ?_, fun t q hq => ?_⟩, hu⟩
  · rcases key t q hq with ⟨-, g⟩ | ⟨-, rfl⟩
    · exact (old t q g).2
    · exact hP1 _ _ hu1
  · rcases key t q hq with ⟨g0, g⟩ | ⟨g0, rfl⟩ <;> rcases key t' q' hq' with ⟨g0', g'⟩ | ⟨g0', rfl⟩
    · exact hD.1 t t' q q' g g' e
    · exfalso; have := (old t q g).1; have e' : q.1 = u := e; omega
    · exfalso; have := (old t' q' g').1; have e' : u = q'.1 := e; omega
    · omega
  · rcases key t q hq with ⟨-, g⟩ | ⟨-, rfl⟩
    · exact hD.2 t q g
    · exact hF _ (hD1.2 _ _ hu1)
section XTHR
variable {p : Program} {l : Launch} {e : Env} {R : Room} {s : State} {m : MethodId} {args : Array Value} {below : List Frame} {meth : Method} {c : Code} {H : Heap} {locs : List Loc} {cells slots : Nat} {Q : State → Prop}
variable {own : String} {cc : ByteArray} {nL pc mc ms : Nat} {ls : Array Slot} {rest st0 : List Value} {D : va_G} {dA : Nat → ClassId} {A : Nat → Prop} {e0 h : Nat} {G : xG} {T : va_W} {F : Nat → Int32} {Rr : Nat → Nat → Int32} {A0 : Nat → Prop} {H0 : Heap} {free : Addr → Prop}
/-- a call that always throws -/
theorem vx_callF {SX : Type} {px : SX → Prop} {BX : String → Addr → SX → State → Prop} {AX : Nat → Prop} (hr : vx_Run p l e R s m args below meth c H locs cells slots mc ms (F0 m pc ls st0) rest (fun _ _ _ => False) (vx_X px BX AX) free) (hS : va_S A0 H0 H locs) (hf : ∀ q, free q → A0 q) (hAX : ∀ q, q < H.size → AX q → A0 q)
    (kx : ∀ (E : String) (ce : Cell) (q9 : Addr) (u : SX) (t : State) (H1 : Heap) (locs1 : List Loc), t.heap = H1 → s.vm.Alike t.vm → px u → BX E q9 u t → H.size ≤ H1.size → (∀ q : Nat, q < H.size → ¬ AX q → H1[q]? = H[q]?) → va_S A0 H0 H1 locs1 → H1[q9]? = some ce → ce.vm = .none → s.vm.findClass E = some ce.cls → vx_W p l e R s m args below meth c H1 locs1 (cells + mc) (slots + ms) Q (F0 m pc ls rest) q9) : W p l e R s m args below meth c H locs cells slots Q (F0 m pc ls st0) := by
  intro T hT X
  rcases hr T hT X with ⟨v, st₀, t, T', L, h0, X', hL, e1, e2, hz, -⟩ | ⟨q, st₀, t, T', L, E, ce, h0, X', hL, e1, e2, ⟨u, hp, hb, hF⟩, hce, hcv, hcl, st⟩
  · exact hz.elim
  · obtain ⟨k1, k2, k3⟩ := vx_keep h0 e1 hS hAX hf hL hF
    obtain ⟨t2, a1, b1⟩ := kx E ce q u t T'.heap (locs ++ L) e1.symm (by rw [← e2]; exact X'.warmed.alike) hp hb k1 k2 k3 (by rw [e1]; exact hce) hcv hcl T' rfl X'
    exact ⟨t2, st.trans a1, b1⟩
theorem x_thrown {n9 : Int32} (X : xX own p s m args c cc nL D dA A e0) (M : xM D dA A e0 h G T s F Rr H locs) (hr : vx_Run p l e R s m args below meth c H locs cells slots mc ms (F0 m pc ls st0) rest (fun _ _ _ => False) (xThr D (va_A [] H.size) n9) (va_A [] H.size))
    (kx : ∀ (q9 : Nat) (ce : Cell) (H1 : Heap) (locs1 : List Loc), xM D dA A e0 h G (T ++ [(q9, xfnd n9)]) s F Rr H1 locs1 → H1[q9]? = some ce → ce.vm = .none → s.vm.findClass RX3 = some ce.cls → vx_W p l e R s m args below meth c H1 locs1 (cells + mc) (slots + ms) Q (F0 m pc ls rest) q9) : W p l e R s m args below meth c H locs cells slots Q (F0 m pc ls st0) := by
  have hF : ∀ q, va_A [] H.size q → A q := by
    intro q z
    rcases z with ⟨k, e2, z⟩ | z
    · cases z
    · exact X.hA q (Nat.le_trans M.2.2.1.1 z)
  refine vx_callF hr M.2.2.1 hF (fun q _ z => hF q z) (fun E ce q9 u t H1 locs1 ht hvm hp hB hz hk hS hce hcv hcl => ?_)
  obtain ⟨hE, hq, hat⟩ := hB
  rw [hE] at hcl; rw [ht] at hat
  have hD1 : va_D (va_A [] H.size) ([] ++ [(q9, xfnd n9)]) := by
    refine ⟨fun t t' q q' hq' hq'' e => ?_, fun t q hq' => ?_⟩
    · rcases t with _ | t <;> rcases t' with _ | t' <;> (try cases hq') <;> (try cases hq'') <;> rfl
    · rcases t with _ | t
      · cases hq'; exact hq
      · cases hq'
  obtain ⟨p1, d1, -⟩ := fr_new M.1 M.2.1 (wc := []) (fun k q z => by cases z) hk hF (va_P1 hat) hD1
  exact kx q9 ce H1 locs1 (xM_pushI M.2.2.2 p1 d1 hS) hce hcv hcl
theorem x_thrownW {n9 : Int32} (M : xM D dA A e0 h G T s F Rr H locs) (hr : vx_Run p l e R s m args below meth c H locs cells slots mc ms (F0 m pc ls st0) rest (fun _ _ _ => False) (xThrW D dA A h G T F Rr n9) A)
    (kx : ∀ (q9 : Nat) (ce : Cell) (H1 : Heap) (locs1 : List Loc), xM D dA A e0 h G (T ++ [(q9, xfnd n9)]) s F Rr H1 locs1 → H1[q9]? = some ce → ce.vm = .none → s.vm.findClass RX3 = some ce.cls → vx_W p l e R s m args below meth c H1 locs1 (cells + mc) (slots + ms) Q (F0 m pc ls rest) q9) : W p l e R s m args below meth c H locs cells slots Q (F0 m pc ls st0) := by
  refine vx_callF hr M.2.2.1 (fun _ z => z) (fun q _ z => z) (fun E ce q9 u t H1 locs1 ht hvm hp hB hz hk hS hce hcv hcl => ?_)
  obtain ⟨hE, b1, b2⟩ := hB
  rw [hE] at hcl; rw [ht] at b1
  exact kx q9 ce H1 locs1 ⟨b1, b2, hS, M.2.2.2⟩ hce hcv hcl
theorem x_catch {hh : List (Nat × Nat × Nat × Nat)} {q : Nat} {ce : Cell} (X : xX own p s m args c cc nL D dA A e0) (htab : c.exceptionTable.toList = tableOf hh) (pre : List ExceptionTableEntry) (x : ExceptionTableEntry) (suf : List ExceptionTableEntry) (hsplit : tableOf hh = pre ++ x :: suf) (hpre : ∀ z ∈ pre, covers z pc = false) (hx : covers x pc = true) (h0 : x.catchType ≠ 0)
    (hlink : (Cond.classLink own x.catchType RX3).before args s = true) (hce : H[q]? = some ce) (hcv : ce.vm = .none) (hcl : s.vm.findClass RX3 = some ce.cls) (kk : W p l e R s m args below meth c H locs cells slots Q (F0 m x.handlerPc ls [.ref q])) : vx_W p l e R s m args below meth c H locs cells slots Q (F0 m pc ls rest) q :=
  vx_catch X.ow pre x suf (htab.trans hsplit) (fun z hz => Or.inl (hpre z hz)) hx h0 hlink (va_Nw.use rfl (X.T.1 _ q239 rfl)) hce hcv hcl kk
end XTHR
