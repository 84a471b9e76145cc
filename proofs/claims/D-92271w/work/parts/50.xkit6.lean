/-! THE SHEETS -/
section XSHEETS
variable {p : Program} {l : Launch} {e : Env} {R : Room} {s : State} {m : MethodId} {args : Array Value} {below : List Frame} {meth : Method} {c : Code} {H : Heap} {locs : List Loc} {cells slots : Nat} {Q : State → Prop}
variable {own : String} {cc : ByteArray} {nL pc mc ms : Nat} {ls : Array Slot} {rest st0 : List Value} {D : va_G} {dA : Nat → ClassId} {A : Nat → Prop} {e0 h : Nat} {G : xG} {T : va_W} {F : Nat → Int32} {Rr : Nat → Nat → Int32}
theorem xLs_gen {G' : xG} {Rr' : Nat → Nat → Int32} (hed : g_ed G' = g_ed G) (hcap : g_cap G' = g_cap G) (hr : g_r G' = g_r G) (hx : ∀ y c x, (c < 100 ∨ 200 ≤ c) → xat G y c x → xat G' y c x) (hR : ∀ b, 60 ≤ b → Rr' b = Rr b) {j : Nat} {N : Int32} (hj : j = 6 ∨ j = 10 ∨ j = 11 ∨ j = 13 ∨ j = 14 ∨ j = 15) (hh : xLs dA e0 G F Rr j N) : xLs dA e0 G' F Rr' j N := by
  refine ⟨hh.1, ?_, fun k hk => ?_⟩
  · rw [hed, hcap, hr]
    exact hh.2.1.imp id (fun z => ⟨hx _ _ _ (Or.inr (by omega)) z.1, z.2⟩)
  · obtain ⟨y, a, b⟩ := hh.2.2 k hk
    refine ⟨y, by rw [hr]; exact a, xel_cg (fun b hb => ?_) (fun _ i _ => by rw [hR 100 (by decide)]) (xel_mono1 (fun y c x hc q => hx y c x (Or.inl hc) q) b)⟩
    rw [hR b]
    unfold xband at hb
    rcases hj with q | q | q | q | q | q <;> subst q <;> simp at hb <;> omega
theorem xI_gen {G' : xG} {Rr' : Nat → Nat → Int32} (hed : g_ed G' = g_ed G) (hcap : g_cap G' = g_cap G) (hr : g_r G' = g_r G) (hx : ∀ y c x, (c < 100 ∨ 200 ≤ c) → xat G y c x → xat G' y c x) (hR : ∀ b, 60 ≤ b → Rr' b = Rr b) (hS : xSh dA G' Rr') (I : xI dA e0 G F Rr) : xI dA e0 G' F Rr' := by
  obtain ⟨a, b, c, d, e, f, g, i, j⟩ := I
  exact ⟨xLs_gen hed hcap hr hx hR (by decide) a, xLs_gen hed hcap hr hx hR (by decide) b, xLs_gen hed hcap hr hx hR (by decide) c, xLs_gen hed hcap hr hx hR (by decide) d, xLs_gen hed hcap hr hx hR (by decide) e, xLs_gen hed hcap hr hx hR (by decide) f, hS, i, j⟩
/-- what stands of a sheet -/
def xsht (dA : Nat → ClassId) (G : xG) (Rr : Nat → Nat → Int32) (k y z n : Nat) : Prop := g_rs G k = some y ∧ xat G y 4 (.inr (4, [.int (Rr 0 k), .ref z])) ∧ inB 0 2 (Rr 0 k) = true ∧ xat G z (100 + k) (.inl (dA 0, n, .inl (Rr (30 + k)))) ∧ Rr 24 k = nI n ∧ n ≤ 64
theorem x_sheet {k y : Nat} (M : xM D dA A e0 h G T s F Rr H locs) (hk : k < 8) (hy : g_rs G k = some y) : ∃ z n, xsht dA G Rr k y z n := by
  rcases M.2.2.2.2.2.2.2.2.2.1 k hk with ⟨q, -⟩ | ⟨y', z, n, q1, q2⟩
  · rw [hy] at q; cases q
  · have e1 := Option.some.inj (q1.symm.trans hy)
    subst e1
    exact ⟨z, n, q1, q2⟩
theorem x_nosheet {k : Nat} (M : xM D dA A e0 h G T s F Rr H locs) (hk : k < 8) (hy : g_rs G k = none) : Rr 0 k = -1 := by
  rcases M.2.2.2.2.2.2.2.2.2.1 k hk with ⟨-, q⟩ | ⟨y', z, n, q1, q2⟩
  · exact q
  · rw [hy] at q1; cases q1
theorem xsht.ne {k y z n : Nat} (h : xsht dA G Rr k y z n) : ¬ Rr 0 k = -1 := fun q => by
  have := h.2.2.1
  rw [q] at this; exact absurd this (by decide)
def gUp (G : xG) (z : Nat) (x : va_E) : xG := (g_ad G, g_rs G, g_mc G, g_ed G, g_cap G, g_r G, g_L G, g_k G, va_up (g_f G) z x)
theorem gUp_n {z c c0 y : Nat} {x x0 x' : va_E} (hz : xat G z c0 x0) (hc : c ≠ c0) (q : xat G y c x') : xat (gUp G z x) y c x' := by
  have hn : y ≠ z := xat_ne2 q hz hc
  exact ⟨q.1, q.2.1, (up_n _ _ hn).trans q.2.2⟩
theorem gUp_s {z c : Nat} {x x0 : va_E} (hz : xat G z c x0) : xat (gUp G z x) z c x := ⟨hz.1, hz.2.1, up_s _ _ _⟩
/-- a thing of the pool is written -/
theorem ws_gUp {z c : Nat} {x0 x : va_E} {i : Nat} (hD : va_D A (xWs h dA G F Rr T)) (hz : xat G z c x0) (hi : (xWs h dA G F Rr T)[i]? = some (z, x0)) : (xWs h dA G F Rr T).set i (z, x) = xWs h dA (gUp G z x) F Rr T := by
  unfold xWs at *
  obtain ⟨q1, q2, q3⟩ := hz
  rw [va_pl_set hD q1 (by rw [q3]; exact hi)]
  rfl
/-- the items of sheet k are now f -/
def xitm (Rr : Nat → Nat → Int32) (k : Nat) (f : Nat → Int32) : Nat → Nat → Int32 := va_up Rr (30 + k) f
theorem xitm_n {k b : Nat} {f : Nat → Int32} (hb : b ≠ 30 + k) : xitm Rr k f b = Rr b := up_n _ _ hb
theorem xM_items {k y z n : Nat} {f : Nat → Int32} {i : Nat} (M : xM D dA A e0 h G T s F Rr H locs) (hk : k < 8) (hs : xsht dA G Rr k y z n) (hi : (xWs h dA G F Rr T)[i]? = some (z, .inl (dA 0, n, .inl (Rr (30 + k))))) {H1 : Heap} {locs1 : List Loc} (hP : va_P D xCl ((xWs h dA G F Rr T).set i (z, .inl (dA 0, n, .inl f))) H1) (hD : va_D A ((xWs h dA G F Rr T).set i (z, .inl (dA 0, n, .inl f)))) (hS : va_S A s.heap H1 locs1) :
    ∃ G1, xext G G1 ∧ xsht dA G1 (xitm Rr k f) k y z n ∧ (∀ k' y' z' n', k' < 8 → k' ≠ k → xsht dA G Rr k' y' z' n' → xsht dA G1 (xitm Rr k f) k' y' z' n') ∧ xM D dA A e0 h G1 T s F (xitm Rr k f) H1 locs1 := by
  obtain ⟨s1, s2, s3, s4, s5, s6⟩ := hs
  rw [ws_gUp M.2.1 s4 hi] at hP hD
  have e1 : xWs h dA (gUp G z (.inl (dA 0, n, .inl f))) F (xitm Rr k f) T = xWs h dA (gUp G z (.inl (dA 0, n, .inl f))) F Rr T := by
    unfold xWs
    have e2 : xW h dA (gUp G z (.inl (dA 0, n, .inl f))) F (xitm Rr k f) = xW h dA (gUp G z (.inl (dA 0, n, .inl f))) F Rr := by
      unfold xW
      simp only [xitm_n (Rr := Rr) (k := k) (f := f) (show 1 ≠ 30 + k by omega), xitm_n (Rr := Rr) (k := k) (f := f) (show 2 ≠ 30 + k by omega), xitm_n (Rr := Rr) (k := k) (f := f) (show 3 ≠ 30 + k by omega), xitm_n (Rr := Rr) (k := k) (f := f) (show 4 ≠ 30 + k by omega), xitm_n (Rr := Rr) (k := k) (f := f) (show 5 ≠ 30 + k by omega), xitm_n (Rr := Rr) (k := k) (f := f) (show 7 ≠ 30 + k by omega), xitm_n (Rr := Rr) (k := k) (f := f) (show 12 ≠ 30 + k by omega), xitm_n (Rr := Rr) (k := k) (f := f) (show 16 ≠ 30 + k by omega), xitm_n (Rr := Rr) (k := k) (f := f) (show 17 ≠ 30 + k by omega), xitm_n (Rr := Rr) (k := k) (f := f) (show 18 ≠ 30 + k by omega), xitm_n (Rr := Rr) (k := k) (f := f) (show 19 ≠ 30 + k by omega), xitm_n (Rr := Rr) (k := k) (f := f) (show 22 ≠ 30 + k by omega)]
    rw [e2]
  have hx : ∀ y c x, c ≠ 100 + k → xat G y c x → xat (gUp G z (.inl (dA 0, n, .inl f))) y c x := fun y c x hc q => gUp_n s4 hc q
  have hself : xsht dA (gUp G z (.inl (dA 0, n, .inl f))) (xitm Rr k f) k y z n := by
    refine ⟨s1, ?_, ?_, ?_, ?_, s6⟩
    · rw [xitm_n (by omega)]; exact hx _ _ _ (by omega) s2
    · rw [xitm_n (by omega)]; exact s3
    · show xat _ _ _ (.inl (dA 0, n, .inl (va_up Rr (30 + k) f (30 + k))))
      rw [up_s]; exact gUp_s s4
    · rw [xitm_n (by omega)]; exact s5
  have hoth : ∀ k' y' z' n', k' < 8 → k' ≠ k → xsht dA G Rr k' y' z' n' → xsht dA (gUp G z (.inl (dA 0, n, .inl f))) (xitm Rr k f) k' y' z' n' := by
    intro k' y' z' n' hk' hne ⟨t1, t2, t3, t4, t5, t6⟩
    unfold xsht
    rw [xitm_n (by omega), xitm_n (b := 30 + k') (by omega), xitm_n (b := 24) (by omega)]
    exact ⟨t1, hx _ _ _ (by omega) t2, t3, hx _ _ _ (by omega) t4, t5, t6⟩
  refine ⟨gUp G z (.inl (dA 0, n, .inl f)), fun y hy hc => hx y _ _ (by omega) ⟨hy, rfl, rfl⟩, hself, hoth, by rw [e1]; exact hP, by rw [e1]; exact hD, hS, ?_⟩
  refine xI_gen (G := G) rfl rfl rfl (fun y c x hc q => hx y c x (by omega) q) (fun b hb => xitm_n (by omega)) (fun s hs => ?_) M.2.2.2
  by_cases hsk : s = k
  · subst hsk
    exact Or.inr ⟨y, z, n, hself⟩
  · rcases M.2.2.2.2.2.2.2.2.2.1 s hs with ⟨q1, q2⟩ | ⟨y', z', n', q⟩
    · exact Or.inl ⟨q1, by rw [xitm_n (by omega)]; exact q2⟩
    · exact Or.inr ⟨y', z', n', hoth s y' z' n' hs hsk q⟩
theorem xs_it {k y z n i : Nat} {v : Int32} (X : xX own p s m args c cc nL D dA A e0) (M : xM D dA A e0 h G T s F Rr H locs) (hk : k < 8) (hs : xsht dA G Rr k y z n) (hi : i < n) (hdg : decode cc pc = .ok (.iastore, 1)) (kk : ∀ (G1 : xG) (H1 : Heap) (locs1 : List Loc), xext G G1 → xsht dA G1 (xitm Rr k (va_up (Rr (30 + k)) i v)) k y z n → xM D dA A e0 h G1 T s F (xitm Rr k (va_up (Rr (30 + k)) i v)) H1 locs1 → W p l e R s m args below meth c H1 locs1 cells slots Q (F0 m (pc + 1) ls rest)) : W p l e R s m args below meth c H locs cells slots Q (F0 m pc ls (.int v :: .int (nI i) :: .ref z :: rest)) := by
  obtain ⟨q9, h9⟩ := xat_ws hs.2.2.2.1 (xW h dA G F Rr ++ T)
  have h64 := hs.2.2.2.2.2
  refine g_iast (j := i) X M.1 M.2.1 M.2.2.1 q9 0 h9 rfl (vp_in_nI hi (by omega)) (nI_clamp (by omega)) hdg (fun H1 l1 hP hD hS => ?_)
  obtain ⟨G1, a, b, -, d⟩ := xM_items M hk hs h9 hP hD hS
  exact kk G1 H1 l1 a b d
theorem xr_it {k y z n i : Nat} (X : xX own p s m args c cc nL D dA A e0) (M : xM D dA A e0 h G T s F Rr H locs) (hs : xsht dA G Rr k y z n) (hi : i < n) (hdg : decode cc pc = .ok (.iaload, 1)) (kk : W p l e R s m args below meth c H locs cells slots Q (F0 m (pc + 1) ls (.int (Rr (30 + k) i) :: rest))) : W p l e R s m args below meth c H locs cells slots Q (F0 m pc ls (.int (nI i) :: .ref z :: rest)) := by
  obtain ⟨q9, h9⟩ := xat_ws hs.2.2.2.1 (xW h dA G F Rr ++ T)
  have h64 := hs.2.2.2.2.2
  exact g_iald (j := i) X M.1 q9 0 h9 rfl (vp_in_nI hi (by omega)) (nI_clamp (by omega)) hdg kk
theorem xn_it {k y z n : Nat} (X : xX own p s m args c cc nL D dA A e0) (M : xM D dA A e0 h G T s F Rr H locs) (hs : xsht dA G Rr k y z n) (hdg : decode cc pc = .ok (.arraylength, 1)) (kk : W p l e R s m args below meth c H locs cells slots Q (F0 m (pc + 1) ls (.int (nI n) :: rest))) : W p l e R s m args below meth c H locs cells slots Q (F0 m pc ls (.ref z :: rest)) := by
  obtain ⟨q9, h9⟩ := xat_ws hs.2.2.2.1 (xW h dA G F Rr ++ T)
  exact va_alen X.hx X.hb X.K M.1 q9 0 h9 rfl rfl hdg kk
/-- a sheet is made -/
def xmkR (Rr : Nat → Nat → Int32) (k : Nat) (lane : Int32) (n : Nat) : Nat → Nat → Int32 := xitm (mset (mset Rr 0 k lane) 24 k (nI n)) k (fun _ => 0)
theorem xmkR_n {k b : Nat} {lane : Int32} {n : Nat} (h0 : b ≠ 0) (h1 : b ≠ 24) (h2 : b ≠ 30 + k) : xmkR Rr k lane n b = Rr b := by
  unfold xmkR; rw [xitm_n h2, mset_n h1, mset_n h0]
theorem xmkR_0 {k i : Nat} {lane : Int32} {n : Nat} : xmkR Rr k lane n 0 i = if i = k then lane else Rr 0 i := by
  unfold xmkR; rw [xitm_n (by omega), mset_n (by decide)]; rfl
theorem xmkR_24 {k i : Nat} {lane : Int32} {n : Nat} : xmkR Rr k lane n 24 i = if i = k then nI n else Rr 24 i := by
  unfold xmkR; rw [xitm_n (by omega)]
  show va_up (mset Rr 0 k lane) 24 (va_up (mset Rr 0 k lane 24) k (nI n)) 24 i = _
  rw [up_s, mset_n (by decide)]; rfl
theorem xmkR_k {k : Nat} {lane : Int32} {n : Nat} : xmkR Rr k lane n (30 + k) = fun _ => 0 := up_s _ _ _
def gRs (G : xG) (k : Nat) (o : Option Nat) : xG := (g_ad G, va_up (g_rs G) k o, g_mc G, g_ed G, g_cap G, g_r G, g_L G, g_k G, g_f G)
theorem xs_sheet {k q u n : Nat} {lane : Int32} (X : xX own p s m args c cc nL D dA A e0) (M : xM D dA A e0 h G (T ++ [(q, .inr (4, [.int lane, .ref u])), (u, .inl (dA 0, n, .inl (fun _ => 0)))]) s F Rr H locs) (hk : k < 8) (hlane : inB 0 2 lane = true) (hn : n ≤ 64) (hdg : decode cc pc = .ok (.aastore, 1))
    (kk : ∀ (G1 : xG) (H1 : Heap) (locs1 : List Loc), xext G G1 → xM D dA A e0 h G1 T s F (xmkR Rr k lane n) H1 locs1 → W p l e R s m args below meth c H1 locs1 cells slots Q (F0 m (pc + 1) ls rest)) : W p l e R s m args below meth c H locs cells slots Q (F0 m pc ls (.ref q :: .int (nI k) :: .ref (g_ad G 0) :: rest)) := by
  have M0 : xM D dA A e0 h G ((T ++ [(q, .inr (4, [.int lane, .ref u]))]) ++ [(u, .inl (dA 0, n, .inl (fun _ => 0)))]) s F Rr H locs := by rw [List.append_assoc]; exact M
  obtain ⟨hu, M1⟩ := xM_pool M0 (100 + k)
  obtain ⟨hq, M2⟩ := xM_pool M1 4
  have aq := gAdd_at (gAdd G u (100 + k) (.inl (dA 0, n, .inl (fun _ => 0)))) q 4 (.inr (4, [.int lane, .ref u]))
  have au := gAdd_xat (c := 4) (x := .inr (4, [.int lane, .ref u])) hq (gAdd_at G u (100 + k) (.inl (dA 0, n, .inl (fun _ => 0))))
  have hex : xext G (gAdd (gAdd G u (100 + k) (.inl (dA 0, n, .inl (fun _ => 0)))) q 4 (.inr (4, [.int lane, .ref u]))) := (gAdd_ext hu).tr (gAdd_ext hq)
  have hx0 : ∀ y c x, xat G y c x → xat (gAdd (gAdd G u (100 + k) (.inl (dA 0, n, .inl (fun _ => 0)))) q 4 (.inr (4, [.int lane, .ref u]))) y c x := fun y c x z => gAdd_xat hq (gAdd_xat hu z)
  obtain ⟨q9, h9⟩ := xat_ws aq (xW h dA G F Rr ++ T)
  refine va_astq X.hx X.hb X.K M2.1 M2.2.1 M2.2.2.1 1 3 q9 4 rfl rfl h9 rfl (vp_in_nI hk (by decide)) hdg (fun H1 l1 hP hD hS => ?_)
  rw [nI_clamp (show k < 2 ^ 31 by omega)] at hP hD
  refine kk (gRs (gAdd (gAdd G u (100 + k) (.inl (dA 0, n, .inl (fun _ => 0)))) q 4 (.inr (4, [.int lane, .ref u]))) k (some q)) H1 l1 (fun y hy hc => hex y hy hc) ?_
  have e2 : xW h dA (gRs (gAdd (gAdd G u (100 + k) (.inl (dA 0, n, .inl (fun _ => 0)))) q 4 (.inr (4, [.int lane, .ref u]))) k (some q)) F (xmkR Rr k lane n) = xW h dA (gRs (gAdd (gAdd G u (100 + k) (.inl (dA 0, n, .inl (fun _ => 0)))) q 4 (.inr (4, [.int lane, .ref u]))) k (some q)) F Rr := by
    unfold xW
    simp only [xmkR_n (Rr := Rr) (k := k) (lane := lane) (n := n) (show 1 ≠ 0 by decide) (by decide) (show 1 ≠ 30 + k by omega), xmkR_n (Rr := Rr) (k := k) (lane := lane) (n := n) (show 2 ≠ 0 by decide) (by decide) (show 2 ≠ 30 + k by omega), xmkR_n (Rr := Rr) (k := k) (lane := lane) (n := n) (show 3 ≠ 0 by decide) (by decide) (show 3 ≠ 30 + k by omega), xmkR_n (Rr := Rr) (k := k) (lane := lane) (n := n) (show 4 ≠ 0 by decide) (by decide) (show 4 ≠ 30 + k by omega), xmkR_n (Rr := Rr) (k := k) (lane := lane) (n := n) (show 5 ≠ 0 by decide) (by decide) (show 5 ≠ 30 + k by omega), xmkR_n (Rr := Rr) (k := k) (lane := lane) (n := n) (show 7 ≠ 0 by decide) (by decide) (show 7 ≠ 30 + k by omega), xmkR_n (Rr := Rr) (k := k) (lane := lane) (n := n) (show 12 ≠ 0 by decide) (by decide) (show 12 ≠ 30 + k by omega), xmkR_n (Rr := Rr) (k := k) (lane := lane) (n := n) (show 16 ≠ 0 by decide) (by decide) (show 16 ≠ 30 + k by omega), xmkR_n (Rr := Rr) (k := k) (lane := lane) (n := n) (show 17 ≠ 0 by decide) (by decide) (show 17 ≠ 30 + k by omega), xmkR_n (Rr := Rr) (k := k) (lane := lane) (n := n) (show 18 ≠ 0 by decide) (by decide) (show 18 ≠ 30 + k by omega), xmkR_n (Rr := Rr) (k := k) (lane := lane) (n := n) (show 19 ≠ 0 by decide) (by decide) (show 19 ≠ 30 + k by omega), xmkR_n (Rr := Rr) (k := k) (lane := lane) (n := n) (show 22 ≠ 0 by decide) (by decide) (show 22 ≠ 30 + k by omega)]
  refine ⟨by unfold xWs; rw [e2]; exact hP, by unfold xWs; rw [e2]; exact hD, hS, ?_⟩
  refine xI_gen (G := G) rfl rfl rfl (fun y c x _ z => hx0 y c x z) (fun b hb => xmkR_n (by omega) (by omega) (by omega)) (fun s hs => ?_) M.2.2.2
  by_cases hsk : s = k
  · subst hsk
    refine Or.inr ⟨q, u, n, up_s _ _ _, ?_, ?_, ?_, ?_, hn⟩
    · rw [xmkR_0, if_pos rfl]; exact aq
    · rw [xmkR_0, if_pos rfl]; exact hlane
    · rw [xmkR_k]; exact au
    · rw [xmkR_24, if_pos rfl]
  · have e3 : g_rs (gRs (gAdd (gAdd G u (100 + k) (.inl (dA 0, n, .inl (fun _ => 0)))) q 4 (.inr (4, [.int lane, .ref u]))) k (some q)) s = g_rs G s := up_n _ _ hsk
    rw [e3, xmkR_0, if_neg hsk, xmkR_24, if_neg hsk, xmkR_n (b := 30 + s) (by omega) (by omega) (by omega)]
    rcases M.2.2.2.2.2.2.2.2.2.1 s hs with z | ⟨y', z', n', q1, q2, q3, q4, q5⟩
    · exact Or.inl z
    · exact Or.inr ⟨y', z', n', q1, hx0 _ _ _ q2, q3, hx0 _ _ _ q4, q5⟩
/-- .. is dropped -/
theorem xs_drop {k : Nat} (X : xX own p s m args c cc nL D dA A e0) (M : xM D dA A e0 h G T s F Rr H locs) (hk : k < 8) (hdg : decode cc pc = .ok (.aastore, 1))
    (kk : ∀ (G1 : xG) (H1 : Heap) (locs1 : List Loc), xext G G1 → xM D dA A e0 h G1 T s F (mset Rr 0 k (-1)) H1 locs1 → W p l e R s m args below meth c H1 locs1 cells slots Q (F0 m (pc + 1) ls rest)) : W p l e R s m args below meth c H locs cells slots Q (F0 m pc ls (.null :: .int (nI k) :: .ref (g_ad G 0) :: rest)) := by
  refine va_astqN X.hx X.hb X.K M.1 M.2.1 M.2.2.1 1 3 rfl rfl (vp_in_nI hk (by decide)) hdg (fun H1 l1 hP hD hS => ?_)
  rw [nI_clamp (show k < 2 ^ 31 by omega)] at hP hD
  refine kk (gRs G k none) H1 l1 (fun y hy hc => ⟨hy, rfl, rfl⟩) ⟨hP, hD, hS, ?_⟩
  refine xI_gen (G := G) rfl rfl rfl (fun y c x _ z => z) (fun b hb => mset_n (by omega)) (fun s hs => ?_) M.2.2.2
  by_cases hsk : s = k
  · subst hsk
    exact Or.inl ⟨up_s _ _ _, show va_up Rr 0 (va_up (Rr 0) s (-1)) 0 s = -1 by rw [up_s, up_s]⟩
  · have e3 : g_rs (gRs G k none) s = g_rs G s := up_n _ _ hsk
    have e4 : mset Rr 0 k (-1) 0 s = Rr 0 s := show va_up Rr 0 (va_up (Rr 0) k (-1)) 0 s = Rr 0 s by rw [up_s, up_n _ _ hsk]
    rw [e3, e4, mset_n (i := 24) (by decide), mset_n (i := 30 + s) (by omega)]
    exact M.2.2.2.2.2.2.2.2.2.1 s hs
end XSHEETS
