/-! THE SYSTEM'S WORLD, 3: a list grows -/
theorem any_of {s : State} {H : Heap} {y : Nat} {C : String} (hw : va_Nw (.castable C "java/lang/Object") s) (hr : ∃ cell : Cell, H[y]? = some cell ∧ cell.vm.isStatics = false ∧ s.vm.findClass C = some cell.cls) : va_Any "java/lang/Object" s H y := by
  obtain ⟨cell, h1, h2, h3⟩ := hr
  obtain ⟨c0, t0, f1, f2, f3⟩ := Cond.castable_spec (va_Nw.use (A := #[]) rfl hw)
  obtain ⟨kC, hkC, -⟩ := Vm.findClass_spec h3
  refine ⟨cell, h1, h2, ⟨kC, hkC⟩, fun comp h => ?_⟩
  have e1 := Option.some.inj (h.symm.trans f2)
  have e2 := Option.some.inj (h3.symm.trans f1)
  rw [e1, e2]; exact f3
section XGROW
variable {s : State} {H : Heap} {locs : List Loc} {D : va_G} {dA : Nat → ClassId} {A : Nat → Prop} {e0 h : Nat} {G : xG} {T : va_W} {F : Nat → Int32} {Rr : Nat → Nat → Int32}
theorem xel_mono1 {G' : xG} (hx : ∀ y c x, c < 100 → xat G y c x → xat G' y c x) {j k y : Nat} (hh : xel dA G Rr j k y) : xel dA G' Rr j k y := by
  unfold xel at hh ⊢
  split at hh
  · rename_i q; rw [if_pos q]; exact hx _ _ _ (by decide) hh
  rename_i q0; rw [if_neg q0]
  split at hh
  · rename_i q; rw [if_pos q]; obtain ⟨g, a, b⟩ := hh; exact ⟨g, hx _ _ _ (by decide) a, b⟩
  rename_i q1; rw [if_neg q1]
  split at hh
  · rename_i q; rw [if_pos q]; exact hx _ _ _ (by decide) hh
  rename_i q2; rw [if_neg q2]
  split at hh
  · rename_i q; rw [if_pos q]; exact hx _ _ _ (by decide) hh
  rename_i q3; rw [if_neg q3]
  split at hh
  · rename_i q; rw [if_pos q]; obtain ⟨ci, a, b, d⟩ := hh; exact ⟨ci, a, b, hx _ _ _ (by omega) d⟩
  rename_i q4; rw [if_neg q4]; exact hx _ _ _ (by decide) hh
/-- the pool's role of a member -/
theorem xel_at {j k y : Nat} (hh : xel dA G Rr j k y) : ∃ c x, c < 100 ∧ xat G y c x := by
  unfold xel at hh
  split at hh
  · exact ⟨_, _, by decide, hh⟩
  split at hh
  · obtain ⟨g, a, b⟩ := hh; exact ⟨_, _, by decide, a⟩
  split at hh
  · exact ⟨_, _, by decide, hh⟩
  split at hh
  · exact ⟨_, _, by decide, hh⟩
  split at hh
  · obtain ⟨ci, a, b, d⟩ := hh; exact ⟨_, _, by omega, d⟩
  · exact ⟨_, _, by decide, hh⟩
def gSet (G : xG) (j : Nat) (mc : Int32) (u : Nat × Nat × (Nat → Option Nat)) (L : List Nat) (k : Nat → Nat) (f : Nat → va_E) : xG := (g_ad G, g_rs G, va_up (g_mc G) j mc, va_up (g_ed G) j u.1, va_up (g_cap G) j u.2.1, va_up (g_r G) j u.2.2, L, k, f)
abbrev xrw (dA : Nat → ClassId) (u : Nat × Nat × (Nat → Option Nat)) : va_E := .inl (dA 4, u.2.1, .inr (.inr (.inr (.inr u.2.2))))
/-- the lists behind an insertion into list j -/
theorem xLs_grow {G' : xG} {Rr' : Nat → Nat → Int32} {j n kk y0 : Nat} {u : Nat × Nat × (Nat → Option Nat)} (hxm : ∀ y c x, c ≠ 200 + j → xat G y c x → xat G' y c x) (hed : g_ed G' = va_up (g_ed G) j u.1) (hcap : g_cap G' = va_up (g_cap G) j u.2.1) (hr : g_r G' = va_up (g_r G) j u.2.2)
    (hrow : xat G' u.1 (200 + j) (xrw dA u)) (hF : F j = nI n) (hn : n < 90) (hkk : kk ≤ n) (hins : xIns n kk y0 (g_r G j) u) (hoth : ∀ jj k y, (jj = 6 ∨ jj = 10 ∨ jj = 11 ∨ jj = 13 ∨ jj = 14 ∨ jj = 15) → jj ≠ j → xel dA G' Rr jj k y → xel dA G' Rr' jj k y) (hself : ∀ k y, k < n → xel dA G' Rr j k y → xel dA G' Rr' j (if k < kk then k else k + 1) y) (hnew : xel dA G' Rr' j kk y0)
    (jj : Nat) (N : Int32) (hjj : (jj = 6 ∨ jj = 10 ∨ jj = 11 ∨ jj = 13 ∨ jj = 14 ∨ jj = 15)) (hN : jj = j → cnB (nI (n + 1)) N) (hh : xLs dA e0 G F Rr jj N) : xLs dA e0 G' (va_up F j (nI (n + 1))) Rr' jj N := by
  have mono : ∀ jj k y, xel dA G Rr jj k y → xel dA G' Rr jj k y := fun jj k y z => xel_mono1 (fun y c x hc q => hxm y c x (by omega) q) z
  by_cases hj : jj = j
  · subst hj
    have e1 : (va_up F jj (nI (n + 1))) jj = nI (n + 1) := up_s _ _ _
    have e2 : (nI (n + 1)).toNatClampNeg = n + 1 := nI_clamp (by omega)
    have e3 : (F jj).toNatClampNeg = n := by rw [hF]; exact nI_clamp (by omega)
    refine ⟨by rw [e1]; exact hN rfl, Or.inr ?_, fun k hk => ?_⟩
    · rw [e1, e2, hed, hcap, hr, up_s, up_s, up_s]
      exact ⟨hrow, hins.2.2.2⟩
    · rw [e1, e2] at hk
      rw [hr, up_s]
      by_cases h1 : k = kk
      · subst h1; exact ⟨y0, hins.2.1, hnew⟩
      · by_cases h2 : k < kk
        · obtain ⟨y, q1, q2⟩ := hh.2.2 k (by rw [e3]; omega)
          refine ⟨y, (hins.1 k h2).trans q1, ?_⟩
          have := hself k y (by omega) (mono _ _ _ q2)
          rw [if_pos h2] at this; exact this
        · obtain ⟨k1, rfl⟩ : ∃ k1, k = k1 + 1 := ⟨k - 1, by omega⟩
          obtain ⟨y, q1, q2⟩ := hh.2.2 k1 (by rw [e3]; omega)
          refine ⟨y, (hins.2.2.1 k1 (by omega) (by omega)).trans q1, ?_⟩
          have := hself k1 y (by omega) (mono _ _ _ q2)
          rw [if_neg (by omega)] at this; exact this
  · have e1 : (va_up F j (nI (n + 1))) jj = F jj := up_n _ _ hj
    unfold xLs
    rw [e1, hed, hcap, hr, up_n _ _ hj, up_n _ _ hj, up_n _ _ hj]
    refine ⟨hh.1, hh.2.1.imp id (fun z => ⟨hxm _ _ _ (by omega) z.1, z.2⟩), fun k hk => ?_⟩
    obtain ⟨y, q1, q2⟩ := hh.2.2 k hk
    exact ⟨y, q1, hoth jj k y hjj hj (mono _ _ _ q2)⟩
theorem xSh_mono1 {G' : xG} (hrs : g_rs G' = g_rs G) (hx : ∀ y c x, c < 200 → xat G y c x → xat G' y c x) (hh : xSh dA G Rr) : xSh dA G' Rr := fun s hs => by
  rw [hrs]
  rcases hh s hs with q | ⟨y, z, n, q1, q2, q3, q4, q5⟩
  · exact Or.inl q
  · exact Or.inr ⟨y, z, n, q1, hx _ _ _ (by decide) q2, q3, hx _ _ _ (by omega) q4, q5⟩
theorem xI_grow {G' : xG} {Rr' : Nat → Nat → Int32} {j n kk y0 : Nat} {u : Nat × Nat × (Nat → Option Nat)} (hxm : ∀ y c x, c ≠ 200 + j → xat G y c x → xat G' y c x) (hrs : g_rs G' = g_rs G) (hed : g_ed G' = va_up (g_ed G) j u.1) (hcap : g_cap G' = va_up (g_cap G) j u.2.1) (hr : g_r G' = va_up (g_r G) j u.2.2)
    (hrow : xat G' u.1 (200 + j) (xrw dA u)) (hF : F j = nI n) (hn : n < 90) (hkk : kk ≤ n) (hins : xIns n kk y0 (g_r G j) u) (hoth : ∀ jj k y, (jj = 6 ∨ jj = 10 ∨ jj = 11 ∨ jj = 13 ∨ jj = 14 ∨ jj = 15) → jj ≠ j → xel dA G' Rr jj k y → xel dA G' Rr' jj k y) (hself : ∀ k y, k < n → xel dA G' Rr j k y → xel dA G' Rr' j (if k < kk then k else k + 1) y) (hnew : xel dA G' Rr' j kk y0)
    (hsh : xSh dA G' Rr → xSh dA G' Rr') (hN : (6 = j → cnB (nI (n + 1)) 30) ∧ (10 = j → cnB (nI (n + 1)) 16) ∧ (11 = j → cnB (nI (n + 1)) 60) ∧ (13 = j → cnB (nI (n + 1)) 20) ∧ (14 = j → cnB (nI (n + 1)) 16) ∧ (15 = j → cnB (nI (n + 1)) 40)) (h8 : 8 ≠ j) (h22 : 22 ≠ j) (I : xI dA e0 G F Rr) : xI dA e0 G' (va_up F j (nI (n + 1))) Rr' := by
  obtain ⟨a, b, c, d, e, f, g, i8, i22⟩ := I
  have L := fun jj N hjj hN => xLs_grow (e0 := e0) hxm hed hcap hr hrow hF hn hkk hins hoth hself hnew jj N hjj hN
  refine ⟨L 6 30 (by decide) hN.1 a, L 10 16 (by decide) hN.2.1 b, L 11 60 (by decide) hN.2.2.1 c, L 13 20 (by decide) hN.2.2.2.1 d, L 14 16 (by decide) hN.2.2.2.2.1 e, L 15 40 (by decide) hN.2.2.2.2.2 f, hsh (xSh_mono1 hrs (fun y c x hc q => hxm y c x (by omega) q) g), ?_, ?_⟩
  · rw [up_n _ _ h8]; exact i8
  · rw [up_n _ _ h22]; exact i22
/-- behind a callee that writes a cell and a second one, or puts a new one in its stead -/
theorem fr_upd2 {ws : va_W} {i k a ed u : Nat} {x0 y0 x y : va_E} {H1 : Heap} (hP : va_P D xCl ws H) (hD : va_D A ws) (hi : ws[i]? = some (a, x0)) (hk : ws[k]? = some (ed, y0)) (hik : i ≠ k) (hfr : ∀ q : Nat, q < H.size → ¬ va_A [(a, x0), (ed, y0)] H.size q → H1[q]? = H[q]?) (hF : ∀ q, va_A [(a, x0), (ed, y0)] H.size q → A q) (hP1 : va_P D xCl [(a, x), (u, y)] H1) (hD1 : va_D (va_A [(a, x0), (ed, y0)] H.size) [(a, x), (u, y)]) :
    va_P D xCl ((ws.set i (a, x)).set k (u, y)) H1 ∧ va_D A ((ws.set i (a, x)).set k (u, y)) ∧ (u = ed ∨ H.size ≤ u) := by
  have hil := (List.getElem?_eq_some_iff.mp hi).1
  have hkl := (List.getElem?_eq_some_iff.mp hk).1
  have hua : u ≠ a := fun e => by have := hD1.1 1 0 _ _ rfl rfl e; omega
  have hu : u = ed ∨ H.size ≤ u := by
    rcases hD1.2 1 (u, y) rfl with ⟨k2, e2, z⟩ | z
    · rcases k2 with _ | _ | k2
      · cases z; exact absurd rfl hua
      · cases z; exact Or.inl rfl
      · cases z
    · exact Or.inr z
  have key : ∀ (t : Nat) (q : Nat × va_E), ((ws.set i (a, x)).set k (u, y))[t]? = some q → (t = k ∧ q = (u, y)) ∨ (t ≠ k ∧ t = i ∧ q = (a, x)) ∨ (t ≠ k ∧ t ≠ i ∧ ws[t]? = some q) := by
    intro t q hq
    by_cases h1 : t = k
    · subst h1
      rw [List.getElem?_set_self (by rw [List.length_set]; exact hkl)] at hq
      cases hq; exact Or.inl ⟨rfl, rfl⟩
    · rw [List.getElem?_set_ne (Ne.symm h1)] at hq
      by_cases h2 : t = i
      · subst h2
        rw [List.getElem?_set_self hil] at hq
        cases hq; exact Or.inr (Or.inl ⟨h1, rfl, rfl⟩)
      · rw [List.getElem?_set_ne (Ne.symm h2)] at hq
        exact Or.inr (Or.inr ⟨h1, h2, hq⟩)
  have old : ∀ (t : Nat) (q : Nat × va_E), t ≠ k → t ≠ i → ws[t]? = some q → q.1 < H.size ∧ q.1 ≠ a ∧ q.1 ≠ ed := fun t q h1 h2 hq => ⟨(hP t q hq).lt, fun e => h2 (hD.1 t i q _ hq hi e), fun e => h1 (hD.1 t k q _ hq hk e)⟩
  have hal : a < H.size := (hP i _ hi).lt
  refine ⟨fun t q hq => ?_, ⟨fun t t' q q' hq hq' e => ?_, fun t q hq => ?_⟩, hu⟩
  · rcases key t q hq with ⟨-, rfl⟩ | ⟨-, -, rfl⟩ | ⟨h1, h2, h3⟩
    · exact hP1 1 _ rfl
    · exact hP1 0 _ rfl
    · obtain ⟨o1, o2, o3⟩ := old t q h1 h2 h3
      refine (hP t q h3).kept (hfr q.1 o1 (fun z => ?_))
      rcases z with ⟨k2, e2, z⟩ | z
      · rcases k2 with _ | _ | k2
        · cases z; exact o2 rfl
        · cases z; exact o3 rfl
        · cases z
      · omega
  · rcases key t q hq with ⟨g1, rfl⟩ | ⟨g1, g2, rfl⟩ | ⟨g1, g2, g3⟩ <;> rcases key t' q' hq' with ⟨g1', rfl⟩ | ⟨g1', g2', rfl⟩ | ⟨g1', g2', g3'⟩
    · omega
    · exact absurd e hua
    · obtain ⟨o1, o2, o3⟩ := old t' q' g1' g2' g3'
      rcases hu with z | z
      · exact absurd (e.symm.trans z) o3
      · exfalso; have e' : u = q'.1 := e; omega
    · exact absurd e.symm hua
    · omega
    · obtain ⟨o1, o2, o3⟩ := old t' q' g1' g2' g3'
      exact absurd e.symm o2
    · obtain ⟨o1, o2, o3⟩ := old t q g1 g2 g3
      rcases hu with z | z
      · exact absurd (e.trans z) o3
      · exfalso; have e' : q.1 = u := e; omega
    · obtain ⟨o1, o2, o3⟩ := old t q g1 g2 g3
      exact absurd e o2
    · exact hD.1 t t' q q' g3 g3' e
  · rcases key t q hq with ⟨-, rfl⟩ | ⟨-, -, rfl⟩ | ⟨h1, h2, h3⟩
    · exact hF _ (hD1.2 1 _ rfl)
    · exact hD.2 i (a, x0) hi
    · exact hD.2 t q h3
/-- .. that writes a cell, and makes one -/
theorem fr_upd1 {ws : va_W} {i a u : Nat} {x0 x y : va_E} {H1 : Heap} (hP : va_P D xCl ws H) (hD : va_D A ws) (hi : ws[i]? = some (a, x0)) (hfr : ∀ q : Nat, q < H.size → ¬ va_A [(a, x0)] H.size q → H1[q]? = H[q]?) (hF : ∀ q, va_A [(a, x0)] H.size q → A q) (hP1 : va_P D xCl [(a, x), (u, y)] H1) (hD1 : va_D (va_A [(a, x0)] H.size) [(a, x), (u, y)]) :
    va_P D xCl (ws.set i (a, x) ++ [(u, y)]) H1 ∧ va_D A (ws.set i (a, x) ++ [(u, y)]) ∧ H.size ≤ u := by
  have hua : u ≠ a := fun e => by have := hD1.1 1 0 _ _ rfl rfl e; omega
  have hu : H.size ≤ u := by
    rcases hD1.2 1 (u, y) rfl with ⟨k2, e2, z⟩ | z
    · rcases k2 with _ | k2
      · cases z; exact absurd rfl hua
      · cases z
    · exact z
  obtain ⟨p1, d1⟩ := fr_set (x := x) hP hD hi hfr (hP1 0 _ rfl)
  have lt : ∀ (t : Nat) (q : Nat × va_E), (ws.set i (a, x))[t]? = some q → q.1 < H.size := by
    intro t q hq
    by_cases h2 : t = i
    · subst h2
      rw [List.getElem?_set_self (List.getElem?_eq_some_iff.mp hi).1] at hq
      cases hq; exact (hP t _ hi).lt
    · rw [List.getElem?_set_ne (Ne.symm h2)] at hq
      exact (hP t q hq).lt
  have key : ∀ (t : Nat) (q : Nat × va_E), (ws.set i (a, x) ++ [(u, y)])[t]? = some q → (t < (ws.set i (a, x)).length ∧ (ws.set i (a, x))[t]? = some q) ∨ (t = (ws.set i (a, x)).length ∧ q = (u, y)) := by
    intro t q hq
    by_cases hl : t < (ws.set i (a, x)).length
    · rw [List.getElem?_append_left hl] at hq; exact Or.inl ⟨hl, hq⟩
    · rw [List.getElem?_append_right (by omega)] at hq
      have h0 : t - (ws.set i (a, x)).length = 0 := by
        have z9 : t - (ws.set i (a, x)).length < 1 := (List.getElem?_eq_some_iff.mp hq).1
        omega
      rw [h0] at hq
      cases hq; exact Or.inr ⟨by omega, rfl⟩
  refine ⟨fun t q hq => ?_, ⟨fun t t' q q' hq hq' e => ?_, fun t q hq => ?_⟩, hu⟩
  · rcases key t q hq with ⟨-, g⟩ | ⟨-, rfl⟩
    · exact p1 t q g
    · exact hP1 1 _ rfl
  · rcases key t q hq with ⟨g0, g⟩ | ⟨g0, rfl⟩ <;> rcases key t' q' hq' with ⟨g0', g'⟩ | ⟨g0', rfl⟩
    · exact d1.1 t t' q q' g g' e
    · exfalso; have := lt t q g; have e' : q.1 = u := e; omega
    · exfalso; have := lt t' q' g'; have e' : u = q'.1 := e; omega
    · omega
  · rcases key t q hq with ⟨-, g⟩ | ⟨-, rfl⟩
    · exact d1.2 t q g
    · exact hF _ (hD1.2 1 _ rfl)
theorem pl_set {L : List Nat} {f : Nat → va_E} {k u : Nat} {x : va_E} (hz : ∀ i z, i ≠ k → L[i]? = some z → z ≠ u) (hk : k < L.length) : va_pl (L.set k u) (va_up f u x) = (va_pl L f).set k (u, x) := by
  apply List.ext_getElem?
  intro i
  unfold va_pl
  rw [List.getElem?_map]
  by_cases h1 : i = k
  · subst h1
    rw [List.getElem?_set_self hk, List.getElem?_set_self (by rw [List.length_map]; exact hk)]
    simp [up_s]
  · rw [List.getElem?_set_ne (Ne.symm h1), List.getElem?_set_ne (Ne.symm h1), List.getElem?_map]
    cases hL : L[i]? with
    | none => rfl
    | some z => simp [up_n f x (hz i z h1 hL)]
theorem ws_set {X P : va_W} {i k : Nat} {v w : Nat × va_E} (hi : i < X.length) : (((X ++ P).set i v).set (X.length + k) w) = X.set i v ++ P.set k w := by
  rw [List.set_append_left _ _ hi, List.set_append_right _ _ (by rw [List.length_set]; omega), List.length_set, Nat.add_sub_cancel_left]
/-- the member isn't of the world's own cells -/
theorem xat_ne {i a y c : Nat} {x0 x : va_E} (M : xM D dA A e0 h G T s F Rr H locs) (hi : (xW h dA G F Rr)[i]? = some (a, x0)) (q : xat G y c x) : y ≠ a := by
  obtain ⟨q1, q2, q3⟩ := q
  obtain ⟨k', hk'⟩ := List.getElem?_of_mem q1
  intro e
  have hil := (List.getElem?_eq_some_iff.mp hi).1
  have h1 : (xWs h dA G F Rr T)[i]? = some (a, x0) := by
    unfold xWs
    rw [List.getElem?_append_left (by rw [List.length_append]; omega), List.getElem?_append_left hil]; exact hi
  have h2 : (xWs h dA G F Rr T)[(xW h dA G F Rr ++ T).length + k']? = some (y, g_f G y) := by
    unfold xWs va_pl
    rw [List.getElem?_append_right (by omega), Nat.add_sub_cancel_left, List.getElem?_map, hk']; rfl
  have h3 := M.2.1.1 _ _ _ _ h1 h2 e.symm
  rw [List.length_append] at h3
  omega
/-- two members of different roles -/
theorem xat_ne2 {y z c c' : Nat} {x x' : va_E} (q : xat G y c x) (q' : xat G z c' x') (hc : c ≠ c') : y ≠ z := fun e => by
  subst e; exact hc (q.2.1.symm.trans q'.2.1)
/-- insertion into list j, where it has a row of its own -/
theorem xl_growO {Rr' : Nat → Nat → Int32} {i j n kk y0 : Nat} {u : Nat × Nat × (Nat → Option Nat)} {mc : Int32} {N : Int32} {H1 : Heap} {locs1 : List Loc} (M : xM D dA A e0 h G T s F Rr H locs) (hi : (xW h dA G F Rr)[i]? = some (xLc G F j)) (hrow0 : xat G (g_ed G j) (200 + j) (.inl (dA 4, g_cap G j, .inr (.inr (.inr (.inr (g_r G j)))))))
    (hW : ∀ L k f, xW h dA (gSet G j mc u L k f) (va_up F j (nI (n + 1))) Rr' = (xW h dA G F Rr).set i (g_ad G j, .inr (2, [.int mc, .ref u.1, .int (nI (n + 1))])))
    (hfr : ∀ q : Nat, q < H.size → ¬ va_A [xLc G F j, (g_ed G j, .inl (dA 4, g_cap G j, .inr (.inr (.inr (.inr (g_r G j))))))] H.size q → H1[q]? = H[q]?) (hA : ∀ q, va_A [xLc G F j, (g_ed G j, .inl (dA 4, g_cap G j, .inr (.inr (.inr (.inr (g_r G j))))))] H.size q → A q)
    (hP1 : va_P D xCl [(g_ad G j, .inr (2, [.int mc, .ref u.1, .int (nI (n + 1))])), (u.1, xrw dA u)] H1) (hD1 : va_D (va_A [xLc G F j, (g_ed G j, .inl (dA 4, g_cap G j, .inr (.inr (.inr (.inr (g_r G j))))))] H.size) [(g_ad G j, .inr (2, [.int mc, .ref u.1, .int (nI (n + 1))])), (u.1, xrw dA u)]) (hS : va_S A s.heap H1 locs1)
    (hI : ∀ G' : xG, (∀ y c x, c ≠ 200 + j → xat G y c x → xat G' y c x) → g_rs G' = g_rs G → g_ed G' = va_up (g_ed G) j u.1 → g_cap G' = va_up (g_cap G) j u.2.1 → g_r G' = va_up (g_r G) j u.2.2 → xat G' u.1 (200 + j) (xrw dA u) → xext G G' → xI dA e0 G' (va_up F j (nI (n + 1))) Rr') :
    ∃ G', xext G G' ∧ xM D dA A e0 h G' T s (va_up F j (nI (n + 1))) Rr' H1 locs1 := by
  obtain ⟨r1, r2, r3⟩ := hrow0
  obtain ⟨k', hk'⟩ := List.getElem?_of_mem r1
  have hkl := (List.getElem?_eq_some_iff.mp hk').1
  have hil := (List.getElem?_eq_some_iff.mp hi).1
  have w1 : (xWs h dA G F Rr T)[i]? = some (xLc G F j) := by
    unfold xWs
    rw [List.getElem?_append_left (by rw [List.length_append]; omega), List.getElem?_append_left hil]; exact hi
  have w2 : ∀ t z, (g_L G)[t]? = some z → (xWs h dA G F Rr T)[(xW h dA G F Rr ++ T).length + t]? = some (z, g_f G z) := by
    intro t z hz
    unfold xWs va_pl
    rw [List.getElem?_append_right (by omega), Nat.add_sub_cancel_left, List.getElem?_map, hz]; rfl
  have w3 := w2 k' _ hk'
  rw [r3] at w3
  obtain ⟨p1, d1, hu⟩ := fr_upd2 (x := .inr (2, [.int mc, .ref u.1, .int (nI (n + 1))])) (u := u.1) (y := xrw dA u) M.1 M.2.1 w1 w3 (by rw [List.length_append]; omega) hfr hA hP1 hD1
  have hz : ∀ t z, t ≠ k' → (g_L G)[t]? = some z → z ≠ u.1 := by
    intro t z ht hz e
    rcases hu with q | q
    · have := M.2.1.1 _ _ _ _ (w2 t z hz) w3 (e.trans q); omega
    · have : z < H.size := (M.1 _ _ (w2 t z hz)).lt
      omega
  have e1 : xWs h dA (gSet G j mc u ((g_L G).set k' u.1) (va_up (g_k G) u.1 (200 + j)) (va_up (g_f G) u.1 (xrw dA u))) (va_up F j (nI (n + 1))) Rr' T = (((xWs h dA G F Rr T).set i (g_ad G j, .inr (2, [.int mc, .ref u.1, .int (nI (n + 1))]))).set ((xW h dA G F Rr ++ T).length + k') (u.1, xrw dA u)) := by
    unfold xWs
    rw [ws_set (by rw [List.length_append]; omega), List.set_append_left _ _ hil, hW, ← pl_set hz hkl]
    rfl
  have hx : ∀ y c x, c ≠ 200 + j → xat G y c x → xat (gSet G j mc u ((g_L G).set k' u.1) (va_up (g_k G) u.1 (200 + j)) (va_up (g_f G) u.1 (xrw dA u))) y c x := by
    intro y c x hc ⟨q1, q2, q3⟩
    obtain ⟨t, ht⟩ := List.getElem?_of_mem q1
    have htk : t ≠ k' := fun e => by
      subst e
      have e2 : y = g_ed G j := Option.some.inj (ht.symm.trans hk')
      subst e2; exact hc (q2.symm.trans r2)
    have hyu := hz t y htk ht
    refine ⟨List.mem_of_getElem? (i := t) ?_, (up_n _ _ hyu).trans q2, (up_n _ _ hyu).trans q3⟩
    show ((g_L G).set k' u.1)[t]? = some y
    rw [List.getElem?_set_ne (Ne.symm htk)]; exact ht
  have hr : xat (gSet G j mc u ((g_L G).set k' u.1) (va_up (g_k G) u.1 (200 + j)) (va_up (g_f G) u.1 (xrw dA u))) u.1 (200 + j) (xrw dA u) :=
    ⟨List.mem_of_getElem? (i := k') (show ((g_L G).set k' u.1)[k']? = some u.1 from List.getElem?_set_self hkl), up_s _ _ _, up_s _ _ _⟩
  have hext : xext G (gSet G j mc u ((g_L G).set k' u.1) (va_up (g_k G) u.1 (200 + j)) (va_up (g_f G) u.1 (xrw dA u))) := fun y hy hk => hx y (g_k G y) (g_f G y) (by omega) ⟨hy, rfl, rfl⟩
  exact ⟨_, hext, by rw [e1]; exact p1, by rw [e1]; exact d1, hS, hI _ hx rfl rfl rfl rfl hr hext⟩
/-- .. where it still stands on the empty row -/
theorem xl_growS {Rr' : Nat → Nat → Int32} {i j n kk y0 : Nat} {u : Nat × Nat × (Nat → Option Nat)} {mc : Int32} {H1 : Heap} {locs1 : List Loc} (M : xM D dA A e0 h G T s F Rr H locs) (hi : (xW h dA G F Rr)[i]? = some (xLc G F j))
    (hW : ∀ L k f, xW h dA (gSet G j mc u L k f) (va_up F j (nI (n + 1))) Rr' = (xW h dA G F Rr).set i (g_ad G j, .inr (2, [.int mc, .ref u.1, .int (nI (n + 1))])))
    (hfr : ∀ q : Nat, q < H.size → ¬ va_A [xLc G F j] H.size q → H1[q]? = H[q]?) (hA : ∀ q, va_A [xLc G F j] H.size q → A q)
    (hP1 : va_P D xCl [(g_ad G j, .inr (2, [.int mc, .ref u.1, .int (nI (n + 1))])), (u.1, xrw dA u)] H1) (hD1 : va_D (va_A [xLc G F j] H.size) [(g_ad G j, .inr (2, [.int mc, .ref u.1, .int (nI (n + 1))])), (u.1, xrw dA u)]) (hS : va_S A s.heap H1 locs1)
    (hI : ∀ G' : xG, (∀ y c x, c ≠ 200 + j → xat G y c x → xat G' y c x) → g_rs G' = g_rs G → g_ed G' = va_up (g_ed G) j u.1 → g_cap G' = va_up (g_cap G) j u.2.1 → g_r G' = va_up (g_r G) j u.2.2 → xat G' u.1 (200 + j) (xrw dA u) → xext G G' → xI dA e0 G' (va_up F j (nI (n + 1))) Rr') :
    ∃ G', xext G G' ∧ xM D dA A e0 h G' T s (va_up F j (nI (n + 1))) Rr' H1 locs1 := by
  have hil := (List.getElem?_eq_some_iff.mp hi).1
  have w1 : (xWs h dA G F Rr T)[i]? = some (xLc G F j) := by
    unfold xWs
    rw [List.getElem?_append_left (by rw [List.length_append]; omega), List.getElem?_append_left hil]; exact hi
  obtain ⟨p1, d1, hu⟩ := fr_upd1 (x := .inr (2, [.int mc, .ref u.1, .int (nI (n + 1))])) (u := u.1) (y := xrw dA u) M.1 M.2.1 w1 hfr hA hP1 hD1
  have hq : u.1 ∉ g_L G := fun z => by
    obtain ⟨t, ht⟩ := List.getElem?_of_mem z
    have w2 : (xWs h dA G F Rr T)[(xW h dA G F Rr ++ T).length + t]? = some (u.1, g_f G u.1) := by
      unfold xWs va_pl
      rw [List.getElem?_append_right (by omega), Nat.add_sub_cancel_left, List.getElem?_map, ht]; rfl
    have : u.1 < H.size := (M.1 _ _ w2).lt
    omega
  have e1 : xWs h dA (gSet G j mc u (g_L G ++ [u.1]) (va_up (g_k G) u.1 (200 + j)) (va_up (g_f G) u.1 (xrw dA u))) (va_up F j (nI (n + 1))) Rr' T = (xWs h dA G F Rr T).set i (g_ad G j, .inr (2, [.int mc, .ref u.1, .int (nI (n + 1))])) ++ [(u.1, xrw dA u)] := by
    unfold xWs
    rw [List.set_append_left _ _ (by rw [List.length_append]; omega), List.set_append_left _ _ hil, hW, List.append_assoc (_ ++ T), va_pl_push hq]
    rfl
  have hx : ∀ y c x, c ≠ 200 + j → xat G y c x → xat (gSet G j mc u (g_L G ++ [u.1]) (va_up (g_k G) u.1 (200 + j)) (va_up (g_f G) u.1 (xrw dA u))) y c x := by
    intro y c x hc ⟨q1, q2, q3⟩
    have hyu : y ≠ u.1 := fun e => hq (e ▸ q1)
    exact ⟨List.mem_append_left _ q1, (up_n _ _ hyu).trans q2, (up_n _ _ hyu).trans q3⟩
  have hr : xat (gSet G j mc u (g_L G ++ [u.1]) (va_up (g_k G) u.1 (200 + j)) (va_up (g_f G) u.1 (xrw dA u))) u.1 (200 + j) (xrw dA u) := ⟨List.mem_append_right _ (List.mem_singleton.mpr rfl), up_s _ _ _, up_s _ _ _⟩
  have hext : xext G (gSet G j mc u (g_L G ++ [u.1]) (va_up (g_k G) u.1 (200 + j)) (va_up (g_f G) u.1 (xrw dA u))) := fun y hy hk => hx y (g_k G y) (g_f G y) (by omega) ⟨hy, rfl, rfl⟩
  exact ⟨_, hext, by rw [e1]; exact p1, by rw [e1]; exact d1, hS, hI _ hx rfl rfl rfl rfl hr hext⟩
end XGROW
