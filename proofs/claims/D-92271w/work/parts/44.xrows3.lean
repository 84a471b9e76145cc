/-! THE SYSTEM'S WORLD, 4: what a list's growing tells (written by gen/mkX3.py) -/
def xrow (Rr : Nat → Nat → Int32) (b n : Nat) (vs : List Int32) : Nat → Nat → Int32 := fun k i => if b ≤ k ∧ k < b + vs.length ∧ i = n then vs.getD (k - b) 0 else Rr k i
theorem xrow_n {Rr : Nat → Nat → Int32} {b n k : Nat} {vs : List Int32} (h : k < b ∨ b + vs.length ≤ k) : xrow Rr b n vs k = Rr k := by
  funext i; unfold xrow; rw [if_neg (by omega)]
theorem xrow_i {Rr : Nat → Nat → Int32} {b n k i : Nat} {vs : List Int32} (h : i ≠ n) : xrow Rr b n vs k i = Rr k i := by
  unfold xrow; rw [if_neg (by omega)]
def xcart (Rr : Nat → Nat → Int32) (n : Nat) (g : Nat → Int32) : Nat → Nat → Int32 := fun k i => if k = 100 ∧ 9 * n ≤ i ∧ i < 9 * n + 9 then g (i - 9 * n) else Rr k i
theorem xcart_n {Rr : Nat → Nat → Int32} {n k : Nat} {g : Nat → Int32} (h : k ≠ 100) : xcart Rr n g k = Rr k := by
  funext i; unfold xcart; rw [if_neg (by omega)]
/-- a row put in at kk: those behind go on by one -/
def xinsr (Rr : Nat → Nat → Int32) (b kk : Nat) (vs : List Int32) : Nat → Nat → Int32 := fun k i => if b ≤ k ∧ k < b + vs.length then (if i < kk then Rr k i else if i = kk then vs.getD (k - b) 0 else Rr k (i - 1)) else Rr k i
theorem xinsr_n {Rr : Nat → Nat → Int32} {b n k : Nat} {vs : List Int32} (h : k < b ∨ b + vs.length ≤ k) : xinsr Rr b n vs k = Rr k := by
  funext i; unfold xinsr; rw [if_neg (by omega)]
def xband (j b : Nat) : Prop := if j = 6 then 60 ≤ b ∧ b < 64 else if j = 10 then False else if j = 11 then 110 ≤ b ∧ b < 116 else if j = 13 then 130 ≤ b ∧ b < 134 else if j = 14 then 140 ≤ b ∧ b < 147 else 150 ≤ b ∧ b < 154
theorem xel_cg {dA : Nat → ClassId} {G : xG} {Rr Rr' : Nat → Nat → Int32} {j k k' y : Nat} (h1 : ∀ b, xband j b → Rr' b k' = Rr b k) (h2 : j = 10 → ∀ i, i < 9 → Rr' 100 (9 * k' + i) = Rr 100 (9 * k + i)) (hh : xel dA G Rr j k y) : xel dA G Rr' j k' y := by
  unfold xel at hh ⊢
  unfold xband at h1
  split at hh
  · rename_i q; subst q
    rw [if_pos rfl, h1 60 (by decide), h1 61 (by decide), h1 62 (by decide), h1 63 (by decide)]; exact hh
  rename_i q0; rw [if_neg q0]; simp only [if_neg q0] at h1
  split at hh
  · rename_i q; subst q
    rw [if_pos rfl]; obtain ⟨g, a, b⟩ := hh; exact ⟨g, a, fun i hi => (b i hi).trans (h2 rfl i hi).symm⟩
  rename_i q1; rw [if_neg q1]; simp only [if_neg q1] at h1
  split at hh
  · rename_i q; subst q
    rw [if_pos rfl, h1 110 (by decide), h1 111 (by decide), h1 112 (by decide), h1 113 (by decide), h1 114 (by decide), h1 115 (by decide)]; exact hh
  rename_i q2; rw [if_neg q2]; simp only [if_neg q2] at h1
  split at hh
  · rename_i q; subst q
    rw [if_pos rfl, h1 130 (by decide), h1 131 (by decide), h1 132 (by decide), h1 133 (by decide)]; exact hh
  rename_i q3; rw [if_neg q3]; simp only [if_neg q3] at h1
  split at hh
  · rename_i q; subst q
    rw [if_pos rfl, h1 140 (by decide), h1 141 (by decide), h1 142 (by decide), h1 143 (by decide), h1 144 (by decide), h1 145 (by decide), h1 146 (by decide)]; exact hh
  rename_i q4; rw [if_neg q4]; simp only [if_neg q4] at h1
  rw [h1 150 (by decide), h1 151 (by decide), h1 152 (by decide), h1 153 (by decide)]; exact hh
theorem xband_ne {jj b lo hi : Nat} (hjj : jj = 6 ∨ jj = 10 ∨ jj = 11 ∨ jj = 13 ∨ jj = 14 ∨ jj = 15) (hb : xband jj b) (a : jj ≠ 6 ∨ hi ≤ 60 ∨ 64 ≤ lo) (b' : jj ≠ 11 ∨ hi ≤ 110 ∨ 116 ≤ lo) (c : jj ≠ 13 ∨ hi ≤ 130 ∨ 134 ≤ lo) (d : jj ≠ 14 ∨ hi ≤ 140 ∨ 147 ≤ lo) (e : jj ≠ 15 ∨ hi ≤ 150 ∨ 154 ≤ lo) : b < lo ∨ hi ≤ b := by
  unfold xband at hb
  rcases hjj with q | q | q | q | q | q <;> subst q <;> simp at hb <;> omega
theorem xSh_cg {dA : Nat → ClassId} {G : xG} {Rr Rr' : Nat → Nat → Int32} (h : ∀ b, b < 40 → Rr' b = Rr b) (hh : xSh dA G Rr) : xSh dA G Rr' := fun s hs => by
  rw [h 0 (by decide), h 24 (by decide), h (30 + s) (by omega)]; exact hh s hs
theorem xW_R {h : Nat} {dA : Nat → ClassId} {G : xG} {F : Nat → Int32} {Rr Rr' : Nat → Nat → Int32} (hR : ∀ b, b < 40 → Rr' b = Rr b) : xW h dA G F Rr' = xW h dA G F Rr := by
  unfold xW
  rw [hR 1 (by decide), hR 2 (by decide), hR 3 (by decide), hR 4 (by decide), hR 5 (by decide), hR 7 (by decide), hR 12 (by decide), hR 16 (by decide), hR 17 (by decide), hR 18 (by decide), hR 19 (by decide), hR 22 (by decide)]
theorem xAdd.ins {n y0 : Nat} {r : Nat → Option Nat} {u : Nat × Nat × (Nat → Option Nat)} (h : xAdd n y0 r u) : xIns n n y0 r u := ⟨h.1, h.2.1, fun i h1 h2 => absurd h1 (Nat.not_le.mpr h2), h.2.2⟩
theorem va_D2 {A : Nat → Prop} {ws : va_W} {i k a b : Nat} {x y : va_E} (hD : va_D A ws) (hi : ws[i]? = some (a, x)) (hk : ws[k]? = some (b, y)) (hik : i ≠ k) : va_D A [(a, x), (b, y)] := by
  have hab : a ≠ b := fun e => hik (hD.1 i k _ _ hi hk e)
  refine ⟨fun t t' q q' hq hq' e => ?_, fun t q hq => ?_⟩
  · rcases t with _ | _ | t <;> rcases t' with _ | _ | t' <;> (try cases hq) <;> (try cases hq') <;> first | rfl | exact absurd e hab | exact absurd e.symm hab
  · rcases t with _ | _ | t
    · cases hq; exact hD.2 i _ hi
    · cases hq; exact hD.2 k _ hk
    · cases hq
theorem va_free2 {A : Nat → Prop} {ws : va_W} {i k a b : Nat} {x y : va_E} {H0 H : Heap} {locs : List Loc} (hD : va_D A ws) (hS : va_S A H0 H locs) (hA : ∀ q, H0.size ≤ q → A q) (hi : ws[i]? = some (a, x)) (hk : ws[k]? = some (b, y)) : ∀ q, va_A [(a, x), (b, y)] H.size q → A q := by
  intro q z
  rcases z with ⟨t, e2, z⟩ | z
  · rcases t with _ | _ | t
    · cases z; exact hD.2 i _ hi
    · cases z; exact hD.2 k _ hk
    · cases z
  · exact hA q (Nat.le_trans hS.1 z)
theorem va_A2 {a b y sz : Nat} {x z : va_E} (h1 : y ≠ a) (h2 : y ≠ b) (h3 : y < sz) : ¬ va_A [(a, x), (b, z)] sz y := by
  intro q
  rcases q with ⟨t, e2, q⟩ | q
  · rcases t with _ | _ | t
    · cases q; exact h1 rfl
    · cases q; exact h2 rfl
    · cases q
  · omega
theorem va_A1 {a y sz : Nat} {x : va_E} (h1 : y ≠ a) (h3 : y < sz) : ¬ va_A [(a, x)] sz y := by
  intro q
  rcases q with ⟨t, e2, q⟩ | q
  · rcases t with _ | t
    · cases q; exact h1 rfl
    · cases q
  · omega
section XADDROWS
variable {p : Program} {l : Launch} {e : Env} {R : Room} {s : State} {m : MethodId} {args : Array Value} {below : List Frame} {meth : Method} {c : Code} {H : Heap} {locs : List Loc} {cells slots : Nat} {Q : State → Prop}
variable {own : String} {cc : ByteArray} {nL pc : Nat} {ls : Array Slot} {rest : List Value} {D : va_G} {dA : Nat → ClassId} {A : Nat → Prop} {e0 h : Nat} {G : xG} {T : va_W} {F : Nat → Int32} {Rr : Nat → Nat → Int32}
theorem any_at {own : String} {ci c0 y : Nat} {Cn : String} {Tn : u_T} {Nn : Nat} {fs : List Value} (X : xX own p s m args c cc nL D dA A e0) (M : xM D dA A e0 h G T s F Rr H locs) (hw : va_Nw (.castable Cn "java/lang/Object") s) (hc : xCl[ci]? = some (Cn, Tn, Nn)) (ha : xat G y c0 (.inr (ci, fs))) : va_Any "java/lang/Object" s H y := by
  obtain ⟨q9, h9⟩ := xat_ws ha (xW h dA G F Rr ++ T)
  exact any_of hw (va_recv (cl := xCl) X.K M.1 hc h9)
theorem any_ints {own : String} {c0 y n : Nat} {f : Nat → Int32} (X : xX own p s m args c cc nL D dA A e0) (M : xM D dA A e0 h G T s F Rr H locs) (ha : xat G y c0 (.inl (dA 0, n, .inl f))) : va_Any "java/lang/Object" s H y := by
  obtain ⟨q9, h9⟩ := xat_ws ha (xW h dA G F Rr ++ T)
  exact any_of (C := "[I") (X.T.1 _ q2005 rfl) ⟨_, M.1 q9 _ h9, rfl, va_nm_int (X.K.2 0 _ rfl).2⟩
theorem any_el {own : String} {j k y : Nat} (X : xX own p s m args c cc nL D dA A e0) (M : xM D dA A e0 h G T s F Rr H locs) (hh : xel dA G Rr j k y) : va_Any "java/lang/Object" s H y := by
  unfold xel at hh
  split at hh
  · exact any_at X M (X.T.1 _ q1990 rfl) (ci := 5) rfl hh
  split at hh
  · obtain ⟨g, a, -⟩ := hh; exact any_ints X M a
  split at hh
  · exact any_at X M (X.T.1 _ q1991 rfl) (ci := 6) rfl hh
  split at hh
  · exact any_at X M (X.T.1 _ q1993 rfl) (ci := 7) rfl hh
  split at hh
  · obtain ⟨ci, hci, -, a⟩ := hh
    match ci, hci, a with
    | 0, _, a => exact any_at X M (X.T.1 _ q1994 rfl) (ci := 8) rfl a
    | 1, _, a => exact any_at X M (X.T.1 _ q1995 rfl) (ci := 9) rfl a
    | 2, _, a => exact any_at X M (X.T.1 _ q1996 rfl) (ci := 10) rfl a
    | 3, _, a => exact any_at X M (X.T.1 _ q1997 rfl) (ci := 11) rfl a
    | z + 4, hz, _ => exact absurd hz (by omega)
  · exact any_at X M (X.T.1 _ q1993 rfl) (ci := 7) rfl hh
theorem any_pass {own : String} {ci y : Nat} {fs : List Value} (X : xX own p s m args c cc nL D dA A e0) (M : xM D dA A e0 h G T s F Rr H locs) (hci : ci < 4) (hy : xat G y (8 + ci) (.inr (8 + ci, fs))) : va_Any "java/lang/Object" s H y := by
  match ci, hci, hy with
  | 0, _, a => exact any_at X M (X.T.1 _ q1994 rfl) (ci := 8) rfl a
  | 1, _, a => exact any_at X M (X.T.1 _ q1995 rfl) (ci := 9) rfl a
  | 2, _, a => exact any_at X M (X.T.1 _ q1996 rfl) (ci := 10) rfl a
  | 3, _, a => exact any_at X M (X.T.1 _ q1997 rfl) (ci := 11) rfl a
  | z + 4, hz, _ => exact absurd hz (by omega)
theorem xl_add_6 (X : xX RX0 p s m args c cc nL D dA A e0) (M : xM D dA A e0 h G T s F Rr H locs) {n y : Nat} {a0 a1 a2 a3 : Int32} (hy : xat G y 5 (.inr (5, [.int a0, .int a1, .int a2, .int a3]))) (hn : F 6 = nI n) (hlt : n < 30) (hl : ls.size = nL) (hR : 6 + 1 ≤ R.frames ∧ 8 + (2 + 11) + 170 ≤ R.locals) (hf : cells + 1 ≤ R.cells ∧ slots + 200 ≤ R.slots) (hW : (rest.map fun v => v.category).sum ≤ 8) (hdg : decode cc pc = .ok (.invokeinterface 201 2, 5)) (kx : ∀ (G1 : xG) (H1 : Heap) (locs1 : List Loc), xext G G1 → xM D dA A e0 h G1 T s (va_up F 6 (nI (n + 1))) (xrow Rr 60 n [a0, a1, a2, a3]) H1 locs1 → W p l e R s m args below meth c H1 locs1 (cells + 1) (slots + 200) Q (F0 m (pc + 5) ls (.int 1 :: rest))) : W p l e R s m args below meth c H locs cells slots Q (F0 m pc ls (.ref y :: .ref (g_ad G 6) :: rest)) := by
  have hLs := M.2.2.2.1
  have hn3 : (F 6).toNatClampNeg = n := by rw [hn]; exact nI_clamp (by omega)
  have hRn : ∀ b, b < 40 → (xrow Rr 60 n [a0, a1, a2, a3]) b = Rr b := fun b hb => xrow_n (by first | exact Or.inl (by omega) | (right; show 64 ≤ b; omega))
  have hlp : (xW h dA G F Rr)[7]? = some (xLc G F 6) := rfl
  have hya : va_Any "java/lang/Object" s H y := any_at X M (X.T.1 _ q1990 rfl) (ci := 5) rfl hy
  obtain ⟨cy, xy, hcy, hyat⟩ : ∃ c x, c < 100 ∧ xat G y c x := ⟨_, _, by first | decide | omega, hy⟩
  have lt9 : ∀ z, va_Any "java/lang/Object" s H z → z < H.size := fun z ⟨c9, h9, _⟩ => (Array.getElem?_eq_some_iff.mp h9).1
  have hII : ∀ (u : Nat × Nat × (Nat → Option Nat)), xIns n n y (g_r G 6) u → ∀ G1 : xG, (∀ y c x, c ≠ 200 + 6 → xat G y c x → xat G1 y c x) → g_rs G1 = g_rs G → g_ed G1 = va_up (g_ed G) 6 u.1 → g_cap G1 = va_up (g_cap G) 6 u.2.1 → g_r G1 = va_up (g_r G) 6 u.2.2 → xat G1 u.1 (200 + 6) (xrw dA u) → xext G G1 → xI dA e0 G1 (va_up F 6 (nI (n + 1))) (xrow Rr 60 n [a0, a1, a2, a3]) := by
    intro u hins G1 hxm hrs hed hcap hr hrow hext
    exact xI_grow hxm hrs hed hcap hr hrow hn (by omega) (Nat.le_refl n) hins (fun jj k y hjj hne hh => xel_cg (fun b hb => congrFun (xrow_n (show b < 60 ∨ 64 ≤ b from xband_ne hjj hb (by omega) (by omega) (by omega) (by omega) (by omega))) _) (fun e9 i hi => congrFun (xrow_n (show 100 < 60 ∨ 64 ≤ 100 from by omega)) _) hh) (fun k y hk hh => (by rw [if_pos hk]; exact xel_cg (fun b hb => xrow_i (by omega)) (fun e9 => absurd e9 (by decide)) hh)) ((by unfold xel; simp [xrow]; exact hext.at (by decide) hy)) (xSh_cg hRn) ⟨fun _ => ⟨nI_pos' (by omega), nI_le (b := 30) (by omega) (by decide)⟩, fun e9 => absurd e9 (by decide), fun e9 => absurd e9 (by decide), fun e9 => absurd e9 (by decide), fun e9 => absurd e9 (by decide), fun e9 => absurd e9 (by decide)⟩ (by decide) (by decide) M.2.2.2
  rcases hLs.2.1 with ⟨z1, z2⟩ | ⟨o1, o2, o3, o4⟩
  · have hn0 : n = 0 := by rw [← hn3, z1]; rfl
    have hc : xLc G F 6 = (g_ad G 6, .inr (2, [.int (g_mc G 6), .ref e0, .int 0])) := by unfold xLc; rw [z1, z2]
    have hPc : va_P D xCl [(g_ad G 6, .inr (2, [.int (g_mc G 6), .ref e0, .int 0]))] H := by rw [← hc]; exact va_P1 (M.1 7 _ rfl)
    have hDc : va_D A [(g_ad G 6, .inr (2, [.int (g_mc G 6), .ref e0, .int 0]))] := by rw [← hc]; exact M.2.1.sub [7] (by decide) rfl
    have hFc : ∀ q, va_A [(g_ad G 6, .inr (2, [.int (g_mc G 6), .ref e0, .int 0]))] H.size q → A q := by rw [← hc]; exact va_free (wc := [xLc G F 6]) M.2.1 M.2.2.1 X.hA [7] rfl
    skip
    refine va_callFi (va_runF (As := [.ref y]) (rest := rest) (X.K.1 2 _ rfl).2 X.1 (metJ2_addS l D dA (va_A [(g_ad G 6, .inr (2, [.int (g_mc G 6), .ref e0, .int 0]))] H.size) e0 (g_ad G 6) (g_mc G 6) y (g_r G 6)) (va_cwF 1 X.hts (lw_F q815 q741 q743 q60 q745) rfl rfl rfl (X.T.2.1 (RJ2, yL_add, yJ2_add) (List.mem_of_getElem? (i := 2) rfl)) (by decide +kernel) ⟨Nat.le_trans (by decide) hR.1, Nat.le_trans (by decide) hR.2⟩) ⟨gPre_blindE, va_recv (cl := xCl) X.K M.1 (ci := 2) (q0 := 7) rfl rfl, fun U hU hW => ⟨rfl, X.Cn M.2.2.1 hFc hU hW, by rw [hU]; exact hPc, hDc.self, fun y9 e9 => by subst e9; exact ⟨by rw [hU]; exact hya.moved hW.alike, va_A1 (xat_ne M hlp hyat) (lt9 _ hya)⟩⟩⟩ rfl rfl hl rfl (lv_room (m := m) (pc := 0) (ls := ls) (rest := []) hW) hdg ⟨by omega, by omega⟩) M.2.2.1 (fun q _ h => hFc q h) hFc (fun r u t H1 locs1 ht hvm hp hB hz hk hS => ?_)
    obtain ⟨rfl, hp⟩ := hp
    obtain ⟨hP1, hD1⟩ := hB; rw [ht] at hP1
    have hins : xIns n n y (g_r G 6) u := by rw [hn0]; exact hp.ins
    obtain ⟨G1, hx1, M1⟩ := xl_growS (n := n) (mc := g_mc G 6 + 1) (u := u) (kk := 0) (y0 := 0) (Rr' := xrow Rr 60 n [a0, a1, a2, a3]) M hlp (fun L k f => by rw [xW_R hRn]; rfl) (by rw [hc]; exact hk) (by rw [hc]; exact hFc) (by rw [hn0]; exact hP1) (by rw [hn0, hc]; exact hD1) hS (hII u hins)
    exact W.widen (k := cells + 1) (n := slots + 200) (by omega) (by omega) (kx G1 H1 locs1 hx1 M1)
  · obtain ⟨k0, hk0⟩ := xat_ws o1 (xW h dA G F Rr ++ T)
    rw [hn3] at o2
    have hk21 : 7 ≠ k0 := fun e9 => by have e8 : (g_ad G 6, (xLc G F 6).2) = (g_ed G 6, _) := Option.some.inj ((show (xWs h dA G F Rr T)[7]? = some (xLc G F 6) from rfl).symm.trans (by rw [e9]; exact hk0)); exact absurd (congrArg Prod.fst e8).symm (xat_ne M hlp o1)
    have hc : xLc G F 6 = (g_ad G 6, .inr (2, [.int (g_mc G 6), .ref (g_ed G 6), .int (nI n)])) := by unfold xLc; rw [hn]
    have hi0 : (xWs h dA G F Rr T)[7]? = some (g_ad G 6, .inr (2, [.int (g_mc G 6), .ref (g_ed G 6), .int (nI n)])) := by rw [← hc]; rfl
    have hPc : va_P D xCl [(g_ad G 6, .inr (2, [.int (g_mc G 6), .ref (g_ed G 6), .int (nI n)])), (g_ed G 6, .inl (dA 4, g_cap G 6, .inr (.inr (.inr (.inr (g_r G 6))))))] H := va_P2 (M.1 7 _ hi0) (M.1 k0 _ hk0)
    have hDc : va_D A [(g_ad G 6, .inr (2, [.int (g_mc G 6), .ref (g_ed G 6), .int (nI n)])), (g_ed G 6, .inl (dA 4, g_cap G 6, .inr (.inr (.inr (.inr (g_r G 6))))))] := va_D2 M.2.1 hi0 hk0 hk21
    have hFc : ∀ q, va_A [(g_ad G 6, .inr (2, [.int (g_mc G 6), .ref (g_ed G 6), .int (nI n)])), (g_ed G 6, .inl (dA 4, g_cap G 6, .inr (.inr (.inr (.inr (g_r G 6))))))] H.size q → A q := va_free2 M.2.1 M.2.2.1 X.hA hi0 hk0
    refine va_callFi (va_runF (As := [.ref y]) (rest := rest) (X.K.1 2 _ rfl).2 X.1 (metJ2_addO l D dA (va_A [(g_ad G 6, .inr (2, [.int (g_mc G 6), .ref (g_ed G 6), .int (nI n)])), (g_ed G 6, .inl (dA 4, g_cap G 6, .inr (.inr (.inr (.inr (g_r G 6))))))] H.size) e0 (g_ad G 6) (g_mc G 6) (g_ed G 6) (g_cap G 6) (g_r G 6) n o4 o3 (by omega) y o2) (va_cwF 1 X.hts (lw_F q815 q741 q743 q60 q745) rfl rfl rfl (X.T.2.1 (RJ2, yL_add, yJ2_add) (List.mem_of_getElem? (i := 2) rfl)) (by decide +kernel) ⟨Nat.le_trans (by decide) hR.1, Nat.le_trans (by decide) hR.2⟩) ⟨gPre_blindE, va_recv (cl := xCl) X.K M.1 (ci := 2) (q0 := 7) rfl rfl, fun U hU hW => ⟨rfl, X.Cn M.2.2.1 hFc hU hW, by rw [hU]; exact hPc, hDc.self, fun y9 e9 => by
      have q9 : va_Any "java/lang/Object" s H y9 ∧ ∃ c x, c < 100 ∧ xat G y9 c x := by
        rcases e9 with e9 | ⟨i9, h9, e9⟩
        · subst e9; exact ⟨hya, _, _, hcy, hyat⟩
        · obtain ⟨y8, g8, e8⟩ := hLs.2.2 i9 (by rw [hn3]; exact h9)
          have e7 : y8 = y9 := Option.some.inj (g8.symm.trans e9)
          subst e7; exact ⟨any_el X M e8, xel_at e8⟩
      obtain ⟨q8, c9, x9, hc9, ha9⟩ := q9
      exact ⟨by rw [hU]; exact q8.moved hW.alike, va_A2 (xat_ne M hlp ha9) (xat_ne2 ha9 o1 (by omega)) (lt9 _ q8)⟩⟩⟩ rfl rfl hl rfl (lv_room (m := m) (pc := 0) (ls := ls) (rest := []) hW) hdg hf) M.2.2.1 (fun q _ h => hFc q h) hFc (fun r u t H1 locs1 ht hvm hp hB hz hk hS => ?_)
    obtain ⟨rfl, hp⟩ := hp
    obtain ⟨hP1, hD1⟩ := hB; rw [ht] at hP1
    obtain ⟨G1, hx1, M1⟩ := xl_growO (n := n) (mc := g_mc G 6 + 1) (u := u) (kk := 0) (y0 := 0) (N := 0) (Rr' := xrow Rr 60 n [a0, a1, a2, a3]) M hlp o1 (fun L k f => by rw [xW_R hRn]; rfl) (by rw [hc]; exact hk) (by rw [hc]; exact hFc) hP1 (by rw [hc]; exact hD1) hS (hII u hp.ins)
    exact kx G1 H1 locs1 hx1 M1
theorem xl_add_13 (X : xX RX0 p s m args c cc nL D dA A e0) (M : xM D dA A e0 h G T s F Rr H locs) {n y : Nat} {a0 a1 a2 a3 : Int32} (hy : xat G y 7 (.inr (7, [.int a0, .int a1, .int a2, .int a3]))) (hn : F 13 = nI n) (hlt : n < 20) (hl : ls.size = nL) (hR : 6 + 1 ≤ R.frames ∧ 8 + (2 + 11) + 170 ≤ R.locals) (hf : cells + 1 ≤ R.cells ∧ slots + 200 ≤ R.slots) (hW : (rest.map fun v => v.category).sum ≤ 8) (hdg : decode cc pc = .ok (.invokeinterface 201 2, 5)) (kx : ∀ (G1 : xG) (H1 : Heap) (locs1 : List Loc), xext G G1 → xM D dA A e0 h G1 T s (va_up F 13 (nI (n + 1))) (xrow Rr 130 n [a0, a1, a2, a3]) H1 locs1 → W p l e R s m args below meth c H1 locs1 (cells + 1) (slots + 200) Q (F0 m (pc + 5) ls (.int 1 :: rest))) : W p l e R s m args below meth c H locs cells slots Q (F0 m pc ls (.ref y :: .ref (g_ad G 13) :: rest)) := by
  have hLs := M.2.2.2.2.2.2.1
  have hn3 : (F 13).toNatClampNeg = n := by rw [hn]; exact nI_clamp (by omega)
  have hRn : ∀ b, b < 40 → (xrow Rr 130 n [a0, a1, a2, a3]) b = Rr b := fun b hb => xrow_n (by first | exact Or.inl (by omega) | (right; show 134 ≤ b; omega))
  have hlp : (xW h dA G F Rr)[12]? = some (xLc G F 13) := rfl
  have hya : va_Any "java/lang/Object" s H y := any_at X M (X.T.1 _ q1993 rfl) (ci := 7) rfl hy
  obtain ⟨cy, xy, hcy, hyat⟩ : ∃ c x, c < 100 ∧ xat G y c x := ⟨_, _, by first | decide | omega, hy⟩
  have lt9 : ∀ z, va_Any "java/lang/Object" s H z → z < H.size := fun z ⟨c9, h9, _⟩ => (Array.getElem?_eq_some_iff.mp h9).1
  have hII : ∀ (u : Nat × Nat × (Nat → Option Nat)), xIns n n y (g_r G 13) u → ∀ G1 : xG, (∀ y c x, c ≠ 200 + 13 → xat G y c x → xat G1 y c x) → g_rs G1 = g_rs G → g_ed G1 = va_up (g_ed G) 13 u.1 → g_cap G1 = va_up (g_cap G) 13 u.2.1 → g_r G1 = va_up (g_r G) 13 u.2.2 → xat G1 u.1 (200 + 13) (xrw dA u) → xext G G1 → xI dA e0 G1 (va_up F 13 (nI (n + 1))) (xrow Rr 130 n [a0, a1, a2, a3]) := by
    intro u hins G1 hxm hrs hed hcap hr hrow hext
    exact xI_grow hxm hrs hed hcap hr hrow hn (by omega) (Nat.le_refl n) hins (fun jj k y hjj hne hh => xel_cg (fun b hb => congrFun (xrow_n (show b < 130 ∨ 134 ≤ b from xband_ne hjj hb (by omega) (by omega) (by omega) (by omega) (by omega))) _) (fun e9 i hi => congrFun (xrow_n (show 100 < 130 ∨ 134 ≤ 100 from by omega)) _) hh) (fun k y hk hh => (by rw [if_pos hk]; exact xel_cg (fun b hb => xrow_i (by omega)) (fun e9 => absurd e9 (by decide)) hh)) ((by unfold xel; simp [xrow]; exact hext.at (by decide) hy)) (xSh_cg hRn) ⟨fun e9 => absurd e9 (by decide), fun e9 => absurd e9 (by decide), fun e9 => absurd e9 (by decide), fun _ => ⟨nI_pos' (by omega), nI_le (b := 20) (by omega) (by decide)⟩, fun e9 => absurd e9 (by decide), fun e9 => absurd e9 (by decide)⟩ (by decide) (by decide) M.2.2.2
  rcases hLs.2.1 with ⟨z1, z2⟩ | ⟨o1, o2, o3, o4⟩
  · have hn0 : n = 0 := by rw [← hn3, z1]; rfl
    have hc : xLc G F 13 = (g_ad G 13, .inr (2, [.int (g_mc G 13), .ref e0, .int 0])) := by unfold xLc; rw [z1, z2]
    have hPc : va_P D xCl [(g_ad G 13, .inr (2, [.int (g_mc G 13), .ref e0, .int 0]))] H := by rw [← hc]; exact va_P1 (M.1 12 _ rfl)
    have hDc : va_D A [(g_ad G 13, .inr (2, [.int (g_mc G 13), .ref e0, .int 0]))] := by rw [← hc]; exact M.2.1.sub [12] (by decide) rfl
    have hFc : ∀ q, va_A [(g_ad G 13, .inr (2, [.int (g_mc G 13), .ref e0, .int 0]))] H.size q → A q := by rw [← hc]; exact va_free (wc := [xLc G F 13]) M.2.1 M.2.2.1 X.hA [12] rfl
    skip
    refine va_callFi (va_runF (As := [.ref y]) (rest := rest) (X.K.1 2 _ rfl).2 X.1 (metJ2_addS l D dA (va_A [(g_ad G 13, .inr (2, [.int (g_mc G 13), .ref e0, .int 0]))] H.size) e0 (g_ad G 13) (g_mc G 13) y (g_r G 13)) (va_cwF 1 X.hts (lw_F q815 q741 q743 q60 q745) rfl rfl rfl (X.T.2.1 (RJ2, yL_add, yJ2_add) (List.mem_of_getElem? (i := 2) rfl)) (by decide +kernel) ⟨Nat.le_trans (by decide) hR.1, Nat.le_trans (by decide) hR.2⟩) ⟨gPre_blindE, va_recv (cl := xCl) X.K M.1 (ci := 2) (q0 := 12) rfl rfl, fun U hU hW => ⟨rfl, X.Cn M.2.2.1 hFc hU hW, by rw [hU]; exact hPc, hDc.self, fun y9 e9 => by subst e9; exact ⟨by rw [hU]; exact hya.moved hW.alike, va_A1 (xat_ne M hlp hyat) (lt9 _ hya)⟩⟩⟩ rfl rfl hl rfl (lv_room (m := m) (pc := 0) (ls := ls) (rest := []) hW) hdg ⟨by omega, by omega⟩) M.2.2.1 (fun q _ h => hFc q h) hFc (fun r u t H1 locs1 ht hvm hp hB hz hk hS => ?_)
    obtain ⟨rfl, hp⟩ := hp
    obtain ⟨hP1, hD1⟩ := hB; rw [ht] at hP1
    have hins : xIns n n y (g_r G 13) u := by rw [hn0]; exact hp.ins
    obtain ⟨G1, hx1, M1⟩ := xl_growS (n := n) (mc := g_mc G 13 + 1) (u := u) (kk := 0) (y0 := 0) (Rr' := xrow Rr 130 n [a0, a1, a2, a3]) M hlp (fun L k f => by rw [xW_R hRn]; rfl) (by rw [hc]; exact hk) (by rw [hc]; exact hFc) (by rw [hn0]; exact hP1) (by rw [hn0, hc]; exact hD1) hS (hII u hins)
    exact W.widen (k := cells + 1) (n := slots + 200) (by omega) (by omega) (kx G1 H1 locs1 hx1 M1)
  · obtain ⟨k0, hk0⟩ := xat_ws o1 (xW h dA G F Rr ++ T)
    rw [hn3] at o2
    have hk21 : 12 ≠ k0 := fun e9 => by have e8 : (g_ad G 13, (xLc G F 13).2) = (g_ed G 13, _) := Option.some.inj ((show (xWs h dA G F Rr T)[12]? = some (xLc G F 13) from rfl).symm.trans (by rw [e9]; exact hk0)); exact absurd (congrArg Prod.fst e8).symm (xat_ne M hlp o1)
    have hc : xLc G F 13 = (g_ad G 13, .inr (2, [.int (g_mc G 13), .ref (g_ed G 13), .int (nI n)])) := by unfold xLc; rw [hn]
    have hi0 : (xWs h dA G F Rr T)[12]? = some (g_ad G 13, .inr (2, [.int (g_mc G 13), .ref (g_ed G 13), .int (nI n)])) := by rw [← hc]; rfl
    have hPc : va_P D xCl [(g_ad G 13, .inr (2, [.int (g_mc G 13), .ref (g_ed G 13), .int (nI n)])), (g_ed G 13, .inl (dA 4, g_cap G 13, .inr (.inr (.inr (.inr (g_r G 13))))))] H := va_P2 (M.1 12 _ hi0) (M.1 k0 _ hk0)
    have hDc : va_D A [(g_ad G 13, .inr (2, [.int (g_mc G 13), .ref (g_ed G 13), .int (nI n)])), (g_ed G 13, .inl (dA 4, g_cap G 13, .inr (.inr (.inr (.inr (g_r G 13))))))] := va_D2 M.2.1 hi0 hk0 hk21
    have hFc : ∀ q, va_A [(g_ad G 13, .inr (2, [.int (g_mc G 13), .ref (g_ed G 13), .int (nI n)])), (g_ed G 13, .inl (dA 4, g_cap G 13, .inr (.inr (.inr (.inr (g_r G 13))))))] H.size q → A q := va_free2 M.2.1 M.2.2.1 X.hA hi0 hk0
    refine va_callFi (va_runF (As := [.ref y]) (rest := rest) (X.K.1 2 _ rfl).2 X.1 (metJ2_addO l D dA (va_A [(g_ad G 13, .inr (2, [.int (g_mc G 13), .ref (g_ed G 13), .int (nI n)])), (g_ed G 13, .inl (dA 4, g_cap G 13, .inr (.inr (.inr (.inr (g_r G 13))))))] H.size) e0 (g_ad G 13) (g_mc G 13) (g_ed G 13) (g_cap G 13) (g_r G 13) n o4 o3 (by omega) y o2) (va_cwF 1 X.hts (lw_F q815 q741 q743 q60 q745) rfl rfl rfl (X.T.2.1 (RJ2, yL_add, yJ2_add) (List.mem_of_getElem? (i := 2) rfl)) (by decide +kernel) ⟨Nat.le_trans (by decide) hR.1, Nat.le_trans (by decide) hR.2⟩) ⟨gPre_blindE, va_recv (cl := xCl) X.K M.1 (ci := 2) (q0 := 12) rfl rfl, fun U hU hW => ⟨rfl, X.Cn M.2.2.1 hFc hU hW, by rw [hU]; exact hPc, hDc.self, fun y9 e9 => by
      have q9 : va_Any "java/lang/Object" s H y9 ∧ ∃ c x, c < 100 ∧ xat G y9 c x := by
        rcases e9 with e9 | ⟨i9, h9, e9⟩
        · subst e9; exact ⟨hya, _, _, hcy, hyat⟩
        · obtain ⟨y8, g8, e8⟩ := hLs.2.2 i9 (by rw [hn3]; exact h9)
          have e7 : y8 = y9 := Option.some.inj (g8.symm.trans e9)
          subst e7; exact ⟨any_el X M e8, xel_at e8⟩
      obtain ⟨q8, c9, x9, hc9, ha9⟩ := q9
      exact ⟨by rw [hU]; exact q8.moved hW.alike, va_A2 (xat_ne M hlp ha9) (xat_ne2 ha9 o1 (by omega)) (lt9 _ q8)⟩⟩⟩ rfl rfl hl rfl (lv_room (m := m) (pc := 0) (ls := ls) (rest := []) hW) hdg hf) M.2.2.1 (fun q _ h => hFc q h) hFc (fun r u t H1 locs1 ht hvm hp hB hz hk hS => ?_)
    obtain ⟨rfl, hp⟩ := hp
    obtain ⟨hP1, hD1⟩ := hB; rw [ht] at hP1
    obtain ⟨G1, hx1, M1⟩ := xl_growO (n := n) (mc := g_mc G 13 + 1) (u := u) (kk := 0) (y0 := 0) (N := 0) (Rr' := xrow Rr 130 n [a0, a1, a2, a3]) M hlp o1 (fun L k f => by rw [xW_R hRn]; rfl) (by rw [hc]; exact hk) (by rw [hc]; exact hFc) hP1 (by rw [hc]; exact hD1) hS (hII u hp.ins)
    exact kx G1 H1 locs1 hx1 M1
theorem xl_add_15 (X : xX RX0 p s m args c cc nL D dA A e0) (M : xM D dA A e0 h G T s F Rr H locs) {n y : Nat} {a0 a1 a2 a3 : Int32} (hy : xat G y 7 (.inr (7, [.int a0, .int a1, .int a2, .int a3]))) (hn : F 15 = nI n) (hlt : n < 40) (hl : ls.size = nL) (hR : 6 + 1 ≤ R.frames ∧ 8 + (2 + 11) + 170 ≤ R.locals) (hf : cells + 1 ≤ R.cells ∧ slots + 200 ≤ R.slots) (hW : (rest.map fun v => v.category).sum ≤ 8) (hdg : decode cc pc = .ok (.invokeinterface 201 2, 5)) (kx : ∀ (G1 : xG) (H1 : Heap) (locs1 : List Loc), xext G G1 → xM D dA A e0 h G1 T s (va_up F 15 (nI (n + 1))) (xrow Rr 150 n [a0, a1, a2, a3]) H1 locs1 → W p l e R s m args below meth c H1 locs1 (cells + 1) (slots + 200) Q (F0 m (pc + 5) ls (.int 1 :: rest))) : W p l e R s m args below meth c H locs cells slots Q (F0 m pc ls (.ref y :: .ref (g_ad G 15) :: rest)) := by
  have hLs := M.2.2.2.2.2.2.2.2.1
  have hn3 : (F 15).toNatClampNeg = n := by rw [hn]; exact nI_clamp (by omega)
  have hRn : ∀ b, b < 40 → (xrow Rr 150 n [a0, a1, a2, a3]) b = Rr b := fun b hb => xrow_n (by first | exact Or.inl (by omega) | (right; show 154 ≤ b; omega))
  have hlp : (xW h dA G F Rr)[14]? = some (xLc G F 15) := rfl
  have hya : va_Any "java/lang/Object" s H y := any_at X M (X.T.1 _ q1993 rfl) (ci := 7) rfl hy
  obtain ⟨cy, xy, hcy, hyat⟩ : ∃ c x, c < 100 ∧ xat G y c x := ⟨_, _, by first | decide | omega, hy⟩
  have lt9 : ∀ z, va_Any "java/lang/Object" s H z → z < H.size := fun z ⟨c9, h9, _⟩ => (Array.getElem?_eq_some_iff.mp h9).1
  have hII : ∀ (u : Nat × Nat × (Nat → Option Nat)), xIns n n y (g_r G 15) u → ∀ G1 : xG, (∀ y c x, c ≠ 200 + 15 → xat G y c x → xat G1 y c x) → g_rs G1 = g_rs G → g_ed G1 = va_up (g_ed G) 15 u.1 → g_cap G1 = va_up (g_cap G) 15 u.2.1 → g_r G1 = va_up (g_r G) 15 u.2.2 → xat G1 u.1 (200 + 15) (xrw dA u) → xext G G1 → xI dA e0 G1 (va_up F 15 (nI (n + 1))) (xrow Rr 150 n [a0, a1, a2, a3]) := by
    intro u hins G1 hxm hrs hed hcap hr hrow hext
    exact xI_grow hxm hrs hed hcap hr hrow hn (by omega) (Nat.le_refl n) hins (fun jj k y hjj hne hh => xel_cg (fun b hb => congrFun (xrow_n (show b < 150 ∨ 154 ≤ b from xband_ne hjj hb (by omega) (by omega) (by omega) (by omega) (by omega))) _) (fun e9 i hi => congrFun (xrow_n (show 100 < 150 ∨ 154 ≤ 100 from by omega)) _) hh) (fun k y hk hh => (by rw [if_pos hk]; exact xel_cg (fun b hb => xrow_i (by omega)) (fun e9 => absurd e9 (by decide)) hh)) ((by unfold xel; simp [xrow]; exact hext.at (by decide) hy)) (xSh_cg hRn) ⟨fun e9 => absurd e9 (by decide), fun e9 => absurd e9 (by decide), fun e9 => absurd e9 (by decide), fun e9 => absurd e9 (by decide), fun e9 => absurd e9 (by decide), fun _ => ⟨nI_pos' (by omega), nI_le (b := 40) (by omega) (by decide)⟩⟩ (by decide) (by decide) M.2.2.2
  rcases hLs.2.1 with ⟨z1, z2⟩ | ⟨o1, o2, o3, o4⟩
  · have hn0 : n = 0 := by rw [← hn3, z1]; rfl
    have hc : xLc G F 15 = (g_ad G 15, .inr (2, [.int (g_mc G 15), .ref e0, .int 0])) := by unfold xLc; rw [z1, z2]
    have hPc : va_P D xCl [(g_ad G 15, .inr (2, [.int (g_mc G 15), .ref e0, .int 0]))] H := by rw [← hc]; exact va_P1 (M.1 14 _ rfl)
    have hDc : va_D A [(g_ad G 15, .inr (2, [.int (g_mc G 15), .ref e0, .int 0]))] := by rw [← hc]; exact M.2.1.sub [14] (by decide) rfl
    have hFc : ∀ q, va_A [(g_ad G 15, .inr (2, [.int (g_mc G 15), .ref e0, .int 0]))] H.size q → A q := by rw [← hc]; exact va_free (wc := [xLc G F 15]) M.2.1 M.2.2.1 X.hA [14] rfl
    skip
    refine va_callFi (va_runF (As := [.ref y]) (rest := rest) (X.K.1 2 _ rfl).2 X.1 (metJ2_addS l D dA (va_A [(g_ad G 15, .inr (2, [.int (g_mc G 15), .ref e0, .int 0]))] H.size) e0 (g_ad G 15) (g_mc G 15) y (g_r G 15)) (va_cwF 1 X.hts (lw_F q815 q741 q743 q60 q745) rfl rfl rfl (X.T.2.1 (RJ2, yL_add, yJ2_add) (List.mem_of_getElem? (i := 2) rfl)) (by decide +kernel) ⟨Nat.le_trans (by decide) hR.1, Nat.le_trans (by decide) hR.2⟩) ⟨gPre_blindE, va_recv (cl := xCl) X.K M.1 (ci := 2) (q0 := 14) rfl rfl, fun U hU hW => ⟨rfl, X.Cn M.2.2.1 hFc hU hW, by rw [hU]; exact hPc, hDc.self, fun y9 e9 => by subst e9; exact ⟨by rw [hU]; exact hya.moved hW.alike, va_A1 (xat_ne M hlp hyat) (lt9 _ hya)⟩⟩⟩ rfl rfl hl rfl (lv_room (m := m) (pc := 0) (ls := ls) (rest := []) hW) hdg ⟨by omega, by omega⟩) M.2.2.1 (fun q _ h => hFc q h) hFc (fun r u t H1 locs1 ht hvm hp hB hz hk hS => ?_)
    obtain ⟨rfl, hp⟩ := hp
    obtain ⟨hP1, hD1⟩ := hB; rw [ht] at hP1
    have hins : xIns n n y (g_r G 15) u := by rw [hn0]; exact hp.ins
    obtain ⟨G1, hx1, M1⟩ := xl_growS (n := n) (mc := g_mc G 15 + 1) (u := u) (kk := 0) (y0 := 0) (Rr' := xrow Rr 150 n [a0, a1, a2, a3]) M hlp (fun L k f => by rw [xW_R hRn]; rfl) (by rw [hc]; exact hk) (by rw [hc]; exact hFc) (by rw [hn0]; exact hP1) (by rw [hn0, hc]; exact hD1) hS (hII u hins)
    exact W.widen (k := cells + 1) (n := slots + 200) (by omega) (by omega) (kx G1 H1 locs1 hx1 M1)
  · obtain ⟨k0, hk0⟩ := xat_ws o1 (xW h dA G F Rr ++ T)
    rw [hn3] at o2
    have hk21 : 14 ≠ k0 := fun e9 => by have e8 : (g_ad G 15, (xLc G F 15).2) = (g_ed G 15, _) := Option.some.inj ((show (xWs h dA G F Rr T)[14]? = some (xLc G F 15) from rfl).symm.trans (by rw [e9]; exact hk0)); exact absurd (congrArg Prod.fst e8).symm (xat_ne M hlp o1)
    have hc : xLc G F 15 = (g_ad G 15, .inr (2, [.int (g_mc G 15), .ref (g_ed G 15), .int (nI n)])) := by unfold xLc; rw [hn]
    have hi0 : (xWs h dA G F Rr T)[14]? = some (g_ad G 15, .inr (2, [.int (g_mc G 15), .ref (g_ed G 15), .int (nI n)])) := by rw [← hc]; rfl
    have hPc : va_P D xCl [(g_ad G 15, .inr (2, [.int (g_mc G 15), .ref (g_ed G 15), .int (nI n)])), (g_ed G 15, .inl (dA 4, g_cap G 15, .inr (.inr (.inr (.inr (g_r G 15))))))] H := va_P2 (M.1 14 _ hi0) (M.1 k0 _ hk0)
    have hDc : va_D A [(g_ad G 15, .inr (2, [.int (g_mc G 15), .ref (g_ed G 15), .int (nI n)])), (g_ed G 15, .inl (dA 4, g_cap G 15, .inr (.inr (.inr (.inr (g_r G 15))))))] := va_D2 M.2.1 hi0 hk0 hk21
    have hFc : ∀ q, va_A [(g_ad G 15, .inr (2, [.int (g_mc G 15), .ref (g_ed G 15), .int (nI n)])), (g_ed G 15, .inl (dA 4, g_cap G 15, .inr (.inr (.inr (.inr (g_r G 15))))))] H.size q → A q := va_free2 M.2.1 M.2.2.1 X.hA hi0 hk0
    refine va_callFi (va_runF (As := [.ref y]) (rest := rest) (X.K.1 2 _ rfl).2 X.1 (metJ2_addO l D dA (va_A [(g_ad G 15, .inr (2, [.int (g_mc G 15), .ref (g_ed G 15), .int (nI n)])), (g_ed G 15, .inl (dA 4, g_cap G 15, .inr (.inr (.inr (.inr (g_r G 15))))))] H.size) e0 (g_ad G 15) (g_mc G 15) (g_ed G 15) (g_cap G 15) (g_r G 15) n o4 o3 (by omega) y o2) (va_cwF 1 X.hts (lw_F q815 q741 q743 q60 q745) rfl rfl rfl (X.T.2.1 (RJ2, yL_add, yJ2_add) (List.mem_of_getElem? (i := 2) rfl)) (by decide +kernel) ⟨Nat.le_trans (by decide) hR.1, Nat.le_trans (by decide) hR.2⟩) ⟨gPre_blindE, va_recv (cl := xCl) X.K M.1 (ci := 2) (q0 := 14) rfl rfl, fun U hU hW => ⟨rfl, X.Cn M.2.2.1 hFc hU hW, by rw [hU]; exact hPc, hDc.self, fun y9 e9 => by
      have q9 : va_Any "java/lang/Object" s H y9 ∧ ∃ c x, c < 100 ∧ xat G y9 c x := by
        rcases e9 with e9 | ⟨i9, h9, e9⟩
        · subst e9; exact ⟨hya, _, _, hcy, hyat⟩
        · obtain ⟨y8, g8, e8⟩ := hLs.2.2 i9 (by rw [hn3]; exact h9)
          have e7 : y8 = y9 := Option.some.inj (g8.symm.trans e9)
          subst e7; exact ⟨any_el X M e8, xel_at e8⟩
      obtain ⟨q8, c9, x9, hc9, ha9⟩ := q9
      exact ⟨by rw [hU]; exact q8.moved hW.alike, va_A2 (xat_ne M hlp ha9) (xat_ne2 ha9 o1 (by omega)) (lt9 _ q8)⟩⟩⟩ rfl rfl hl rfl (lv_room (m := m) (pc := 0) (ls := ls) (rest := []) hW) hdg hf) M.2.2.1 (fun q _ h => hFc q h) hFc (fun r u t H1 locs1 ht hvm hp hB hz hk hS => ?_)
    obtain ⟨rfl, hp⟩ := hp
    obtain ⟨hP1, hD1⟩ := hB; rw [ht] at hP1
    obtain ⟨G1, hx1, M1⟩ := xl_growO (n := n) (mc := g_mc G 15 + 1) (u := u) (kk := 0) (y0 := 0) (N := 0) (Rr' := xrow Rr 150 n [a0, a1, a2, a3]) M hlp o1 (fun L k f => by rw [xW_R hRn]; rfl) (by rw [hc]; exact hk) (by rw [hc]; exact hFc) hP1 (by rw [hc]; exact hD1) hS (hII u hp.ins)
    exact kx G1 H1 locs1 hx1 M1
theorem xl_add_14 (X : xX RX0 p s m args c cc nL D dA A e0) (M : xM D dA A e0 h G T s F Rr H locs) {n y : Nat} {a0 a1 a2 a3 a4 a5 : Int32} {ci : Nat} (hci : ci < 4) (hy : xat G y (8 + ci) (.inr (8 + ci, [.int a0, .int a1, .int a2, .int a3, .int a4, .int a5]))) (hn : F 14 = nI n) (hlt : n < 16) (hl : ls.size = nL) (hR : 6 + 1 ≤ R.frames ∧ 8 + (2 + 11) + 170 ≤ R.locals) (hf : cells + 1 ≤ R.cells ∧ slots + 200 ≤ R.slots) (hW : (rest.map fun v => v.category).sum ≤ 8) (hdg : decode cc pc = .ok (.invokeinterface 201 2, 5)) (kx : ∀ (G1 : xG) (H1 : Heap) (locs1 : List Loc), xext G G1 → xM D dA A e0 h G1 T s (va_up F 14 (nI (n + 1))) (xrow Rr 140 n [a0, a1, a2, a3, a4, a5, nI ci]) H1 locs1 → W p l e R s m args below meth c H1 locs1 (cells + 1) (slots + 200) Q (F0 m (pc + 5) ls (.int 1 :: rest))) : W p l e R s m args below meth c H locs cells slots Q (F0 m pc ls (.ref y :: .ref (g_ad G 14) :: rest)) := by
  have hLs := M.2.2.2.2.2.2.2.1
  have hn3 : (F 14).toNatClampNeg = n := by rw [hn]; exact nI_clamp (by omega)
  have hRn : ∀ b, b < 40 → (xrow Rr 140 n [a0, a1, a2, a3, a4, a5, nI ci]) b = Rr b := fun b hb => xrow_n (by first | exact Or.inl (by omega) | (right; show 147 ≤ b; omega))
  have hlp : (xW h dA G F Rr)[13]? = some (xLc G F 14) := rfl
  have hya : va_Any "java/lang/Object" s H y := any_pass X M hci hy
  obtain ⟨cy, xy, hcy, hyat⟩ : ∃ c x, c < 100 ∧ xat G y c x := ⟨_, _, by first | decide | omega, hy⟩
  have lt9 : ∀ z, va_Any "java/lang/Object" s H z → z < H.size := fun z ⟨c9, h9, _⟩ => (Array.getElem?_eq_some_iff.mp h9).1
  have hII : ∀ (u : Nat × Nat × (Nat → Option Nat)), xIns n n y (g_r G 14) u → ∀ G1 : xG, (∀ y c x, c ≠ 200 + 14 → xat G y c x → xat G1 y c x) → g_rs G1 = g_rs G → g_ed G1 = va_up (g_ed G) 14 u.1 → g_cap G1 = va_up (g_cap G) 14 u.2.1 → g_r G1 = va_up (g_r G) 14 u.2.2 → xat G1 u.1 (200 + 14) (xrw dA u) → xext G G1 → xI dA e0 G1 (va_up F 14 (nI (n + 1))) (xrow Rr 140 n [a0, a1, a2, a3, a4, a5, nI ci]) := by
    intro u hins G1 hxm hrs hed hcap hr hrow hext
    exact xI_grow hxm hrs hed hcap hr hrow hn (by omega) (Nat.le_refl n) hins (fun jj k y hjj hne hh => xel_cg (fun b hb => congrFun (xrow_n (show b < 140 ∨ 147 ≤ b from xband_ne hjj hb (by omega) (by omega) (by omega) (by omega) (by omega))) _) (fun e9 i hi => congrFun (xrow_n (show 100 < 140 ∨ 147 ≤ 100 from by omega)) _) hh) (fun k y hk hh => (by rw [if_pos hk]; exact xel_cg (fun b hb => xrow_i (by omega)) (fun e9 => absurd e9 (by decide)) hh)) ((by unfold xel; simp [xrow]; exact ⟨ci, hci, rfl, hext.at (by omega) hy⟩)) (xSh_cg hRn) ⟨fun e9 => absurd e9 (by decide), fun e9 => absurd e9 (by decide), fun e9 => absurd e9 (by decide), fun e9 => absurd e9 (by decide), fun _ => ⟨nI_pos' (by omega), nI_le (b := 16) (by omega) (by decide)⟩, fun e9 => absurd e9 (by decide)⟩ (by decide) (by decide) M.2.2.2
  rcases hLs.2.1 with ⟨z1, z2⟩ | ⟨o1, o2, o3, o4⟩
  · have hn0 : n = 0 := by rw [← hn3, z1]; rfl
    have hc : xLc G F 14 = (g_ad G 14, .inr (2, [.int (g_mc G 14), .ref e0, .int 0])) := by unfold xLc; rw [z1, z2]
    have hPc : va_P D xCl [(g_ad G 14, .inr (2, [.int (g_mc G 14), .ref e0, .int 0]))] H := by rw [← hc]; exact va_P1 (M.1 13 _ rfl)
    have hDc : va_D A [(g_ad G 14, .inr (2, [.int (g_mc G 14), .ref e0, .int 0]))] := by rw [← hc]; exact M.2.1.sub [13] (by decide) rfl
    have hFc : ∀ q, va_A [(g_ad G 14, .inr (2, [.int (g_mc G 14), .ref e0, .int 0]))] H.size q → A q := by rw [← hc]; exact va_free (wc := [xLc G F 14]) M.2.1 M.2.2.1 X.hA [13] rfl
    skip
    refine va_callFi (va_runF (As := [.ref y]) (rest := rest) (X.K.1 2 _ rfl).2 X.1 (metJ2_addS l D dA (va_A [(g_ad G 14, .inr (2, [.int (g_mc G 14), .ref e0, .int 0]))] H.size) e0 (g_ad G 14) (g_mc G 14) y (g_r G 14)) (va_cwF 1 X.hts (lw_F q815 q741 q743 q60 q745) rfl rfl rfl (X.T.2.1 (RJ2, yL_add, yJ2_add) (List.mem_of_getElem? (i := 2) rfl)) (by decide +kernel) ⟨Nat.le_trans (by decide) hR.1, Nat.le_trans (by decide) hR.2⟩) ⟨gPre_blindE, va_recv (cl := xCl) X.K M.1 (ci := 2) (q0 := 13) rfl rfl, fun U hU hW => ⟨rfl, X.Cn M.2.2.1 hFc hU hW, by rw [hU]; exact hPc, hDc.self, fun y9 e9 => by subst e9; exact ⟨by rw [hU]; exact hya.moved hW.alike, va_A1 (xat_ne M hlp hyat) (lt9 _ hya)⟩⟩⟩ rfl rfl hl rfl (lv_room (m := m) (pc := 0) (ls := ls) (rest := []) hW) hdg ⟨by omega, by omega⟩) M.2.2.1 (fun q _ h => hFc q h) hFc (fun r u t H1 locs1 ht hvm hp hB hz hk hS => ?_)
    obtain ⟨rfl, hp⟩ := hp
    obtain ⟨hP1, hD1⟩ := hB; rw [ht] at hP1
    have hins : xIns n n y (g_r G 14) u := by rw [hn0]; exact hp.ins
    obtain ⟨G1, hx1, M1⟩ := xl_growS (n := n) (mc := g_mc G 14 + 1) (u := u) (kk := 0) (y0 := 0) (Rr' := xrow Rr 140 n [a0, a1, a2, a3, a4, a5, nI ci]) M hlp (fun L k f => by rw [xW_R hRn]; rfl) (by rw [hc]; exact hk) (by rw [hc]; exact hFc) (by rw [hn0]; exact hP1) (by rw [hn0, hc]; exact hD1) hS (hII u hins)
    exact W.widen (k := cells + 1) (n := slots + 200) (by omega) (by omega) (kx G1 H1 locs1 hx1 M1)
  · obtain ⟨k0, hk0⟩ := xat_ws o1 (xW h dA G F Rr ++ T)
    rw [hn3] at o2
    have hk21 : 13 ≠ k0 := fun e9 => by have e8 : (g_ad G 14, (xLc G F 14).2) = (g_ed G 14, _) := Option.some.inj ((show (xWs h dA G F Rr T)[13]? = some (xLc G F 14) from rfl).symm.trans (by rw [e9]; exact hk0)); exact absurd (congrArg Prod.fst e8).symm (xat_ne M hlp o1)
    have hc : xLc G F 14 = (g_ad G 14, .inr (2, [.int (g_mc G 14), .ref (g_ed G 14), .int (nI n)])) := by unfold xLc; rw [hn]
    have hi0 : (xWs h dA G F Rr T)[13]? = some (g_ad G 14, .inr (2, [.int (g_mc G 14), .ref (g_ed G 14), .int (nI n)])) := by rw [← hc]; rfl
    have hPc : va_P D xCl [(g_ad G 14, .inr (2, [.int (g_mc G 14), .ref (g_ed G 14), .int (nI n)])), (g_ed G 14, .inl (dA 4, g_cap G 14, .inr (.inr (.inr (.inr (g_r G 14))))))] H := va_P2 (M.1 13 _ hi0) (M.1 k0 _ hk0)
    have hDc : va_D A [(g_ad G 14, .inr (2, [.int (g_mc G 14), .ref (g_ed G 14), .int (nI n)])), (g_ed G 14, .inl (dA 4, g_cap G 14, .inr (.inr (.inr (.inr (g_r G 14))))))] := va_D2 M.2.1 hi0 hk0 hk21
    have hFc : ∀ q, va_A [(g_ad G 14, .inr (2, [.int (g_mc G 14), .ref (g_ed G 14), .int (nI n)])), (g_ed G 14, .inl (dA 4, g_cap G 14, .inr (.inr (.inr (.inr (g_r G 14))))))] H.size q → A q := va_free2 M.2.1 M.2.2.1 X.hA hi0 hk0
    refine va_callFi (va_runF (As := [.ref y]) (rest := rest) (X.K.1 2 _ rfl).2 X.1 (metJ2_addO l D dA (va_A [(g_ad G 14, .inr (2, [.int (g_mc G 14), .ref (g_ed G 14), .int (nI n)])), (g_ed G 14, .inl (dA 4, g_cap G 14, .inr (.inr (.inr (.inr (g_r G 14))))))] H.size) e0 (g_ad G 14) (g_mc G 14) (g_ed G 14) (g_cap G 14) (g_r G 14) n o4 o3 (by omega) y o2) (va_cwF 1 X.hts (lw_F q815 q741 q743 q60 q745) rfl rfl rfl (X.T.2.1 (RJ2, yL_add, yJ2_add) (List.mem_of_getElem? (i := 2) rfl)) (by decide +kernel) ⟨Nat.le_trans (by decide) hR.1, Nat.le_trans (by decide) hR.2⟩) ⟨gPre_blindE, va_recv (cl := xCl) X.K M.1 (ci := 2) (q0 := 13) rfl rfl, fun U hU hW => ⟨rfl, X.Cn M.2.2.1 hFc hU hW, by rw [hU]; exact hPc, hDc.self, fun y9 e9 => by
      have q9 : va_Any "java/lang/Object" s H y9 ∧ ∃ c x, c < 100 ∧ xat G y9 c x := by
        rcases e9 with e9 | ⟨i9, h9, e9⟩
        · subst e9; exact ⟨hya, _, _, hcy, hyat⟩
        · obtain ⟨y8, g8, e8⟩ := hLs.2.2 i9 (by rw [hn3]; exact h9)
          have e7 : y8 = y9 := Option.some.inj (g8.symm.trans e9)
          subst e7; exact ⟨any_el X M e8, xel_at e8⟩
      obtain ⟨q8, c9, x9, hc9, ha9⟩ := q9
      exact ⟨by rw [hU]; exact q8.moved hW.alike, va_A2 (xat_ne M hlp ha9) (xat_ne2 ha9 o1 (by omega)) (lt9 _ q8)⟩⟩⟩ rfl rfl hl rfl (lv_room (m := m) (pc := 0) (ls := ls) (rest := []) hW) hdg hf) M.2.2.1 (fun q _ h => hFc q h) hFc (fun r u t H1 locs1 ht hvm hp hB hz hk hS => ?_)
    obtain ⟨rfl, hp⟩ := hp
    obtain ⟨hP1, hD1⟩ := hB; rw [ht] at hP1
    obtain ⟨G1, hx1, M1⟩ := xl_growO (n := n) (mc := g_mc G 14 + 1) (u := u) (kk := 0) (y0 := 0) (N := 0) (Rr' := xrow Rr 140 n [a0, a1, a2, a3, a4, a5, nI ci]) M hlp o1 (fun L k f => by rw [xW_R hRn]; rfl) (by rw [hc]; exact hk) (by rw [hc]; exact hFc) hP1 (by rw [hc]; exact hD1) hS (hII u hp.ins)
    exact kx G1 H1 locs1 hx1 M1
theorem xl_add_10 (X : xX RX0 p s m args c cc nL D dA A e0) (M : xM D dA A e0 h G T s F Rr H locs) {n y : Nat} {g : Nat → Int32} (hy : xat G y 50 (.inl (dA 0, 9, .inl g))) (hn : F 10 = nI n) (hlt : n < 16) (hl : ls.size = nL) (hR : 6 + 1 ≤ R.frames ∧ 8 + (2 + 11) + 170 ≤ R.locals) (hf : cells + 1 ≤ R.cells ∧ slots + 200 ≤ R.slots) (hW : (rest.map fun v => v.category).sum ≤ 8) (hdg : decode cc pc = .ok (.invokeinterface 201 2, 5)) (kx : ∀ (G1 : xG) (H1 : Heap) (locs1 : List Loc), xext G G1 → xM D dA A e0 h G1 T s (va_up F 10 (nI (n + 1))) (xcart Rr n g) H1 locs1 → W p l e R s m args below meth c H1 locs1 (cells + 1) (slots + 200) Q (F0 m (pc + 5) ls (.int 1 :: rest))) : W p l e R s m args below meth c H locs cells slots Q (F0 m pc ls (.ref y :: .ref (g_ad G 10) :: rest)) := by
  have hLs := M.2.2.2.2.1
  have hn3 : (F 10).toNatClampNeg = n := by rw [hn]; exact nI_clamp (by omega)
  have hRn : ∀ b, b < 40 → (xcart Rr n g) b = Rr b := fun b hb => xcart_n (by omega)
  have hlp : (xW h dA G F Rr)[9]? = some (xLc G F 10) := rfl
  have hya : va_Any "java/lang/Object" s H y := any_ints X M hy
  obtain ⟨cy, xy, hcy, hyat⟩ : ∃ c x, c < 100 ∧ xat G y c x := ⟨_, _, by first | decide | omega, hy⟩
  have lt9 : ∀ z, va_Any "java/lang/Object" s H z → z < H.size := fun z ⟨c9, h9, _⟩ => (Array.getElem?_eq_some_iff.mp h9).1
  have hII : ∀ (u : Nat × Nat × (Nat → Option Nat)), xIns n n y (g_r G 10) u → ∀ G1 : xG, (∀ y c x, c ≠ 200 + 10 → xat G y c x → xat G1 y c x) → g_rs G1 = g_rs G → g_ed G1 = va_up (g_ed G) 10 u.1 → g_cap G1 = va_up (g_cap G) 10 u.2.1 → g_r G1 = va_up (g_r G) 10 u.2.2 → xat G1 u.1 (200 + 10) (xrw dA u) → xext G G1 → xI dA e0 G1 (va_up F 10 (nI (n + 1))) (xcart Rr n g) := by
    intro u hins G1 hxm hrs hed hcap hr hrow hext
    exact xI_grow hxm hrs hed hcap hr hrow hn (by omega) (Nat.le_refl n) hins (fun jj k y hjj hne hh => xel_cg (fun b hb => congrFun (xcart_n (fun e8 => by subst e8; have := xband_ne (lo := 100) (hi := 101) hjj hb (by omega) (by omega) (by omega) (by omega) (by omega); omega)) _) (fun e9 i hi => absurd e9 hne) hh) (fun k y hk hh => (by rw [if_pos hk]; exact xel_cg (fun b hb => absurd hb (by unfold xband; simp)) (fun _ i hi => by unfold xcart; rw [if_neg (by omega)]) hh)) ((by unfold xel; rw [if_neg (by decide), if_pos rfl]; exact ⟨g, hext.at (by decide) hy, fun i hi => by unfold xcart; rw [if_pos (by omega), Nat.add_sub_cancel_left]⟩)) (xSh_cg hRn) ⟨fun e9 => absurd e9 (by decide), fun _ => ⟨nI_pos' (by omega), nI_le (b := 16) (by omega) (by decide)⟩, fun e9 => absurd e9 (by decide), fun e9 => absurd e9 (by decide), fun e9 => absurd e9 (by decide), fun e9 => absurd e9 (by decide)⟩ (by decide) (by decide) M.2.2.2
  rcases hLs.2.1 with ⟨z1, z2⟩ | ⟨o1, o2, o3, o4⟩
  · have hn0 : n = 0 := by rw [← hn3, z1]; rfl
    have hc : xLc G F 10 = (g_ad G 10, .inr (2, [.int (g_mc G 10), .ref e0, .int 0])) := by unfold xLc; rw [z1, z2]
    have hPc : va_P D xCl [(g_ad G 10, .inr (2, [.int (g_mc G 10), .ref e0, .int 0]))] H := by rw [← hc]; exact va_P1 (M.1 9 _ rfl)
    have hDc : va_D A [(g_ad G 10, .inr (2, [.int (g_mc G 10), .ref e0, .int 0]))] := by rw [← hc]; exact M.2.1.sub [9] (by decide) rfl
    have hFc : ∀ q, va_A [(g_ad G 10, .inr (2, [.int (g_mc G 10), .ref e0, .int 0]))] H.size q → A q := by rw [← hc]; exact va_free (wc := [xLc G F 10]) M.2.1 M.2.2.1 X.hA [9] rfl
    skip
    refine va_callFi (va_runF (As := [.ref y]) (rest := rest) (X.K.1 2 _ rfl).2 X.1 (metJ2_addS l D dA (va_A [(g_ad G 10, .inr (2, [.int (g_mc G 10), .ref e0, .int 0]))] H.size) e0 (g_ad G 10) (g_mc G 10) y (g_r G 10)) (va_cwF 1 X.hts (lw_F q815 q741 q743 q60 q745) rfl rfl rfl (X.T.2.1 (RJ2, yL_add, yJ2_add) (List.mem_of_getElem? (i := 2) rfl)) (by decide +kernel) ⟨Nat.le_trans (by decide) hR.1, Nat.le_trans (by decide) hR.2⟩) ⟨gPre_blindE, va_recv (cl := xCl) X.K M.1 (ci := 2) (q0 := 9) rfl rfl, fun U hU hW => ⟨rfl, X.Cn M.2.2.1 hFc hU hW, by rw [hU]; exact hPc, hDc.self, fun y9 e9 => by subst e9; exact ⟨by rw [hU]; exact hya.moved hW.alike, va_A1 (xat_ne M hlp hyat) (lt9 _ hya)⟩⟩⟩ rfl rfl hl rfl (lv_room (m := m) (pc := 0) (ls := ls) (rest := []) hW) hdg ⟨by omega, by omega⟩) M.2.2.1 (fun q _ h => hFc q h) hFc (fun r u t H1 locs1 ht hvm hp hB hz hk hS => ?_)
    obtain ⟨rfl, hp⟩ := hp
    obtain ⟨hP1, hD1⟩ := hB; rw [ht] at hP1
    have hins : xIns n n y (g_r G 10) u := by rw [hn0]; exact hp.ins
    obtain ⟨G1, hx1, M1⟩ := xl_growS (n := n) (mc := g_mc G 10 + 1) (u := u) (kk := 0) (y0 := 0) (Rr' := xcart Rr n g) M hlp (fun L k f => by rw [xW_R hRn]; rfl) (by rw [hc]; exact hk) (by rw [hc]; exact hFc) (by rw [hn0]; exact hP1) (by rw [hn0, hc]; exact hD1) hS (hII u hins)
    exact W.widen (k := cells + 1) (n := slots + 200) (by omega) (by omega) (kx G1 H1 locs1 hx1 M1)
  · obtain ⟨k0, hk0⟩ := xat_ws o1 (xW h dA G F Rr ++ T)
    rw [hn3] at o2
    have hk21 : 9 ≠ k0 := fun e9 => by have e8 : (g_ad G 10, (xLc G F 10).2) = (g_ed G 10, _) := Option.some.inj ((show (xWs h dA G F Rr T)[9]? = some (xLc G F 10) from rfl).symm.trans (by rw [e9]; exact hk0)); exact absurd (congrArg Prod.fst e8).symm (xat_ne M hlp o1)
    have hc : xLc G F 10 = (g_ad G 10, .inr (2, [.int (g_mc G 10), .ref (g_ed G 10), .int (nI n)])) := by unfold xLc; rw [hn]
    have hi0 : (xWs h dA G F Rr T)[9]? = some (g_ad G 10, .inr (2, [.int (g_mc G 10), .ref (g_ed G 10), .int (nI n)])) := by rw [← hc]; rfl
    have hPc : va_P D xCl [(g_ad G 10, .inr (2, [.int (g_mc G 10), .ref (g_ed G 10), .int (nI n)])), (g_ed G 10, .inl (dA 4, g_cap G 10, .inr (.inr (.inr (.inr (g_r G 10))))))] H := va_P2 (M.1 9 _ hi0) (M.1 k0 _ hk0)
    have hDc : va_D A [(g_ad G 10, .inr (2, [.int (g_mc G 10), .ref (g_ed G 10), .int (nI n)])), (g_ed G 10, .inl (dA 4, g_cap G 10, .inr (.inr (.inr (.inr (g_r G 10))))))] := va_D2 M.2.1 hi0 hk0 hk21
    have hFc : ∀ q, va_A [(g_ad G 10, .inr (2, [.int (g_mc G 10), .ref (g_ed G 10), .int (nI n)])), (g_ed G 10, .inl (dA 4, g_cap G 10, .inr (.inr (.inr (.inr (g_r G 10))))))] H.size q → A q := va_free2 M.2.1 M.2.2.1 X.hA hi0 hk0
    refine va_callFi (va_runF (As := [.ref y]) (rest := rest) (X.K.1 2 _ rfl).2 X.1 (metJ2_addO l D dA (va_A [(g_ad G 10, .inr (2, [.int (g_mc G 10), .ref (g_ed G 10), .int (nI n)])), (g_ed G 10, .inl (dA 4, g_cap G 10, .inr (.inr (.inr (.inr (g_r G 10))))))] H.size) e0 (g_ad G 10) (g_mc G 10) (g_ed G 10) (g_cap G 10) (g_r G 10) n o4 o3 (by omega) y o2) (va_cwF 1 X.hts (lw_F q815 q741 q743 q60 q745) rfl rfl rfl (X.T.2.1 (RJ2, yL_add, yJ2_add) (List.mem_of_getElem? (i := 2) rfl)) (by decide +kernel) ⟨Nat.le_trans (by decide) hR.1, Nat.le_trans (by decide) hR.2⟩) ⟨gPre_blindE, va_recv (cl := xCl) X.K M.1 (ci := 2) (q0 := 9) rfl rfl, fun U hU hW => ⟨rfl, X.Cn M.2.2.1 hFc hU hW, by rw [hU]; exact hPc, hDc.self, fun y9 e9 => by
      have q9 : va_Any "java/lang/Object" s H y9 ∧ ∃ c x, c < 100 ∧ xat G y9 c x := by
        rcases e9 with e9 | ⟨i9, h9, e9⟩
        · subst e9; exact ⟨hya, _, _, hcy, hyat⟩
        · obtain ⟨y8, g8, e8⟩ := hLs.2.2 i9 (by rw [hn3]; exact h9)
          have e7 : y8 = y9 := Option.some.inj (g8.symm.trans e9)
          subst e7; exact ⟨any_el X M e8, xel_at e8⟩
      obtain ⟨q8, c9, x9, hc9, ha9⟩ := q9
      exact ⟨by rw [hU]; exact q8.moved hW.alike, va_A2 (xat_ne M hlp ha9) (xat_ne2 ha9 o1 (by omega)) (lt9 _ q8)⟩⟩⟩ rfl rfl hl rfl (lv_room (m := m) (pc := 0) (ls := ls) (rest := []) hW) hdg hf) M.2.2.1 (fun q _ h => hFc q h) hFc (fun r u t H1 locs1 ht hvm hp hB hz hk hS => ?_)
    obtain ⟨rfl, hp⟩ := hp
    obtain ⟨hP1, hD1⟩ := hB; rw [ht] at hP1
    obtain ⟨G1, hx1, M1⟩ := xl_growO (n := n) (mc := g_mc G 10 + 1) (u := u) (kk := 0) (y0 := 0) (N := 0) (Rr' := xcart Rr n g) M hlp o1 (fun L k f => by rw [xW_R hRn]; rfl) (by rw [hc]; exact hk) (by rw [hc]; exact hFc) hP1 (by rw [hc]; exact hD1) hS (hII u hp.ins)
    exact kx G1 H1 locs1 hx1 M1
theorem xl_ins_11 (X : xX RX0 p s m args c cc nL D dA A e0) (M : xM D dA A e0 h G T s F Rr H locs) {n y kk : Nat} {a0 a1 a2 a3 a4 a5 : Int32} (hy : xat G y 6 (.inr (6, [.int a0, .int a1, .int a2, .int a3, .int a4, .int a5]))) (hn : F 11 = nI n) (hlt : n < 60) (hkk : kk ≤ n) (hl : ls.size = nL) (hR : 5 + 1 ≤ R.frames ∧ 8 + (5 + 11) + 147 ≤ R.locals) (hf : cells + 1 ≤ R.cells ∧ slots + 200 ≤ R.slots) (hW : (rest.map fun v => v.category).sum ≤ 8) (hdg : decode cc pc = .ok (.invokeinterface 265 3, 5)) (kx : ∀ (G1 : xG) (H1 : Heap) (locs1 : List Loc), xext G G1 → xM D dA A e0 h G1 T s (va_up F 11 (nI (n + 1))) (xinsr Rr 110 kk [a0, a1, a2, a3, a4, a5]) H1 locs1 → W p l e R s m args below meth c H1 locs1 (cells + 1) (slots + 200) Q (F0 m (pc + 5) ls (rest))) : W p l e R s m args below meth c H locs cells slots Q (F0 m pc ls (.ref y :: .int (nI kk) :: .ref (g_ad G 11) :: rest)) := by
  have hLs := M.2.2.2.2.2.1
  have hn3 : (F 11).toNatClampNeg = n := by rw [hn]; exact nI_clamp (by omega)
  have hRn : ∀ b, b < 40 → (xinsr Rr 110 kk [a0, a1, a2, a3, a4, a5]) b = Rr b := fun b hb => xinsr_n (by first | exact Or.inl (by omega) | (right; show 116 ≤ b; omega))
  have hlp : (xW h dA G F Rr)[10]? = some (xLc G F 11) := rfl
  have hya : va_Any "java/lang/Object" s H y := any_at X M (X.T.1 _ q1991 rfl) (ci := 6) rfl hy
  obtain ⟨cy, xy, hcy, hyat⟩ : ∃ c x, c < 100 ∧ xat G y c x := ⟨_, _, by first | decide | omega, hy⟩
  have lt9 : ∀ z, va_Any "java/lang/Object" s H z → z < H.size := fun z ⟨c9, h9, _⟩ => (Array.getElem?_eq_some_iff.mp h9).1
  have hII : ∀ (u : Nat × Nat × (Nat → Option Nat)), xIns n kk y (g_r G 11) u → ∀ G1 : xG, (∀ y c x, c ≠ 200 + 11 → xat G y c x → xat G1 y c x) → g_rs G1 = g_rs G → g_ed G1 = va_up (g_ed G) 11 u.1 → g_cap G1 = va_up (g_cap G) 11 u.2.1 → g_r G1 = va_up (g_r G) 11 u.2.2 → xat G1 u.1 (200 + 11) (xrw dA u) → xext G G1 → xI dA e0 G1 (va_up F 11 (nI (n + 1))) (xinsr Rr 110 kk [a0, a1, a2, a3, a4, a5]) := by
    intro u hins G1 hxm hrs hed hcap hr hrow hext
    exact xI_grow hxm hrs hed hcap hr hrow hn (by omega) (hkk) hins (fun jj k y hjj hne hh => xel_cg (fun b hb => congrFun (xinsr_n (show b < 110 ∨ 116 ≤ b from xband_ne hjj hb (by omega) (by omega) (by omega) (by omega) (by omega))) _) (fun e9 i hi => congrFun (xinsr_n (show 100 < 110 ∨ 116 ≤ 100 from by omega)) _) hh) (fun k y hk hh => (by refine xel_cg (fun b hb => ?_) (fun e9 => absurd e9 (by decide)) hh; unfold xband at hb; simp at hb; unfold xinsr; rw [if_pos ⟨hb.1, hb.2⟩]; by_cases q : k < kk; (rw [if_pos q, if_pos q]); (rw [if_neg q, if_neg (by omega), if_neg (by omega), Nat.add_sub_cancel]))) ((by unfold xel; simp [xinsr]; exact hext.at (by decide) hy)) (xSh_cg hRn) ⟨fun e9 => absurd e9 (by decide), fun e9 => absurd e9 (by decide), fun _ => ⟨nI_pos' (by omega), nI_le (b := 60) (by omega) (by decide)⟩, fun e9 => absurd e9 (by decide), fun e9 => absurd e9 (by decide), fun e9 => absurd e9 (by decide)⟩ (by decide) (by decide) M.2.2.2
  rcases hLs.2.1 with ⟨z1, z2⟩ | ⟨o1, o2, o3, o4⟩
  · have hn0 : n = 0 := by rw [← hn3, z1]; rfl
    have hk0 : kk = 0 := by omega
    have hc : xLc G F 11 = (g_ad G 11, .inr (2, [.int (g_mc G 11), .ref e0, .int 0])) := by unfold xLc; rw [z1, z2]
    have hPc : va_P D xCl [(g_ad G 11, .inr (2, [.int (g_mc G 11), .ref e0, .int 0]))] H := by rw [← hc]; exact va_P1 (M.1 10 _ rfl)
    have hDc : va_D A [(g_ad G 11, .inr (2, [.int (g_mc G 11), .ref e0, .int 0]))] := by rw [← hc]; exact M.2.1.sub [10] (by decide) rfl
    have hFc : ∀ q, va_A [(g_ad G 11, .inr (2, [.int (g_mc G 11), .ref e0, .int 0]))] H.size q → A q := by rw [← hc]; exact va_free (wc := [xLc G F 11]) M.2.1 M.2.2.1 X.hA [10] rfl
    skip
    subst hk0
    refine va_callFv (va_runF (As := [.int 0, .ref y]) (rest := rest) (X.K.1 2 _ rfl).2 X.1 (metJ2_add_3S l D dA (va_A [(g_ad G 11, .inr (2, [.int (g_mc G 11), .ref e0, .int 0]))] H.size) e0 (g_ad G 11) (g_mc G 11) y (g_r G 11)) (va_cwF 2 X.hts (lw_F q909 q912 q914 q60 q916) rfl rfl rfl (X.T.2.1 (RJ2, yL_add_3, yJ2_add_3) (List.mem_of_getElem? (i := 3) rfl)) (by decide +kernel) ⟨Nat.le_trans (by decide) hR.1, Nat.le_trans (by decide) hR.2⟩) ⟨gPre_blindE, va_recv (cl := xCl) X.K M.1 (ci := 2) (q0 := 10) rfl rfl, fun U hU hW => ⟨rfl, X.Cn M.2.2.1 hFc hU hW, by rw [hU]; exact hPc, hDc.self, fun y9 e9 => by subst e9; exact ⟨by rw [hU]; exact hya.moved hW.alike, va_A1 (xat_ne M hlp hyat) (lt9 _ hya)⟩⟩⟩ rfl rfl hl rfl (lv_room (m := m) (pc := 0) (ls := ls) (rest := []) hW) hdg ⟨by omega, by omega⟩) M.2.2.1 (fun q _ h => hFc q h) hFc (fun u t H1 locs1 ht hvm hp hB hz hk hS => ?_)
    obtain ⟨hP1, hD1⟩ := hB; rw [ht] at hP1
    have hins : xIns n 0 y (g_r G 11) u := by rw [hn0]; exact hp
    obtain ⟨G1, hx1, M1⟩ := xl_growS (n := n) (mc := g_mc G 11 + 1) (u := u) (kk := 0) (y0 := 0) (Rr' := xinsr Rr 110 0 [a0, a1, a2, a3, a4, a5]) M hlp (fun L k f => by rw [xW_R hRn]; rfl) (by rw [hc]; exact hk) (by rw [hc]; exact hFc) (by rw [hn0]; exact hP1) (by rw [hn0, hc]; exact hD1) hS (hII u hins)
    exact W.widen (k := cells + 1) (n := slots + 200) (by omega) (by omega) (kx G1 H1 locs1 hx1 M1)
  · obtain ⟨k0, hk0⟩ := xat_ws o1 (xW h dA G F Rr ++ T)
    rw [hn3] at o2
    have hk21 : 10 ≠ k0 := fun e9 => by have e8 : (g_ad G 11, (xLc G F 11).2) = (g_ed G 11, _) := Option.some.inj ((show (xWs h dA G F Rr T)[10]? = some (xLc G F 11) from rfl).symm.trans (by rw [e9]; exact hk0)); exact absurd (congrArg Prod.fst e8).symm (xat_ne M hlp o1)
    have hc : xLc G F 11 = (g_ad G 11, .inr (2, [.int (g_mc G 11), .ref (g_ed G 11), .int (nI n)])) := by unfold xLc; rw [hn]
    have hi0 : (xWs h dA G F Rr T)[10]? = some (g_ad G 11, .inr (2, [.int (g_mc G 11), .ref (g_ed G 11), .int (nI n)])) := by rw [← hc]; rfl
    have hPc : va_P D xCl [(g_ad G 11, .inr (2, [.int (g_mc G 11), .ref (g_ed G 11), .int (nI n)])), (g_ed G 11, .inl (dA 4, g_cap G 11, .inr (.inr (.inr (.inr (g_r G 11))))))] H := va_P2 (M.1 10 _ hi0) (M.1 k0 _ hk0)
    have hDc : va_D A [(g_ad G 11, .inr (2, [.int (g_mc G 11), .ref (g_ed G 11), .int (nI n)])), (g_ed G 11, .inl (dA 4, g_cap G 11, .inr (.inr (.inr (.inr (g_r G 11))))))] := va_D2 M.2.1 hi0 hk0 hk21
    have hFc : ∀ q, va_A [(g_ad G 11, .inr (2, [.int (g_mc G 11), .ref (g_ed G 11), .int (nI n)])), (g_ed G 11, .inl (dA 4, g_cap G 11, .inr (.inr (.inr (.inr (g_r G 11))))))] H.size q → A q := va_free2 M.2.1 M.2.2.1 X.hA hi0 hk0
    refine va_callFv (va_runF (As := [.int (nI kk), .ref y]) (rest := rest) (X.K.1 2 _ rfl).2 X.1 (metJ2_add_3O l D dA (va_A [(g_ad G 11, .inr (2, [.int (g_mc G 11), .ref (g_ed G 11), .int (nI n)])), (g_ed G 11, .inl (dA 4, g_cap G 11, .inr (.inr (.inr (.inr (g_r G 11))))))] H.size) e0 (g_ad G 11) (g_mc G 11) (g_ed G 11) (g_cap G 11) (g_r G 11) n o4 o3 (by omega) kk hkk y o2) (va_cwF 2 X.hts (lw_F q909 q912 q914 q60 q916) rfl rfl rfl (X.T.2.1 (RJ2, yL_add_3, yJ2_add_3) (List.mem_of_getElem? (i := 3) rfl)) (by decide +kernel) ⟨Nat.le_trans (by decide) hR.1, Nat.le_trans (by decide) hR.2⟩) ⟨gPre_blindE, va_recv (cl := xCl) X.K M.1 (ci := 2) (q0 := 10) rfl rfl, fun U hU hW => ⟨rfl, X.Cn M.2.2.1 hFc hU hW, by rw [hU]; exact hPc, hDc.self, fun y9 e9 => by
      have q9 : va_Any "java/lang/Object" s H y9 ∧ ∃ c x, c < 100 ∧ xat G y9 c x := by
        rcases e9 with e9 | ⟨i9, h9, e9⟩
        · subst e9; exact ⟨hya, _, _, hcy, hyat⟩
        · obtain ⟨y8, g8, e8⟩ := hLs.2.2 i9 (by rw [hn3]; exact h9)
          have e7 : y8 = y9 := Option.some.inj (g8.symm.trans e9)
          subst e7; exact ⟨any_el X M e8, xel_at e8⟩
      obtain ⟨q8, c9, x9, hc9, ha9⟩ := q9
      exact ⟨by rw [hU]; exact q8.moved hW.alike, va_A2 (xat_ne M hlp ha9) (xat_ne2 ha9 o1 (by omega)) (lt9 _ q8)⟩⟩⟩ rfl rfl hl rfl (lv_room (m := m) (pc := 0) (ls := ls) (rest := []) hW) hdg hf) M.2.2.1 (fun q _ h => hFc q h) hFc (fun u t H1 locs1 ht hvm hp hB hz hk hS => ?_)
    obtain ⟨hP1, hD1⟩ := hB; rw [ht] at hP1
    obtain ⟨G1, hx1, M1⟩ := xl_growO (n := n) (mc := g_mc G 11 + 1) (u := u) (kk := 0) (y0 := 0) (N := 0) (Rr' := xinsr Rr 110 kk [a0, a1, a2, a3, a4, a5]) M hlp o1 (fun L k f => by rw [xW_R hRn]; rfl) (by rw [hc]; exact hk) (by rw [hc]; exact hFc) hP1 (by rw [hc]; exact hD1) hS (hII u hp)
    exact kx G1 H1 locs1 hx1 M1
end XADDROWS
