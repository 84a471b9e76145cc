/-! THE REFERENCE, 13: how long all wait -/
theorem ibit {w : Int32} {k : Nat} (hk : k < 32) : ((w >>> (nI k &&& 31)) &&& 1) = 0 ↔ bt w k = false := by
  have e0 : bt (w >>> (nI k &&& 31)) 0 = bt w k := by
    rw [b_sshr k hk w (by omega)]; simp [hk]
  rw [← e0]
  generalize w >>> (nI k &&& 31) = y
  rw [← Int32.toBitVec_inj]
  show y.toBitVec &&& 1#32 = 0#32 ↔ y.toBitVec.getLsbD 0 = false
  rw [BitVec.and_one_eq_setWidth_ofBool_getLsbD]
  cases y.toBitVec.getLsbD 0 <;> decide
theorem bt_1 : ∀ i, i < 32 → bt 1 i = decide (i = 0) := by decide +kernel
theorem ibit_or {w : Int32} {k j : Nat} (hk : k < 32) (hj : j < 32) : bt (w ||| ((1 : Int32) <<< (nI k &&& 31))) j = (bt w j || decide (j = k)) := by
  rw [b_or, b_shl k hk _ hj, bt_1 _ (by omega)]
  congr 1
  by_cases h : k ≤ j
  · simp [h]; omega
  · simp [h]; omega
/-- taken, free from, waited -/
abbrev wX : Type := (Nat → Bool) × (Nat → Int32) × Int32
def w_sel (I : Nat → Int32) (a : Nat) (g : Int32) (t : Nat → Bool) (k : Nat) (nx : Int32) : Int32 := if I (a + (2 * k)) = g ∧ t k = false ∧ (nx = (-1000000) ∨ I ((a + (2 * k)) + 1) < I ((a + (2 * nx.toNatClampNeg)) + 1)) then nI k else nx
def w_next (I : Nat → Int32) (a n : Nat) (g : Int32) (t : Nat → Bool) : Int32 := itr (w_sel I a g t) n (-1000000)
theorem w_next_sp {I : Nat → Int32} {a n : Nat} {g : Int32} {t : Nat → Bool} : w_next I a n g t = (-1000000) ∨ ∃ k, k < n ∧ w_next I a n g t = nI k ∧ (t k = false ∧ I (a + (2 * k)) = g) := by
  refine itr_sel (fun k x => ?_) n
  unfold w_sel
  split
  · rename_i h; exact Or.inr ⟨rfl, h.2.1, h.1⟩
  · exact Or.inl rfl
def w_fst (fr : Nat → Int32) (i x : Nat) : Nat := if fr (i + 1) < fr x then i + 1 else x
def w_first (fr : Nat → Int32) (c : Nat) : Nat := itr (w_fst fr) (c - 1) 0
def w_tk (I : Nat → Int32) (a k : Nat) (v : Int32) : Int32 := if v < I ((a + (2 * k)) + 1) then I ((a + (2 * k)) + 1) else v
def w_step (I : Nat → Int32) (a : Nat) (tk : Int32) (c k : Nat) (x : wX) : wX := (va_up x.1 k true, va_up x.2.1 (w_first x.2.1 c) (w_tk I a k (x.2.1 (w_first x.2.1 c)) + tk), x.2.2 + (w_tk I a k (x.2.1 (w_first x.2.1 c)) - I ((a + (2 * k)) + 1)))
def w_body (I : Nat → Int32) (a n : Nat) (g tk : Int32) (c : Nat) (x : wX) : wX := w_step I a tk c (w_next I a n g x.1).toNatClampNeg x
def w_c (I : Nat → Int32) (a n : Nat) (g : Int32) (x : wX) : Bool := !decide (w_next I a n g x.1 = (-1000000))
def w_run (I : Nat → Int32) (a n : Nat) (g tk : Int32) (c : Nat) (x : wX) : wX := wh (w_c I a n g) (w_body I a n g tk c) (fun x => cntF x.1 n) x
theorem w_go {I : Nat → Int32} {a n : Nat} {g tk : Int32} {c : Nat} (hn : n < 2 ^ 31) : ∀ x : wX, True → w_c I a n g x = true → True ∧ cntF (w_body I a n g tk c x).1 n < cntF x.1 n := by
  intro x _ h
  refine ⟨trivial, ?_⟩
  rcases w_next_sp (I := I) (a := a) (n := n) (g := g) (t := x.1) with q | ⟨k, h1, h2, h3⟩
  · unfold w_c at h; rw [q] at h; simp at h
  · show cntF (va_up x.1 (w_next I a n g x.1).toNatClampNeg true) n < cntF x.1 n
    rw [h2, nI_clamp (by omega)]
    have := cntF_up h3.1 n h1
    omega
theorem w_step_eq {I : Nat → Int32} {a n : Nat} {g tk : Int32} {c k x : Nat} {t : Nat → Bool} {fr : Nat → Int32} {sum v s2 : Int32} (hk : k < 2 ^ 31) (h : nI k = w_next I a n g t) (hx : x = w_first fr c) (hv : v = w_tk I a k (fr x)) (hs : s2 = sum + (v - I ((a + (2 * k)) + 1))) : (va_up t k true, va_up fr x (v + tk), s2) = w_body I a n g tk c (t, fr, sum) := by
  subst hx hs hv
  unfold w_body
  show _ = w_step I a tk c (w_next I a n g t).toNatClampNeg (t, fr, sum)
  rw [← h, nI_clamp hk]
  rfl
def w_fr0 (f : Nat → Int32) : Nat → Int32 := itr (fun k f => va_up f k 0) 8 f
def m_waited (Rr : Nat → Nat → Int32) (a n : Nat) (g tk : Int32) (c : Nat) : wX := w_run (Rr 4) a n g tk c (fun _ => false, w_fr0 (Rr 45), 0)
theorem mset_45 {Rr : Nat → Nat → Int32} {f : Nat → Int32} {j : Nat} {x : Int32} : mset (va_up Rr 45 f) 45 j x = va_up Rr 45 (va_up f j x) := by
  unfold mset
  rw [up_up, up_s]
set_option maxHeartbeats 4000000 in
set_option maxRecDepth 100000 in
theorem metX2_waitedAt (l : Launch) (D : va_G) (cl : List vw_C) (hcl : cl[0]? = some (RX2, TX2, 61)) (h : Nat) (ad : Nat → Nat) (dA : ClassId) (F : Nat → Int32) (Rr : Nat → Nat → Int32) (a1 : Nat) (n1 : Nat) (p3 : Int32) (p4 : Int32) (c1 : Nat) (hn1 : n1 ≤ 20) (ha1 : a1 + 2 * n1 ≤ 512) (hc1 : 1 ≤ c1) (hc8 : c1 ≤ 8) : Met l yX2_waitedAt (ws_ yX2_waitedAt cX2_waitedAt 13 (some .int)) ({ frames := 0, cells := 0, slots := 0, locals := 0 } : Room) (va_Pc [.ref h, .int (nI a1), .int (nI n1), .int p3, .int p4, .int (nI c1)] (mPre D cl h ad dA F Rr)) (va_Qi (fun r u => (r, u) = ((m_waited Rr a1 n1 p3 p4 c1).2.2, F, va_up Rr 45 (m_waited Rr a1 n1 p3 p4 c1).2.1)) (mB D cl h ad dA) (mN h ad)) 0 0 (mN h ad) := by
  refine Met.ofW (cc := cX2_waitedAt) (maxL := 13) (ret := (some .int)) (by decide) rfl ?_
  intro p e s m args below meth c s₁ B hml hv
  obtain ⟨rfl, hK, hP, hD⟩ := hv
  have hx := B.exec
  have hb := B.bytes
  have hr := B.returns
  have hts := atoms_spec (ws := (ws_ yX2_waitedAt cX2_waitedAt 13 (some .int))) B.pre
  have hts : ∀ w ∈ lw_all, w.before _ s = true := fun w h => hts w (List.mem_cons_of_mem _ h)
  have hown : s.vm.findClass RX2 = some m.cls := findClass_of_methodNamed B.named
  have hlocks := B.notSynchronized
  have S : CallFix p m c cX2_waitedAt 13 s ([.ref h, .int (nI a1), .int (nI n1), .int p3, .int p4, .int (nI c1)] : List Value).toArray lw_all RX2 := ⟨hx, hb, hml, hown, hts⟩
  have X : mX p s m ([.ref h, .int (nI a1), .int (nI n1), .int p3, .int p4, .int (nI c1)] : List Value).toArray c cX2_waitedAt 13 D cl dA := ⟨hx, hb, hml, hown, hts, hK, hcl⟩
  have M : mM D cl h ad dA (mN h ad) s F Rr s.heap [] := ⟨hP, mW_self hD, va_S.rf⟩
  have hl := lv_entry ([.ref h, .int (nI a1), .int (nI n1), .int p3, .int p4, .int (nI c1)]) (n := 13) (Nat.le_of_ble_eq_true rfl)
  rw [lg_entry_eq]
  generalize (lg_sl ([.ref h, .int (nI a1), .int (nI n1), .int p3, .int p4, .int (nI c1)]) ++ List.replicate (13 - (lg_sl ([.ref h, .int (nI a1), .int (nI n1), .int p3, .int p4, .int (nI c1)])).length) Slot.unset).toArray = ls at hl ⊢
  have hl : lv_has ls 13 [(0, .ref h), (1, .int (nI a1)), (2, .int (nI n1)), (3, .int p3), (4, .int p4), (5, .int (nI c1))] := hl
  refine lv_iconst (v := 0) hx hb dX2_waitedAt_0 (by decide) ?_
  refine lv_istore (lv' := [(6, .int 0), (0, .ref h), (1, .int (nI a1)), (2, .int (nI n1)), (3, .int p3), (4, .int p4), (5, .int (nI c1))]) hx hb dX2_waitedAt_1 hl (by decide) rfl (fun ls hl => ?_)
  have L_1 : ∀ (fuL_1 : Nat) (j : Nat) (f : Nat → Int32), (j ≤ 8) → (f = itr (fun k f => va_up f k 0) j (Rr 45)) → 8 - j < fuL_1 → ∀ (H : Heap) (locs : List Loc), mM D cl h ad dA (mN h ad) s F (va_up Rr 45 f) H locs → ∀ ls, lv_has ls 13 [(0, .ref h), (1, .int (nI a1)), (2, .int (nI n1)), (3, .int p3), (4, .int p4), (5, .int (nI c1)), (6, .int (nI j))] → W p l e ({ frames := 0, cells := 0, slots := 0, locals := 0 } : Room) s m ([.ref h, .int (nI a1), .int (nI n1), .int p3, .int p4, .int (nI c1)] : List Value).toArray below meth c H locs 0 0 (MQ below (va_Qi (fun r u => (r, u) = ((m_waited Rr a1 n1 p3 p4 c1).2.2, F, va_up Rr 45 (m_waited Rr a1 n1 p3 p4 c1).2.1)) (mB D cl h ad dA) (mN h ad)) ([.ref h, .int (nI a1), .int (nI n1), .int p3, .int p4, .int (nI c1)] : List Value).toArray s 0 0 (mN h ad)) (F0 m 3 ls []) := by
    intro fuL_1
    induction fuL_1 with
    | zero => intro j f hj qf hfuL_1; exact absurd hfuL_1 (Nat.not_lt_zero _)
    | succ fuL_1 L_1ih =>
      intro j f hj qf hfuL_1 H locs M ls hl
      refine lv_iload hx hb dX2_waitedAt_3 (lv_at hl 6 rfl) ?_
      refine lv_bipush (v := 8) hx hb dX2_waitedAt_5 (by decide) ?_
      refine ln_icmp_ge (tgt := 24) hx hb (a := j) (b := 8) (by omega) (by omega) dX2_waitedAt_7 (by decide) (fun c_2 => ?_) (fun c_2 => ?_)
      · -- c_2: nI j ≥ 8
        have ej : j = 8 := by omega
        have ef0 : f = w_fr0 (Rr 45) := by rw [ej] at qf; exact qf
        refine lv_iconst (v := 0) hx hb dX2_waitedAt_24 (by decide) ?_
        refine lv_istore (lv' := [(6, .int 0), (0, .ref h), (1, .int (nI a1)), (2, .int (nI n1)), (3, .int p3), (4, .int p4), (5, .int (nI c1))]) hx hb dX2_waitedAt_25 hl (by decide) rfl (fun ls hl => ?_)
        refine lv_iconst (v := 0) hx hb dX2_waitedAt_27 (by decide) ?_
        refine lv_istore (lv' := [(7, .int 0), (6, .int 0), (0, .ref h), (1, .int (nI a1)), (2, .int (nI n1)), (3, .int p3), (4, .int p4), (5, .int (nI c1))]) hx hb dX2_waitedAt_28 hl (by decide) rfl (fun ls hl => ?_)
        refine lv_iconst (v := 1) hx hb dX2_waitedAt_30 (by decide) ?_
        refine lv_istore (lv' := [(8, .int 1), (7, .int 0), (6, .int 0), (0, .ref h), (1, .int (nI a1)), (2, .int (nI n1)), (3, .int p3), (4, .int p4), (5, .int (nI c1))]) hx hb dX2_waitedAt_31 hl (by decide) rfl (fun ls hl => ?_)
        have L_3 : ∀ (fuL_3 : Nat) (t : Nat → Bool) (fr : Nat → Int32) (sm : Int32) (met : Int32) (lf : Bool), (∀ j, j < n1 → bt met j = t j) → (w_run (Rr 4) a1 n1 p3 p4 c1 (t, fr, sm) = w_run (Rr 4) a1 n1 p3 p4 c1 (fun _ => false, w_fr0 (Rr 45), 0)) → (lf = false → w_next (Rr 4) a1 n1 p3 t = (-1000000)) → (if lf = true then cntF t n1 + 1 else 0) < fuL_3 → ∀ (H : Heap) (locs : List Loc), mM D cl h ad dA (mN h ad) s F (va_up Rr 45 fr) H locs → ∀ ls, lv_has ls 13 [(0, .ref h), (1, .int (nI a1)), (2, .int (nI n1)), (3, .int p3), (4, .int p4), (5, .int (nI c1)), (6, .int sm), (7, .int met), (8, .int (b2i lf))] → W p l e ({ frames := 0, cells := 0, slots := 0, locals := 0 } : Room) s m ([.ref h, .int (nI a1), .int (nI n1), .int p3, .int p4, .int (nI c1)] : List Value).toArray below meth c H locs 0 0 (MQ below (va_Qi (fun r u => (r, u) = ((m_waited Rr a1 n1 p3 p4 c1).2.2, F, va_up Rr 45 (m_waited Rr a1 n1 p3 p4 c1).2.1)) (mB D cl h ad dA) (mN h ad)) ([.ref h, .int (nI a1), .int (nI n1), .int p3, .int p4, .int (nI c1)] : List Value).toArray s 0 0 (mN h ad)) (F0 m 33 ls []) := by
          intro fuL_3
          induction fuL_3 with
          | zero => intro t fr sm met lf hmet hrun hend hfuL_3; exact absurd hfuL_3 (Nat.not_lt_zero _)
          | succ fuL_3 L_3ih =>
            intro t fr sm met lf hmet hrun hend hfuL_3 H locs M ls hl
            refine lv_iload hx hb dX2_waitedAt_33 (lv_at hl 8 rfl) ?_
            refine lz_if_eq (tgt := 278) hx hb dX2_waitedAt_35 (by decide) (fun c_4 => ?_) (fun c_4 => ?_)
            · -- c_4: lf = false
              have eFin : (t, fr, sm) = w_run (Rr 4) a1 n1 p3 p4 c1  (fun _ => false, w_fr0 (Rr 45), 0) := (wh_f (c := w_c (Rr 4) a1 n1 p3) (b := w_body (Rr 4) a1 n1 p3 p4 c1) (μ := fun x => cntF x.1 n1) (a := (t, fr, sm)) (by unfold w_c; rw [hend c_4]; simp)).symm.trans hrun
              refine lv_iload hx hb dX2_waitedAt_278 (lv_at hl 6 rfl) ?_
              exact W.iret (v := sm) hx hb hr (fun t9 ht9 hW9 => ⟨⟨_, (F, va_up Rr 45 fr), rfl, (by unfold m_waited; rw [← eFin]), by show va_P _ _ _ t9.heap; rw [ht9]; exact M.1⟩, M.2.2.F ht9⟩) M.2.2.2.2 dX2_waitedAt_280
            · -- c_4: lf = true
              refine lv_ldc (v := (-1000000)) hx hb hown (hts _ q1430) dX2_waitedAt_38 ?_
              refine lv_istore (lv' := [(9, .int (-1000000)), (0, .ref h), (1, .int (nI a1)), (2, .int (nI n1)), (3, .int p3), (4, .int p4), (5, .int (nI c1)), (6, .int sm), (7, .int met), (8, .int (b2i lf))]) hx hb dX2_waitedAt_40 hl (by decide) rfl (fun ls hl => ?_)
              refine lv_iconst (v := 0) hx hb dX2_waitedAt_42 (by decide) ?_
              refine lv_istore (lv' := [(10, .int 0), (9, .int (-1000000)), (0, .ref h), (1, .int (nI a1)), (2, .int (nI n1)), (3, .int p3), (4, .int p4), (5, .int (nI c1)), (6, .int sm), (7, .int met), (8, .int (b2i lf))]) hx hb dX2_waitedAt_43 hl (by decide) rfl (fun ls hl => ?_)
              have L_5 : ∀ (fuL_5 : Nat) (k : Nat) (y : Int32), (k ≤ n1) → (y = itr (w_sel (Rr 4) a1 p3 t) k (-1000000)) → n1 - k < fuL_5 → ∀ (H : Heap) (locs : List Loc), mM D cl h ad dA (mN h ad) s F (va_up Rr 45 fr) H locs → ∀ ls, lv_has ls 13 [(0, .ref h), (1, .int (nI a1)), (2, .int (nI n1)), (3, .int p3), (4, .int p4), (5, .int (nI c1)), (6, .int sm), (7, .int met), (8, .int (b2i lf)), (9, .int y), (10, .int (nI k))] → W p l e ({ frames := 0, cells := 0, slots := 0, locals := 0 } : Room) s m ([.ref h, .int (nI a1), .int (nI n1), .int p3, .int p4, .int (nI c1)] : List Value).toArray below meth c H locs 0 0 (MQ below (va_Qi (fun r u => (r, u) = ((m_waited Rr a1 n1 p3 p4 c1).2.2, F, va_up Rr 45 (m_waited Rr a1 n1 p3 p4 c1).2.1)) (mB D cl h ad dA) (mN h ad)) ([.ref h, .int (nI a1), .int (nI n1), .int p3, .int p4, .int (nI c1)] : List Value).toArray s 0 0 (mN h ad)) (F0 m 45 ls []) := by
                intro fuL_5
                induction fuL_5 with
                | zero => intro k y hk qy hfuL_5; exact absurd hfuL_5 (Nat.not_lt_zero _)
                | succ fuL_5 L_5ih =>
                  intro k y hk qy hfuL_5 H locs M ls hl
                  have hy9 : y = (-1000000) ∨ vp_in y k := by rw [qy]; exact itr_in (fun k x => by unfold w_sel; split <;> simp) k (by omega)
                  refine lv_iload hx hb dX2_waitedAt_45 (lv_at hl 10 rfl) ?_
                  refine lv_iload_n hx hb dX2_waitedAt_47 rfl (lv_at hl 2 rfl) ?_
                  refine ln_icmp_ge (tgt := 139) hx hb (a := k) (b := n1) (by omega) (by omega) dX2_waitedAt_48 (by decide) (fun c_6 => ?_) (fun c_6 => ?_)
                  · -- c_6: nI k ≥ nI n1
                    have ek : k = n1 := by omega
                    rw [ek] at qy
                    refine lv_iload hx hb dX2_waitedAt_139 (lv_at hl 9 rfl) ?_
                    refine lv_ldc (v := (-1000000)) hx hb hown (hts _ q1430) dX2_waitedAt_141 ?_
                    refine lv_icmp_eq (tgt := 150) hx hb dX2_waitedAt_143 (by decide) (fun c_7 => ?_) (fun c_7 => ?_)
                    · -- c_7: y = (-1000000)
                      have qn9 : w_next (Rr 4) a1 n1 p3 t = (-1000000) := qy.symm.trans c_7
                      refine lv_iconst (v := 0) hx hb dX2_waitedAt_150 (by decide) ?_
                      refine lv_istore (lv' := [(8, .int 0), (0, .ref h), (1, .int (nI a1)), (2, .int (nI n1)), (3, .int p3), (4, .int p4), (5, .int (nI c1)), (6, .int sm), (7, .int met), (9, .int y), (10, .int (nI k))]) hx hb dX2_waitedAt_151 hl (by decide) rfl (fun ls hl => ?_)
                      refine lv_iload hx hb dX2_waitedAt_153 (lv_at hl 0 rfl) ?_
                      refine lv_if_eq (tgt := 275) hx hb dX2_waitedAt_155 (by decide) (fun c_8 => ?_) (fun c_8 => absurd c_8 (by decide))
                      refine lv_goto (tgt := 33) hx hb dX2_waitedAt_275 (by decide) ?_
                      have dec9 : 0 < fuL_3 := by rw [c_4] at hfuL_3; have q9 : cntF t n1 + 1 < fuL_3 + 1 := hfuL_3; omega
                      exact L_3ih  t fr sm met false hmet hrun (fun _ => qn9) dec9 _ _ M ls (lv_sub hl [1, 2, 3, 4, 5, 6, 7, 8, 0] rfl)
                    · -- c_7: y ≠ (-1000000)
                      have qy2 : y = w_next (Rr 4) a1 n1 p3 t := qy
                      obtain ⟨kk, hkk, ey, hkf, hkc⟩ : ∃ k, k < n1 ∧ y = nI k ∧ (t k = false ∧ Rr 4 (a1 + (2 * k)) = p3) := (w_next_sp (I := Rr 4) (a := a1) (n := n1) (g := p3) (t := t)).elim (fun q => absurd (qy2.trans q) c_7) (fun q => by rw [← qy2] at q; exact q)
                      have hgc9 : w_c (Rr 4) a1 n1 p3 (t, fr, sm) = true := by unfold w_c; rw [← qy2]; simp [c_7]
                      subst ey
                      refine lv_iconst (v := 1) hx hb dX2_waitedAt_146 (by decide) ?_
                      refine lv_goto (tgt := 151) hx hb dX2_waitedAt_147 (by decide) ?_
                      refine lv_istore (lv' := [(8, .int 1), (0, .ref h), (1, .int (nI a1)), (2, .int (nI n1)), (3, .int p3), (4, .int p4), (5, .int (nI c1)), (6, .int sm), (7, .int met), (9, .int (nI kk)), (10, .int (nI k))]) hx hb dX2_waitedAt_151 hl (by decide) rfl (fun ls hl => ?_)
                      refine lv_iload hx hb dX2_waitedAt_153 (lv_at hl 0 rfl) ?_
                      refine lv_if_eq (tgt := 275) hx hb dX2_waitedAt_155 (by decide) (fun c_9 => absurd c_9 (by decide)) (fun c_9 => ?_)
                      refine lv_iload hx hb dX2_waitedAt_158 (lv_at hl 8 rfl) ?_
                      refine lv_iconst (v := 1) hx hb dX2_waitedAt_160 (by decide) ?_
                      refine lv_iload hx hb dX2_waitedAt_161 (lv_at hl 9 rfl) ?_
                      refine lv_ishl hx hb dX2_waitedAt_163 ?_
                      refine lv_ior hx hb dX2_waitedAt_164 ?_
                      refine lv_istore (lv' := [(7, .int (met ||| (1 <<< ((nI kk) &&& 31)))), (8, .int 1), (0, .ref h), (1, .int (nI a1)), (2, .int (nI n1)), (3, .int p3), (4, .int p4), (5, .int (nI c1)), (6, .int sm), (9, .int (nI kk)), (10, .int (nI k))]) hx hb dX2_waitedAt_165 hl (by decide) rfl (fun ls hl => ?_)
                      refine lv_iconst (v := 0) hx hb dX2_waitedAt_167 (by decide) ?_
                      refine lv_istore (lv' := [(10, .int 0), (7, .int (met ||| (1 <<< ((nI kk) &&& 31)))), (8, .int 1), (0, .ref h), (1, .int (nI a1)), (2, .int (nI n1)), (3, .int p3), (4, .int p4), (5, .int (nI c1)), (6, .int sm), (9, .int (nI kk))]) hx hb dX2_waitedAt_168 hl (by decide) rfl (fun ls hl => ?_)
                      refine lv_iconst (v := 1) hx hb dX2_waitedAt_170 (by decide) ?_
                      refine lv_istore (lv' := [(11, .int 1), (10, .int 0), (7, .int (met ||| (1 <<< ((nI kk) &&& 31)))), (8, .int 1), (0, .ref h), (1, .int (nI a1)), (2, .int (nI n1)), (3, .int p3), (4, .int p4), (5, .int (nI c1)), (6, .int sm), (9, .int (nI kk))]) hx hb dX2_waitedAt_171 hl (by decide) rfl (fun ls hl => ?_)
                      have L_10 : ∀ (fuL_10 : Nat) (i : Nat) (x : Nat), (i ≤ c1 - 1) → (x = itr (w_fst fr) i 0) → (x < c1) → c1 - 1 - i < fuL_10 → ∀ (H : Heap) (locs : List Loc), mM D cl h ad dA (mN h ad) s F (va_up Rr 45 fr) H locs → ∀ ls, lv_has ls 13 [(0, .ref h), (1, .int (nI a1)), (2, .int (nI n1)), (3, .int p3), (4, .int p4), (5, .int (nI c1)), (6, .int sm), (7, .int (met ||| (1 <<< ((nI kk) &&& 31)))), (8, .int 1), (9, .int (nI kk)), (10, .int (nI x)), (11, .int (nI (i + 1)))] → W p l e ({ frames := 0, cells := 0, slots := 0, locals := 0 } : Room) s m ([.ref h, .int (nI a1), .int (nI n1), .int p3, .int p4, .int (nI c1)] : List Value).toArray below meth c H locs 0 0 (MQ below (va_Qi (fun r u => (r, u) = ((m_waited Rr a1 n1 p3 p4 c1).2.2, F, va_up Rr 45 (m_waited Rr a1 n1 p3 p4 c1).2.1)) (mB D cl h ad dA) (mN h ad)) ([.ref h, .int (nI a1), .int (nI n1), .int p3, .int p4, .int (nI c1)] : List Value).toArray s 0 0 (mN h ad)) (F0 m 173 ls []) := by
                        intro fuL_10
                        induction fuL_10 with
                        | zero => intro i x hi qx hx8 hfuL_10; exact absurd hfuL_10 (Nat.not_lt_zero _)
                        | succ fuL_10 L_10ih =>
                          intro i x hi qx hx8 hfuL_10 H locs M ls hl
                          refine lv_iload hx hb dX2_waitedAt_173 (lv_at hl 11 rfl) ?_
                          refine lv_iload hx hb dX2_waitedAt_175 (lv_at hl 5 rfl) ?_
                          refine ln_icmp_ge (tgt := 212) hx hb (a := i + 1) (b := c1) (by omega) (by omega) dX2_waitedAt_177 (by decide) (fun c_11 => ?_) (fun c_11 => ?_)
                          · -- c_11: nI (i + 1) ≥ nI c1
                            have ei9 : i = c1 - 1 := by omega
                            have qx9 : x = w_first fr c1 := by rw [ei9] at qx; exact qx
                            refine lv_aload_n hx hb dX2_waitedAt_212 rfl (lv_at hl 0 rfl) ?_
                            refine mg_4 X M dX2_waitedAt_213 ?_
                            refine lv_iload_n hx hb dX2_waitedAt_216 rfl (lv_at hl 1 rfl) ?_
                            refine lv_iconst (v := 2) hx hb dX2_waitedAt_217 (by decide) ?_
                            refine lv_iload hx hb dX2_waitedAt_218 (lv_at hl 9 rfl) ?_
                            refine lv_imul hx hb dX2_waitedAt_220 ?_
                            refine lv_asi (y := nI (2 * kk)) (nI_mul 2 kk) ?_
                            refine lv_iadd hx hb dX2_waitedAt_221 ?_
                            refine lv_asi (y := nI (a1 + (2 * kk))) (nI_add a1 (2 * kk)) ?_
                            refine lv_iconst (v := 1) hx hb dX2_waitedAt_222 (by decide) ?_
                            refine lv_iadd hx hb dX2_waitedAt_223 ?_
                            refine lv_asi (y := nI ((a1 + (2 * kk)) + 1)) (nI_add (a1 + (2 * kk)) 1) ?_
                            refine mr_4 X M (f := Rr 4) rfl (j := (a1 + (2 * kk)) + 1) (vp_in_nI (by omega) (by omega)) (nI_clamp (by omega)) dX2_waitedAt_224 ?_
                            refine lv_istore (lv' := [(11, .int (Rr 4 ((a1 + (2 * kk)) + 1))), (0, .ref h), (1, .int (nI a1)), (2, .int (nI n1)), (3, .int p3), (4, .int p4), (5, .int (nI c1)), (6, .int sm), (7, .int (met ||| (1 <<< ((nI kk) &&& 31)))), (8, .int 1), (9, .int (nI kk)), (10, .int (nI x))]) hx hb dX2_waitedAt_225 hl (by decide) rfl (fun ls hl => ?_)
                            refine lv_iload hx hb dX2_waitedAt_227 (lv_at hl 0 rfl) ?_
                            refine lv_aload_n hx hb dX2_waitedAt_229 rfl (lv_at hl 1 rfl) ?_
                            refine mg_45 X M dX2_waitedAt_230 ?_
                            refine lv_iload hx hb dX2_waitedAt_233 (lv_at hl 11 rfl) ?_
                            refine mr_45 X M (f := fr) rfl (j := x) (vp_in_nI (by omega) (by omega)) (nI_clamp (by omega)) dX2_waitedAt_235 ?_
                            refine lb_icmp_le (tgt := 244) hx hb dX2_waitedAt_236 (by decide) (fun c_12 c_12' => ?_) (fun c_12 c_12' => ?_)
                            · -- c_12: Rr 4 ((a1 + (2 * kk)) + 1) ≤ fr x
                              refine lv_aload_n hx hb dX2_waitedAt_244 rfl (lv_at hl 1 rfl) ?_
                              refine mg_45 X M dX2_waitedAt_245 ?_
                              refine lv_iload hx hb dX2_waitedAt_248 (lv_at hl 11 rfl) ?_
                              refine mr_45 X M (f := fr) rfl (j := x) (vp_in_nI (by omega) (by omega)) (nI_clamp (by omega)) dX2_waitedAt_250 ?_
                              refine lv_istore (lv' := [(12, .int (fr x)), (11, .int (Rr 4 ((a1 + (2 * kk)) + 1))), (0, .ref h), (1, .int (nI a1)), (2, .int (nI n1)), (3, .int p3), (4, .int p4), (5, .int (nI c1)), (6, .int sm), (7, .int (met ||| (1 <<< ((nI kk) &&& 31)))), (8, .int 1), (9, .int (nI kk)), (10, .int (nI x))]) hx hb dX2_waitedAt_251 hl (by decide) rfl (fun ls hl => ?_)
                              refine lv_iload hx hb dX2_waitedAt_253 (lv_at hl 8 rfl) ?_
                              refine lv_iload hx hb dX2_waitedAt_255 (lv_at hl 0 rfl) ?_
                              refine lv_iload hx hb dX2_waitedAt_257 (lv_at hl 1 rfl) ?_
                              refine lv_isub hx hb dX2_waitedAt_259 ?_
                              refine lv_iadd hx hb dX2_waitedAt_260 ?_
                              refine lv_istore (lv' := [(6, .int (sm + ((fr x) - (Rr 4 ((a1 + (2 * kk)) + 1))))), (12, .int (fr x)), (11, .int (Rr 4 ((a1 + (2 * kk)) + 1))), (0, .ref h), (1, .int (nI a1)), (2, .int (nI n1)), (3, .int p3), (4, .int p4), (5, .int (nI c1)), (7, .int (met ||| (1 <<< ((nI kk) &&& 31)))), (8, .int 1), (9, .int (nI kk)), (10, .int (nI x))]) hx hb dX2_waitedAt_261 hl (by decide) rfl (fun ls hl => ?_)
                              refine lv_aload_n hx hb dX2_waitedAt_263 rfl (lv_at hl 3 rfl) ?_
                              refine mg_45 X M dX2_waitedAt_264 ?_
                              refine lv_iload hx hb dX2_waitedAt_267 (lv_at hl 12 rfl) ?_
                              refine lv_iload hx hb dX2_waitedAt_269 (lv_at hl 1 rfl) ?_
                              refine lv_iload hx hb dX2_waitedAt_271 (lv_at hl 7 rfl) ?_
                              refine lv_iadd hx hb dX2_waitedAt_273 ?_
                              refine ms_45 X M (j := x) (vp_in_nI (by omega) (by omega)) (nI_clamp (by omega)) dX2_waitedAt_274 (fun H locs M => ?_)
                              refine lv_goto (tgt := 33) hx hb dX2_waitedAt_275 (by decide) ?_
                              have hcn := cntF_up hkf n1 hkk
                              have dec9 : cntF (va_up t kk true) n1 + 1 < fuL_3 := by rw [c_4] at hfuL_3; have q9 : cntF t n1 + 1 < fuL_3 + 1 := hfuL_3; omega
                              have hmet9 : ∀ j, j < n1 → bt (met ||| (1 <<< ((nI kk) &&& 31))) j = (va_up t kk true) j := by
                                intro j hj
                                rw [ibit_or (by omega) (by omega), hmet j hj]
                                unfold va_up
                                by_cases q : j = kk <;> simp [q]
                              have hst9 : (va_up t kk true, va_up fr x ((fr x) + p4), sm + ((fr x) - (Rr 4 ((a1 + (2 * kk)) + 1)))) = w_body (Rr 4) a1 n1 p3 p4 c1 (t, fr, sm) := by
                                exact w_step_eq (by omega) qy2 qx9 (by unfold w_tk; simp only [c_12, c_12', if_true, if_false]) rfl
                              have hrun9 : w_run (Rr 4) a1 n1 p3 p4 c1  (va_up t kk true, va_up fr x ((fr x) + p4), sm + ((fr x) - (Rr 4 ((a1 + (2 * kk)) + 1)))) = w_run (Rr 4) a1 n1 p3 p4 c1  (fun _ => false, w_fr0 (Rr 45), 0) := by
                                rw [hst9, ← hrun]
                                exact (wh_t (c := w_c (Rr 4) a1 n1 p3) (b := w_body (Rr 4) a1 n1 p3 p4 c1) (μ := fun x => cntF x.1 n1) (I := fun _ => True) (w_go (by omega)) trivial hgc9).symm
                              exact L_3ih  (va_up t kk true) (va_up fr x ((fr x) + p4)) (sm + ((fr x) - (Rr 4 ((a1 + (2 * kk)) + 1)))) (met ||| (1 <<< ((nI kk) &&& 31))) true hmet9 hrun9 (fun q => by cases q) dec9 _ _ (by rw [mset_45] at M; exact M) ls (lv_sub hl [3, 4, 5, 6, 7, 8, 0, 9, 10] rfl)
                            · -- c_12: Rr 4 ((a1 + (2 * kk)) + 1) > fr x
                              refine lv_iload hx hb dX2_waitedAt_239 (lv_at hl 0 rfl) ?_
                              refine lv_goto (tgt := 251) hx hb dX2_waitedAt_241 (by decide) ?_
                              refine lv_istore (lv' := [(12, .int (Rr 4 ((a1 + (2 * kk)) + 1))), (11, .int (Rr 4 ((a1 + (2 * kk)) + 1))), (0, .ref h), (1, .int (nI a1)), (2, .int (nI n1)), (3, .int p3), (4, .int p4), (5, .int (nI c1)), (6, .int sm), (7, .int (met ||| (1 <<< ((nI kk) &&& 31)))), (8, .int 1), (9, .int (nI kk)), (10, .int (nI x))]) hx hb dX2_waitedAt_251 hl (by decide) rfl (fun ls hl => ?_)
                              refine lv_iload hx hb dX2_waitedAt_253 (lv_at hl 8 rfl) ?_
                              refine lv_iload hx hb dX2_waitedAt_255 (lv_at hl 0 rfl) ?_
                              refine lv_iload hx hb dX2_waitedAt_257 (lv_at hl 1 rfl) ?_
                              refine lv_isub hx hb dX2_waitedAt_259 ?_
                              refine lv_iadd hx hb dX2_waitedAt_260 ?_
                              refine lv_istore (lv' := [(6, .int (sm + ((Rr 4 ((a1 + (2 * kk)) + 1)) - (Rr 4 ((a1 + (2 * kk)) + 1))))), (12, .int (Rr 4 ((a1 + (2 * kk)) + 1))), (11, .int (Rr 4 ((a1 + (2 * kk)) + 1))), (0, .ref h), (1, .int (nI a1)), (2, .int (nI n1)), (3, .int p3), (4, .int p4), (5, .int (nI c1)), (7, .int (met ||| (1 <<< ((nI kk) &&& 31)))), (8, .int 1), (9, .int (nI kk)), (10, .int (nI x))]) hx hb dX2_waitedAt_261 hl (by decide) rfl (fun ls hl => ?_)
                              refine lv_aload_n hx hb dX2_waitedAt_263 rfl (lv_at hl 3 rfl) ?_
                              refine mg_45 X M dX2_waitedAt_264 ?_
                              refine lv_iload hx hb dX2_waitedAt_267 (lv_at hl 12 rfl) ?_
                              refine lv_iload hx hb dX2_waitedAt_269 (lv_at hl 1 rfl) ?_
                              refine lv_iload hx hb dX2_waitedAt_271 (lv_at hl 7 rfl) ?_
                              refine lv_iadd hx hb dX2_waitedAt_273 ?_
                              refine ms_45 X M (j := x) (vp_in_nI (by omega) (by omega)) (nI_clamp (by omega)) dX2_waitedAt_274 (fun H locs M => ?_)
                              refine lv_goto (tgt := 33) hx hb dX2_waitedAt_275 (by decide) ?_
                              have hcn := cntF_up hkf n1 hkk
                              have dec9 : cntF (va_up t kk true) n1 + 1 < fuL_3 := by rw [c_4] at hfuL_3; have q9 : cntF t n1 + 1 < fuL_3 + 1 := hfuL_3; omega
                              have hmet9 : ∀ j, j < n1 → bt (met ||| (1 <<< ((nI kk) &&& 31))) j = (va_up t kk true) j := by
                                intro j hj
                                rw [ibit_or (by omega) (by omega), hmet j hj]
                                unfold va_up
                                by_cases q : j = kk <;> simp [q]
                              have hst9 : (va_up t kk true, va_up fr x ((Rr 4 ((a1 + (2 * kk)) + 1)) + p4), sm + ((Rr 4 ((a1 + (2 * kk)) + 1)) - (Rr 4 ((a1 + (2 * kk)) + 1)))) = w_body (Rr 4) a1 n1 p3 p4 c1 (t, fr, sm) := by
                                exact w_step_eq (by omega) qy2 qx9 (by unfold w_tk; simp only [c_12, c_12', if_true, if_false]) rfl
                              have hrun9 : w_run (Rr 4) a1 n1 p3 p4 c1  (va_up t kk true, va_up fr x ((Rr 4 ((a1 + (2 * kk)) + 1)) + p4), sm + ((Rr 4 ((a1 + (2 * kk)) + 1)) - (Rr 4 ((a1 + (2 * kk)) + 1)))) = w_run (Rr 4) a1 n1 p3 p4 c1  (fun _ => false, w_fr0 (Rr 45), 0) := by
                                rw [hst9, ← hrun]
                                exact (wh_t (c := w_c (Rr 4) a1 n1 p3) (b := w_body (Rr 4) a1 n1 p3 p4 c1) (μ := fun x => cntF x.1 n1) (I := fun _ => True) (w_go (by omega)) trivial hgc9).symm
                              exact L_3ih  (va_up t kk true) (va_up fr x ((Rr 4 ((a1 + (2 * kk)) + 1)) + p4)) (sm + ((Rr 4 ((a1 + (2 * kk)) + 1)) - (Rr 4 ((a1 + (2 * kk)) + 1)))) (met ||| (1 <<< ((nI kk) &&& 31))) true hmet9 hrun9 (fun q => by cases q) dec9 _ _ (by rw [mset_45] at M; exact M) ls (lv_sub hl [3, 4, 5, 6, 7, 8, 0, 9, 10] rfl)
                          · -- c_11: nI (i + 1) < nI c1
                            refine lv_aload_n hx hb dX2_waitedAt_180 rfl (lv_at hl 0 rfl) ?_
                            refine mg_45 X M dX2_waitedAt_181 ?_
                            refine lv_iload hx hb dX2_waitedAt_184 (lv_at hl 11 rfl) ?_
                            refine mr_45 X M (f := fr) rfl (j := i + 1) (vp_in_nI (by omega) (by omega)) (nI_clamp (by omega)) dX2_waitedAt_186 ?_
                            refine lv_aload_n hx hb dX2_waitedAt_187 rfl (lv_at hl 0 rfl) ?_
                            refine mg_45 X M dX2_waitedAt_188 ?_
                            refine lv_iload hx hb dX2_waitedAt_191 (lv_at hl 10 rfl) ?_
                            refine mr_45 X M (f := fr) rfl (j := x) (vp_in_nI (by omega) (by omega)) (nI_clamp (by omega)) dX2_waitedAt_193 ?_
                            refine lb_icmp_ge (tgt := 202) hx hb dX2_waitedAt_194 (by decide) (fun c_13 c_13' => ?_) (fun c_13 c_13' => ?_)
                            · -- c_13: fr (i + 1) ≥ fr x
                              refine lv_iload hx hb dX2_waitedAt_202 (lv_at hl 10 rfl) ?_
                              refine lv_istore (lv' := [(10, .int (nI x)), (0, .ref h), (1, .int (nI a1)), (2, .int (nI n1)), (3, .int p3), (4, .int p4), (5, .int (nI c1)), (6, .int sm), (7, .int (met ||| (1 <<< ((nI kk) &&& 31)))), (8, .int 1), (9, .int (nI kk)), (11, .int (nI (i + 1)))]) hx hb dX2_waitedAt_204 hl (by decide) rfl (fun ls hl => ?_)
                              refine lv_iinc (v := nI (i + 1 + 1)) (lv' := [(11, .int (nI (i + 1 + 1))), (10, .int (nI x)), (0, .ref h), (1, .int (nI a1)), (2, .int (nI n1)), (3, .int p3), (4, .int p4), (5, .int (nI c1)), (6, .int sm), (7, .int (met ||| (1 <<< ((nI kk) &&& 31)))), (8, .int 1), (9, .int (nI kk))]) hx hb dX2_waitedAt_206 hl (k := 11) rfl (mk_inc _) (by decide) rfl (fun ls hl => ?_)
                              refine lv_goto (tgt := 173) hx hb dX2_waitedAt_209 (by decide) ?_
                              exact L_10ih  (i + 1) x (by omega) (by first | (rw [itr_s, ← qx]; done) | (rw [itr_s, ← qx]; first | (simp [w_fst, c_2, c_4, c_6, ← qy, c_7, c_11, c_13, c_13', up_s, up_n, nI_1, b2i]; done) | (simp_all [w_fst]; done) | grind [w_fst])) (by omega) (by omega) _ _ M ls (lv_sub hl [2, 3, 4, 5, 6, 7, 8, 9, 10, 11, 1, 0] rfl)
                            · -- c_13: fr (i + 1) < fr x
                              refine lv_iload hx hb dX2_waitedAt_197 (lv_at hl 11 rfl) ?_
                              refine lv_goto (tgt := 204) hx hb dX2_waitedAt_199 (by decide) ?_
                              refine lv_istore (lv' := [(10, .int (nI (i + 1))), (0, .ref h), (1, .int (nI a1)), (2, .int (nI n1)), (3, .int p3), (4, .int p4), (5, .int (nI c1)), (6, .int sm), (7, .int (met ||| (1 <<< ((nI kk) &&& 31)))), (8, .int 1), (9, .int (nI kk)), (11, .int (nI (i + 1)))]) hx hb dX2_waitedAt_204 hl (by decide) rfl (fun ls hl => ?_)
                              refine lv_iinc (v := nI (i + 1 + 1)) (lv' := [(11, .int (nI (i + 1 + 1))), (10, .int (nI (i + 1))), (0, .ref h), (1, .int (nI a1)), (2, .int (nI n1)), (3, .int p3), (4, .int p4), (5, .int (nI c1)), (6, .int sm), (7, .int (met ||| (1 <<< ((nI kk) &&& 31)))), (8, .int 1), (9, .int (nI kk))]) hx hb dX2_waitedAt_206 hl (k := 11) rfl (mk_inc _) (by decide) rfl (fun ls hl => ?_)
                              refine lv_goto (tgt := 173) hx hb dX2_waitedAt_209 (by decide) ?_
                              exact L_10ih  (i + 1) (i + 1) (by omega) (by first | (rw [itr_s, ← qx]; done) | (rw [itr_s, ← qx]; first | (simp [w_fst, c_2, c_4, c_6, ← qy, c_7, c_11, c_13, c_13', up_s, up_n, nI_1, b2i]; done) | (simp_all [w_fst]; done) | grind [w_fst])) (by omega) (by omega) _ _ M ls (lv_sub hl [2, 3, 4, 5, 6, 7, 8, 9, 10, 11, 1, 0] rfl)
                      exact L_10 ((c1 - 1 - 0) + 1) 0 0 (Nat.zero_le _) (by first | rfl | (simp only [itr]; assumption) | (simp [itr, c_2, c_4, c_6, ← qy, c_7, up_s, up_n, nI_1, b2i]; done)) (by omega) (Nat.lt_succ_self _) _ _ M ls (lv_sub hl [4, 5, 6, 7, 8, 9, 10, 2, 3, 11, 1, 0] rfl)
                  · -- c_6: nI k < nI n1
                    refine lv_aload_n hx hb dX2_waitedAt_51 rfl (lv_at hl 0 rfl) ?_
                    refine mg_4 X M dX2_waitedAt_52 ?_
                    refine lv_iload_n hx hb dX2_waitedAt_55 rfl (lv_at hl 1 rfl) ?_
                    refine lv_iconst (v := 2) hx hb dX2_waitedAt_56 (by decide) ?_
                    refine lv_iload hx hb dX2_waitedAt_57 (lv_at hl 10 rfl) ?_
                    refine lv_imul hx hb dX2_waitedAt_59 ?_
                    refine lv_asi (y := nI (2 * k)) (nI_mul 2 k) ?_
                    refine lv_iadd hx hb dX2_waitedAt_60 ?_
                    refine lv_asi (y := nI (a1 + (2 * k))) (nI_add a1 (2 * k)) ?_
                    refine mr_4 X M (f := Rr 4) rfl (j := a1 + (2 * k)) (vp_in_nI (by omega) (by omega)) (nI_clamp (by omega)) dX2_waitedAt_61 ?_
                    refine lv_iload_n hx hb dX2_waitedAt_62 rfl (lv_at hl 3 rfl) ?_
                    refine lv_icmp_ne (tgt := 80) hx hb dX2_waitedAt_63 (by decide) (fun c_14 => ?_) (fun c_14 => ?_)
                    · -- c_14: Rr 4 (a1 + (2 * k)) ≠ p3
                      refine lv_iconst (v := 0) hx hb dX2_waitedAt_80 (by decide) ?_
                      refine lv_istore (lv' := [(11, .int 0), (0, .ref h), (1, .int (nI a1)), (2, .int (nI n1)), (3, .int p3), (4, .int p4), (5, .int (nI c1)), (6, .int sm), (7, .int met), (8, .int (b2i lf)), (9, .int y), (10, .int (nI k))]) hx hb dX2_waitedAt_81 hl (by decide) rfl (fun ls hl => ?_)
                      refine lv_iload hx hb dX2_waitedAt_83 (lv_at hl 0 rfl) ?_
                      refine lv_if_eq (tgt := 129) hx hb dX2_waitedAt_85 (by decide) (fun c_15 => ?_) (fun c_15 => absurd c_15 (by decide))
                      refine lv_iload hx hb dX2_waitedAt_129 (lv_at hl 10 rfl) ?_
                      refine lv_istore (lv' := [(9, .int y), (11, .int 0), (0, .ref h), (1, .int (nI a1)), (2, .int (nI n1)), (3, .int p3), (4, .int p4), (5, .int (nI c1)), (6, .int sm), (7, .int met), (8, .int (b2i lf)), (10, .int (nI k))]) hx hb dX2_waitedAt_131 hl (by decide) rfl (fun ls hl => ?_)
                      refine lv_iinc (v := nI (k + 1)) (lv' := [(10, .int (nI (k + 1))), (9, .int y), (11, .int 0), (0, .ref h), (1, .int (nI a1)), (2, .int (nI n1)), (3, .int p3), (4, .int p4), (5, .int (nI c1)), (6, .int sm), (7, .int met), (8, .int (b2i lf))]) hx hb dX2_waitedAt_133 hl (k := 11) rfl (mk_inc _) (by decide) rfl (fun ls hl => ?_)
                      refine lv_goto (tgt := 45) hx hb dX2_waitedAt_136 (by decide) ?_
                      exact L_5ih  (k + 1) y (by omega) (by first | (rw [itr_s, ← qy]; done) | (rw [itr_s, ← qy]; first | (simp [w_sel, c_2, c_4, c_6, c_14, up_s, up_n, nI_1, b2i]; done) | (simp_all [w_sel]; done) | grind [w_sel])) (by omega) _ _ M ls (lv_sub hl [3, 4, 5, 6, 7, 8, 9, 10, 11, 1, 0] rfl)
                    · -- c_14: Rr 4 (a1 + (2 * k)) = p3
                      refine lv_iload hx hb dX2_waitedAt_66 (lv_at hl 7 rfl) ?_
                      refine lv_iload hx hb dX2_waitedAt_68 (lv_at hl 10 rfl) ?_
                      refine lv_ishr hx hb dX2_waitedAt_70 ?_
                      refine lv_iconst (v := 1) hx hb dX2_waitedAt_71 (by decide) ?_
                      refine lv_iand hx hb dX2_waitedAt_72 ?_
                      refine lv_if_ne (tgt := 80) hx hb dX2_waitedAt_73 (by decide) (fun c_16 => ?_) (fun c_16 => ?_)
                      · -- c_16: (met >>> ((nI k) &&& 31)) &&& 1 ≠ 0
                        have hb9 : ¬ t k = false := fun q => c_16 ((ibit (by omega)).mpr (by rw [hmet k (by omega)]; exact q))
                        refine lv_iconst (v := 0) hx hb dX2_waitedAt_80 (by decide) ?_
                        refine lv_istore (lv' := [(11, .int 0), (0, .ref h), (1, .int (nI a1)), (2, .int (nI n1)), (3, .int p3), (4, .int p4), (5, .int (nI c1)), (6, .int sm), (7, .int met), (8, .int (b2i lf)), (9, .int y), (10, .int (nI k))]) hx hb dX2_waitedAt_81 hl (by decide) rfl (fun ls hl => ?_)
                        refine lv_iload hx hb dX2_waitedAt_83 (lv_at hl 0 rfl) ?_
                        refine lv_if_eq (tgt := 129) hx hb dX2_waitedAt_85 (by decide) (fun c_17 => ?_) (fun c_17 => absurd c_17 (by decide))
                        refine lv_iload hx hb dX2_waitedAt_129 (lv_at hl 10 rfl) ?_
                        refine lv_istore (lv' := [(9, .int y), (11, .int 0), (0, .ref h), (1, .int (nI a1)), (2, .int (nI n1)), (3, .int p3), (4, .int p4), (5, .int (nI c1)), (6, .int sm), (7, .int met), (8, .int (b2i lf)), (10, .int (nI k))]) hx hb dX2_waitedAt_131 hl (by decide) rfl (fun ls hl => ?_)
                        refine lv_iinc (v := nI (k + 1)) (lv' := [(10, .int (nI (k + 1))), (9, .int y), (11, .int 0), (0, .ref h), (1, .int (nI a1)), (2, .int (nI n1)), (3, .int p3), (4, .int p4), (5, .int (nI c1)), (6, .int sm), (7, .int met), (8, .int (b2i lf))]) hx hb dX2_waitedAt_133 hl (k := 11) rfl (mk_inc _) (by decide) rfl (fun ls hl => ?_)
                        refine lv_goto (tgt := 45) hx hb dX2_waitedAt_136 (by decide) ?_
                        exact L_5ih  (k + 1) y (by omega) (by first | (rw [itr_s, ← qy]; done) | (rw [itr_s, ← qy]; first | (simp [w_sel, c_2, c_4, c_6, c_14, c_16, hb9, up_s, up_n, nI_1, b2i]; done) | (simp_all [w_sel]; done) | grind [w_sel])) (by omega) _ _ M ls (lv_sub hl [3, 4, 5, 6, 7, 8, 9, 10, 11, 1, 0] rfl)
                      · -- c_16: (met >>> ((nI k) &&& 31)) &&& 1 = 0
                        have hb9 : t k = false := by rw [← hmet k (by omega)]; exact (ibit (by omega)).mp c_16
                        refine lv_iconst (v := 1) hx hb dX2_waitedAt_76 (by decide) ?_
                        refine lv_goto (tgt := 81) hx hb dX2_waitedAt_77 (by decide) ?_
                        refine lv_istore (lv' := [(11, .int 1), (0, .ref h), (1, .int (nI a1)), (2, .int (nI n1)), (3, .int p3), (4, .int p4), (5, .int (nI c1)), (6, .int sm), (7, .int met), (8, .int (b2i lf)), (9, .int y), (10, .int (nI k))]) hx hb dX2_waitedAt_81 hl (by decide) rfl (fun ls hl => ?_)
                        refine lv_iload hx hb dX2_waitedAt_83 (lv_at hl 0 rfl) ?_
                        refine lv_if_eq (tgt := 129) hx hb dX2_waitedAt_85 (by decide) (fun c_18 => absurd c_18 (by decide)) (fun c_18 => ?_)
                        refine lv_iload hx hb dX2_waitedAt_88 (lv_at hl 10 rfl) ?_
                        refine lv_ldc (v := (-1000000)) hx hb hown (hts _ q1430) dX2_waitedAt_90 ?_
                        refine lv_icmp_eq (tgt := 124) hx hb dX2_waitedAt_92 (by decide) (fun c_19 => ?_) (fun c_19 => ?_)
                        · -- c_19: y = (-1000000)
                          refine lv_iload hx hb dX2_waitedAt_124 (lv_at hl 11 rfl) ?_
                          refine lv_goto (tgt := 131) hx hb dX2_waitedAt_126 (by decide) ?_
                          refine lv_istore (lv' := [(9, .int (nI k)), (11, .int 1), (0, .ref h), (1, .int (nI a1)), (2, .int (nI n1)), (3, .int p3), (4, .int p4), (5, .int (nI c1)), (6, .int sm), (7, .int met), (8, .int (b2i lf)), (10, .int (nI k))]) hx hb dX2_waitedAt_131 hl (by decide) rfl (fun ls hl => ?_)
                          refine lv_iinc (v := nI (k + 1)) (lv' := [(10, .int (nI (k + 1))), (9, .int (nI k)), (11, .int 1), (0, .ref h), (1, .int (nI a1)), (2, .int (nI n1)), (3, .int p3), (4, .int p4), (5, .int (nI c1)), (6, .int sm), (7, .int met), (8, .int (b2i lf))]) hx hb dX2_waitedAt_133 hl (k := 11) rfl (mk_inc _) (by decide) rfl (fun ls hl => ?_)
                          refine lv_goto (tgt := 45) hx hb dX2_waitedAt_136 (by decide) ?_
                          exact L_5ih  (k + 1) (nI k) (by omega) (by first | (rw [itr_s, ← qy]; done) | (rw [itr_s, ← qy]; first | (simp [w_sel, c_2, c_4, c_6, c_14, c_16, hb9, c_19, up_s, up_n, nI_1, b2i]; done) | (simp_all [w_sel]; done) | grind [w_sel])) (by omega) _ _ M ls (lv_sub hl [3, 4, 5, 6, 7, 8, 9, 10, 11, 1, 0] rfl)
                        · -- c_19: y ≠ (-1000000)
                          obtain ⟨kn, hkn, ey⟩ := vp_ex (vp_or hy9 c_19 (Nat.le_refl k))
                          subst ey
                          have ekn : (nI kn).toNatClampNeg = kn := nI_clamp (by omega)
                          refine lv_aload_n hx hb dX2_waitedAt_95 rfl (lv_at hl 1 rfl) ?_
                          refine mg_4 X M dX2_waitedAt_96 ?_
                          refine lv_iload_n hx hb dX2_waitedAt_99 rfl (lv_at hl 2 rfl) ?_
                          refine lv_iconst (v := 2) hx hb dX2_waitedAt_100 (by decide) ?_
                          refine lv_iload hx hb dX2_waitedAt_101 (lv_at hl 11 rfl) ?_
                          refine lv_imul hx hb dX2_waitedAt_103 ?_
                          refine lv_asi (y := nI (2 * k)) (nI_mul 2 k) ?_
                          refine lv_iadd hx hb dX2_waitedAt_104 ?_
                          refine lv_asi (y := nI (a1 + (2 * k))) (nI_add a1 (2 * k)) ?_
                          refine lv_iconst (v := 1) hx hb dX2_waitedAt_105 (by decide) ?_
                          refine lv_iadd hx hb dX2_waitedAt_106 ?_
                          refine lv_asi (y := nI ((a1 + (2 * k)) + 1)) (nI_add (a1 + (2 * k)) 1) ?_
                          refine mr_4 X M (f := Rr 4) rfl (j := (a1 + (2 * k)) + 1) (vp_in_nI (by omega) (by omega)) (nI_clamp (by omega)) dX2_waitedAt_107 ?_
                          refine lv_aload_n hx hb dX2_waitedAt_108 rfl (lv_at hl 1 rfl) ?_
                          refine mg_4 X M dX2_waitedAt_109 ?_
                          refine lv_iload_n hx hb dX2_waitedAt_112 rfl (lv_at hl 2 rfl) ?_
                          refine lv_iconst (v := 2) hx hb dX2_waitedAt_113 (by decide) ?_
                          refine lv_iload hx hb dX2_waitedAt_114 (lv_at hl 10 rfl) ?_
                          refine lv_imul hx hb dX2_waitedAt_116 ?_
                          refine lv_asi (y := nI (2 * kn)) (nI_mul 2 kn) ?_
                          refine lv_iadd hx hb dX2_waitedAt_117 ?_
                          refine lv_asi (y := nI (a1 + (2 * kn))) (nI_add a1 (2 * kn)) ?_
                          refine lv_iconst (v := 1) hx hb dX2_waitedAt_118 (by decide) ?_
                          refine lv_iadd hx hb dX2_waitedAt_119 ?_
                          refine lv_asi (y := nI ((a1 + (2 * kn)) + 1)) (nI_add (a1 + (2 * kn)) 1) ?_
                          refine mr_4 X M (f := Rr 4) rfl (j := (a1 + (2 * kn)) + 1) (vp_in_nI (by omega) (by omega)) (nI_clamp (by omega)) dX2_waitedAt_120 ?_
                          refine lb_icmp_ge (tgt := 129) hx hb dX2_waitedAt_121 (by decide) (fun c_20 c_20' => ?_) (fun c_20 c_20' => ?_)
                          · -- c_20: Rr 4 ((a1 + (2 * k)) + 1) ≥ Rr 4 ((a1 + (2 * kn)) + 1)
                            refine lv_iload hx hb dX2_waitedAt_129 (lv_at hl 10 rfl) ?_
                            refine lv_istore (lv' := [(9, .int (nI kn)), (11, .int 1), (0, .ref h), (1, .int (nI a1)), (2, .int (nI n1)), (3, .int p3), (4, .int p4), (5, .int (nI c1)), (6, .int sm), (7, .int met), (8, .int (b2i lf)), (10, .int (nI k))]) hx hb dX2_waitedAt_131 hl (by decide) rfl (fun ls hl => ?_)
                            refine lv_iinc (v := nI (k + 1)) (lv' := [(10, .int (nI (k + 1))), (9, .int (nI kn)), (11, .int 1), (0, .ref h), (1, .int (nI a1)), (2, .int (nI n1)), (3, .int p3), (4, .int p4), (5, .int (nI c1)), (6, .int sm), (7, .int met), (8, .int (b2i lf))]) hx hb dX2_waitedAt_133 hl (k := 11) rfl (mk_inc _) (by decide) rfl (fun ls hl => ?_)
                            refine lv_goto (tgt := 45) hx hb dX2_waitedAt_136 (by decide) ?_
                            exact L_5ih  (k + 1) (nI kn) (by omega) (by first | (rw [itr_s, ← qy]; done) | (rw [itr_s, ← qy]; first | (simp [w_sel, c_2, c_4, c_6, c_14, c_16, hb9, c_19, ekn, c_20, c_20', up_s, up_n, nI_1, b2i]; done) | (simp_all [w_sel]; done) | grind [w_sel])) (by omega) _ _ M ls (lv_sub hl [3, 4, 5, 6, 7, 8, 9, 10, 11, 1, 0] rfl)
                          · -- c_20: Rr 4 ((a1 + (2 * k)) + 1) < Rr 4 ((a1 + (2 * kn)) + 1)
                            refine lv_iload hx hb dX2_waitedAt_124 (lv_at hl 11 rfl) ?_
                            refine lv_goto (tgt := 131) hx hb dX2_waitedAt_126 (by decide) ?_
                            refine lv_istore (lv' := [(9, .int (nI k)), (11, .int 1), (0, .ref h), (1, .int (nI a1)), (2, .int (nI n1)), (3, .int p3), (4, .int p4), (5, .int (nI c1)), (6, .int sm), (7, .int met), (8, .int (b2i lf)), (10, .int (nI k))]) hx hb dX2_waitedAt_131 hl (by decide) rfl (fun ls hl => ?_)
                            refine lv_iinc (v := nI (k + 1)) (lv' := [(10, .int (nI (k + 1))), (9, .int (nI k)), (11, .int 1), (0, .ref h), (1, .int (nI a1)), (2, .int (nI n1)), (3, .int p3), (4, .int p4), (5, .int (nI c1)), (6, .int sm), (7, .int met), (8, .int (b2i lf))]) hx hb dX2_waitedAt_133 hl (k := 11) rfl (mk_inc _) (by decide) rfl (fun ls hl => ?_)
                            refine lv_goto (tgt := 45) hx hb dX2_waitedAt_136 (by decide) ?_
                            exact L_5ih  (k + 1) (nI k) (by omega) (by first | (rw [itr_s, ← qy]; done) | (rw [itr_s, ← qy]; first | (simp [w_sel, c_2, c_4, c_6, c_14, c_16, hb9, c_19, ekn, c_20, c_20', up_s, up_n, nI_1, b2i]; done) | (simp_all [w_sel]; done) | grind [w_sel])) (by omega) _ _ M ls (lv_sub hl [3, 4, 5, 6, 7, 8, 9, 10, 11, 1, 0] rfl)
              exact L_5 ((n1 - 0) + 1) 0 (-1000000) (Nat.zero_le _) (by first | rfl | (simp only [itr]; assumption) | (simp [itr, c_2, c_4, up_s, up_n, nI_1, b2i]; done)) (Nat.lt_succ_self _) _ _ M ls (lv_sub hl [2, 3, 4, 5, 6, 7, 8, 9, 10, 1, 0] rfl)
        exact L_3 ((if true = true then cntF (fun _ => false) n1 + 1 else 0) + 1) (fun _ => false) f 0 0 true (fun j hj => b_0 j) (by rw [ef0]) (fun q => by cases q) (Nat.lt_succ_self _) _ _ M ls (lv_sub hl [3, 4, 5, 6, 7, 8, 2, 1, 0] rfl)
      · -- c_2: nI j < 8
        refine lv_aload_n hx hb dX2_waitedAt_10 rfl (lv_at hl 0 rfl) ?_
        refine mg_45 X M dX2_waitedAt_11 ?_
        refine lv_iload hx hb dX2_waitedAt_14 (lv_at hl 6 rfl) ?_
        refine lv_iconst (v := 0) hx hb dX2_waitedAt_16 (by decide) ?_
        refine ms_45 X M (j := j) (vp_in_nI (by omega) (by omega)) (nI_clamp (by omega)) dX2_waitedAt_17 (fun H locs M => ?_)
        refine lv_iinc (v := nI (j + 1)) (lv' := [(6, .int (nI (j + 1))), (0, .ref h), (1, .int (nI a1)), (2, .int (nI n1)), (3, .int p3), (4, .int p4), (5, .int (nI c1))]) hx hb dX2_waitedAt_18 hl (k := 6) rfl (mk_inc _) (by decide) rfl (fun ls hl => ?_)
        refine lv_goto (tgt := 3) hx hb dX2_waitedAt_21 (by decide) ?_
        exact L_1ih  (j + 1) (va_up f j 0) (by omega) (by rw [itr_s, ← qf]) (by omega) _ _ (by rw [mset_45] at M; exact M) ls (lv_sub hl [1, 2, 3, 4, 5, 6, 0] rfl)
  exact L_1 ((8 - 0) + 1) 0 (Rr 45) (by omega) rfl (Nat.lt_succ_self _) _ _ (by rw [up_id (show Rr 45 = Rr 45 from rfl)]; exact M) ls (lv_sub hl [1, 2, 3, 4, 5, 6, 0] rfl)

