/-! numbers and rows that every walk of this claim uses -/
def inB (lo hi x : Int32) : Bool := decide (lo ≤ x) && decide (x ≤ hi)
theorem inB_t {lo hi x : Int32} : inB lo hi x = true ↔ lo ≤ x ∧ x ≤ hi := by simp [inB]
theorem inB_f {lo hi x : Int32} : inB lo hi x = false ↔ ¬ (lo ≤ x ∧ x ≤ hi) := by rw [← Bool.not_eq_true, inB_t]
def inL (v lo hi : Int64) : Bool := decide (lo ≤ v) && decide (v ≤ hi)
theorem inL_t {v lo hi : Int64} : inL v lo hi = true ↔ lo ≤ v ∧ v ≤ hi := by simp [inL]
theorem inL_i {v lo hi : Int32} {v' lo' hi' : Int64} (h0 : v.toInt64 = v') (h1 : lo.toInt64 = lo') (h2 : hi.toInt64 = hi') : inL v' lo' hi' = inB lo hi v := by
  subst h0 h1 h2
  simp [inL, inB, Int64.le_iff_toInt_le, Int32.le_iff_toInt_le, Int32.toInt_toInt64]
def b2i (b : Bool) : Int32 := if b = true then 1 else 0
theorem b2i_t : b2i true = 1 := rfl
theorem b2i_f : b2i false = 0 := rfl
theorem b2i_nar (b : Bool) : narrow .boolean (.int (b2i b)) = .int (b2i b) := by cases b <;> rfl
/-- f over 0, 1, .. n-1, from a -/
def itr {α : Type} (f : Nat → α → α) : Nat → α → α
  | 0, a => a
  | n + 1, a => f n (itr f n a)
theorem itr_s {α : Type} (f : Nat → α → α) (n : Nat) (a : α) : itr f (n + 1) a = f n (itr f n a) := rfl
theorem nI_mul (a b : Nat) : nI a * nI b = nI (a * b) := (Int32.ofNat_mul a b).symm
theorem mk_inc (a : Nat) : nI a + Int32.ofInt 1 = nI (a + 1) := nI_1 a
theorem n32 {n N : Nat} (h : n ≤ N) (hN : N < 2 ^ 31) : n < 2 ^ 31 := Nat.lt_of_le_of_lt h hN
theorem vp_inI {x : Int32} {n : Nat} (h : x.toNatClampNeg < n) (h0 : 0 ≤ x) : vp_in x n := by
  intro q
  rcases q with q | q
  · exact Int32.not_lt.mpr h0 q
  · omega
theorem clampI {x : Int32} (h : 0 ≤ x) : (x.toNatClampNeg : Int) = x.toInt := by
  have h1 : 0 ≤ x.toInt := by rw [Int32.le_iff_toInt_le] at h; exact h
  show ((x.toInt).toNat : Int) = x.toInt
  omega
theorem vp_inB {lo hi x : Int32} {n : Nat} (h : inB lo hi x = true) (h0 : 0 ≤ lo) (h1 : hi.toInt < n) : vp_in x n := by
  obtain ⟨a, b⟩ := inB_t.mp h
  have hx : 0 ≤ x := Int32.le_trans h0 a
  refine vp_inI ?_ hx
  have := clampI hx
  rw [Int32.le_iff_toInt_le] at b
  omega
theorem clamp_lt {x N : Int32} {n : Nat} (hN : N.toNatClampNeg = n) (h0 : 0 ≤ x) (h : x < N) : x.toNatClampNeg < n := by
  have h1 := clampI h0
  have h2 : 0 ≤ N := by grind
  have h3 := clampI h2
  rw [Int32.lt_iff_toInt_lt] at h
  omega
theorem vp_inN {x N : Int32} {n : Nat} (hN : N.toNatClampNeg = n) (h0 : 0 ≤ x) (h : x < N) : vp_in x n := vp_inI (clamp_lt hN h0 h) h0
theorem nJ_of {x : Int32} (h : 0 ≤ x) : x = nI x.toNatClampNeg := by
  apply Int32.toInt_inj.mp
  have h1 := clampI h
  have h2 := x.toInt_lt
  rw [nI_toInt (by omega)]
  omega
/-- a number that is not below 0 is a count -/
theorem nI_ex {x N : Int32} {n : Nat} (hN : N.toNatClampNeg = n) (h0 : 0 ≤ x) (h : x < N) : ∃ k : Nat, k < n ∧ x = nI k := ⟨x.toNatClampNeg, clamp_lt hN h0 h, nJ_of h0⟩
theorem vp_ex {x : Int32} {n : Nat} (h : vp_in x n) : ∃ k : Nat, k < n ∧ x = nI k := by
  have h1 : 0 ≤ x := Int32.not_lt.mp fun q => h (Or.inl q)
  exact ⟨x.toNatClampNeg, Nat.not_le.mp fun q => h (Or.inr q), nJ_of h1⟩
theorem vp_mono {x : Int32} {i n : Nat} (h : vp_in x i) (hn : i ≤ n) : vp_in x n := fun q => h (q.imp id (fun z => Nat.le_trans hn z))
theorem vp_or {x N : Int32} {i n : Nat} (h : x = N ∨ vp_in x i) (hne : ¬ x = N) (hn : i ≤ n) : vp_in x n := h.elim (fun q => absurd q hne) (fun q => vp_mono q hn)
theorem inB_ex {hi x : Int32} {n : Nat} (h : inB 0 hi x = true) (hn : hi.toNatClampNeg = n) : ∃ k : Nat, k ≤ n ∧ x = nI k := by
  obtain ⟨a, b⟩ := inB_t.mp h
  refine ⟨x.toNatClampNeg, ?_, nJ_of a⟩
  have h1 := clampI a
  have h2 := clampI (Int32.le_trans a b)
  rw [Int32.le_iff_toInt_le] at b
  omega
abbrev cnB (x N : Int32) : Prop := 0 ≤ x ∧ x ≤ N
theorem cnB_ex {x N : Int32} {n : Nat} (h : cnB x N) (hn : N.toNatClampNeg = n) : ∃ k : Nat, k ≤ n ∧ x = nI k := inB_ex (inB_t.mpr h) hn
theorem cnB_vp {x N : Int32} {n m : Nat} (h : cnB x N) (hn : N.toNatClampNeg = n) (hm : n < m) : vp_in x m := by
  obtain ⟨k, hk, rfl⟩ := cnB_ex h hn
  have hk2 : k < 2 ^ 31 := by
    have := nJ_of h.1
    have q : N.toInt < 2 ^ 31 := N.toInt_lt
    have c1 := clampI (Int32.le_trans h.1 h.2)
    omega
  refine vp_inI ?_ h.1
  rw [nI_clamp hk2]; omega
/-- the best so far: none, or one of those met -/
theorem itr_in {f : Nat → Int32 → Int32} {N : Int32} (hf : ∀ k x, f k x = x ∨ f k x = nI k) : ∀ n : Nat, n < 2 ^ 31 → itr f n N = N ∨ vp_in (itr f n N) n := by
  intro n
  induction n with
  | zero => intro _; exact Or.inl rfl
  | succ n ih =>
    intro hn
    rw [itr_s]
    rcases hf n (itr f n N) with q | q <;> rw [q]
    · exact (ih (by omega)).imp id (fun z => vp_mono z (by omega))
    · exact Or.inr (vp_in_nI (by omega) hn)
theorem up_s {α : Type} (f : Nat → α) (k : Nat) (v : α) : va_up f k v k = v := by simp [va_up]
theorem up_n {α : Type} (f : Nat → α) {k j : Nat} (v : α) (h : j ≠ k) : va_up f k v j = f j := by simp [va_up, h]
theorem cnB_le {x N : Int32} {n : Nat} (h : cnB x N) (hn : N.toNatClampNeg = n) : x.toNatClampNeg ≤ n := by
  have h1 := clampI h.1
  have h2 := clampI (Int32.le_trans h.1 h.2)
  have b := h.2
  rw [Int32.le_iff_toInt_le] at b
  omega
/-- a place in a list that has n members, at most N -/
theorem at_ex {x n N : Int32} {m : Nat} (h : inB 0 (n - 1) x = true) (hn : cnB n N) (hN : N.toNatClampNeg = m) : ∃ k : Nat, (k < n.toNatClampNeg ∧ k < m) ∧ x = nI k := by
  obtain ⟨a, b⟩ := inB_t.mp h
  have h3 : x < n := by grind
  have h1 := cnB_le hn hN
  have h2 := clamp_lt (N := n) rfl a h3
  exact ⟨x.toNatClampNeg, ⟨h2, by omega⟩, nJ_of a⟩
theorem nI_lt_ne {n N : Nat} (h : ¬ nI n = nI N) (h2 : n ≤ N) : n < N := by
  rcases Nat.lt_or_ge n N with q | q
  · exact q
  · exact absurd (by rw [show n = N by omega]) h
theorem nat_ge0 {x : Int32} (h : 0 ≤ x) : ∃ k : Nat, k < 2 ^ 31 ∧ x = nI k := ⟨x.toNatClampNeg, by have := clampI h; have := x.toInt_lt; omega, nJ_of h⟩
theorem nI_subN {a b : Nat} (h : b ≤ a) : nI a - nI b = nI (a - b) := by
  have e : nI a = nI (a - b) + nI b := by rw [nI_add, Nat.sub_add_cancel h]
  rw [e]; grind
theorem mk_dec (a : Nat) : nI a + Int32.ofInt (-1) = nI a - 1 := by
  rw [show Int32.ofInt (-1) = -1 from rfl]; grind
theorem add64 {a b n : Nat} {x N : Int32} (ha : a < 2 ^ 31) (hb : b < 2 ^ 31) (h : (nI a).toInt64 + (nI b).toInt64 ≤ x.toInt64) (hx : cnB x N) (hN : N.toNatClampNeg = n) : a + b ≤ x.toNatClampNeg ∧ a + b ≤ n := by
  have h1 := cnB_le hx hN
  have h2 := clampI hx.1
  rw [Int64.le_iff_toInt_le, Int64.toInt_add, Int32.toInt_toInt64, Int32.toInt_toInt64, Int32.toInt_toInt64, nI_toInt ha, nI_toInt hb, Int.bmod_eq_of_le (by omega) (by omega)] at h
  omega
theorem dec_lt0 {r : Nat} (hr : r < 2 ^ 31) (h : nI r - 1 < 0) : r = 0 := by
  rcases r with _ | r
  · rfl
  · rw [nI_pred] at h
    exact absurd h (Int32.not_lt.mpr (by rw [Int32.le_iff_toInt_le, nI_toInt (by omega)]; show (0 : Int) ≤ _; omega))
theorem dec_ge0 {r : Nat} (h : 0 ≤ nI r - 1) : ∃ q, r = q + 1 := by
  rcases r with _ | r
  · exact absurd h (by decide)
  · exact ⟨r, rfl⟩
theorem all_succ {p : Nat → Bool} {i : Nat} (h : ∀ j, j < i → p j = true) (hi : p i = true) : ∀ j, j < i + 1 → p j = true := by
  intro j hj
  rcases Nat.lt_or_ge j i with q | q
  · exact h j q
  · rw [show j = i by omega]; exact hi
theorem nI_inj {a b : Nat} (h : nI a = nI b) (ha : a < 2 ^ 31) (hb : b < 2 ^ 31) : a = b := by
  have := congrArg Int32.toNatClampNeg h
  rwa [nI_clamp ha, nI_clamp hb] at this
theorem shl_pow : ∀ n, n < 13 → (1 : Int32) <<< (nI n &&& 31) = nI (2 ^ n) := by decide +kernel
theorem pow_le : ∀ n, n < 13 → 2 ^ n ≤ 4096 := by decide +kernel
theorem up_id {α : Type} {f : Nat → α} {k : Nat} {v : α} (h : f k = v) : va_up f k v = f := by
  funext j; unfold va_up; split
  · rename_i e; rw [e, h]
  · rfl
theorem up_up {α : Type} (f : Nat → α) (k : Nat) (v w : α) : va_up (va_up f k v) k w = va_up f k w := by
  funext j; unfold va_up; split <;> rfl
theorem tab_out {x : Int32} (n : Nat) (hn : n < 2 ^ 31) (h : ∀ k : Nat, k ≤ n → ¬ x = nI k) : x.toInt < 0 ∨ (n : Int) < x.toInt := by
  rcases Int.lt_or_le x.toInt 0 with q | q
  · exact Or.inl q
  · refine Or.inr (Int.not_le.mp fun z => ?_)
    have h0 : 0 ≤ x := by rw [Int32.le_iff_toInt_le]; exact q
    have h1 := clampI h0
    exact h x.toNatClampNeg (by omega) (nJ_of h0)
/-- a loop whose measure falls -/
def whl {α : Type} (c : α → Bool) (b : α → α) : Nat → α → α
  | 0, a => a
  | n + 1, a => if c a = true then whl c b n (b a) else a
def wh {α : Type} (c : α → Bool) (b : α → α) (μ : α → Nat) (a : α) : α := whl c b (μ a + 1) a
theorem whl_en {α : Type} {c : α → Bool} {b : α → α} {μ : α → Nat} {I : α → Prop} (hI : ∀ a, I a → c a = true → I (b a) ∧ μ (b a) < μ a) : ∀ (n m : Nat) (a : α), I a → μ a < n → μ a < m → whl c b n a = whl c b m a := by
  intro n
  induction n with
  | zero => intro m a _ h; exact absurd h (Nat.not_lt_zero _)
  | succ n ih =>
    intro m a ha h1 h2
    rcases m with _ | m
    · exact absurd h2 (Nat.not_lt_zero _)
    · show (if c a = true then whl c b n (b a) else a) = (if c a = true then whl c b m (b a) else a)
      by_cases q : c a = true
      · rw [if_pos q, if_pos q]
        have := hI a ha q
        exact ih m (b a) this.1 (by omega) (by omega)
      · rw [if_neg q, if_neg q]
theorem wh_t {α : Type} {c : α → Bool} {b : α → α} {μ : α → Nat} {I : α → Prop} (hI : ∀ a, I a → c a = true → I (b a) ∧ μ (b a) < μ a) {a : α} (ha : I a) (h : c a = true) : wh c b μ a = wh c b μ (b a) := by
  have q := hI a ha h
  show (if c a = true then whl c b (μ a) (b a) else a) = _
  rw [if_pos h]
  exact whl_en hI _ _ _ q.1 q.2 (Nat.lt_succ_self _)
theorem wh_f {α : Type} {c : α → Bool} {b : α → α} {μ : α → Nat} {a : α} (h : c a = false) : wh c b μ a = a := by
  show (if c a = true then whl c b (μ a) (b a) else a) = a
  rw [if_neg (by rw [h]; decide)]
section NROWS
variable {p : Program} {l : Launch} {e : Env} {R : Room} {s : State} {m : MethodId} {args : Array Value} {below : List Frame} {meth : Method} {c : Code} {H : Heap} {locs : List Loc} {cells slots : Nat} {Q : State → Prop}
variable {cc : ByteArray} {nL pc : Nat} {ls : Array Slot} {rest : List Value} {off : Int} {tgt : Nat}
theorem lv_asi {x y : Int32} (h : x = y) (k : W p l e R s m args below meth c H locs cells slots Q (F0 m pc ls (.int y :: rest))) : W p l e R s m args below meth c H locs cells slots Q (F0 m pc ls (.int x :: rest)) := h ▸ k
theorem lv_asl {x y : Int64} (h : x = y) (k : W p l e R s m args below meth c H locs cells slots Q (F0 m pc ls (.long y :: rest))) : W p l e R s m args below meth c H locs cells slots Q (F0 m pc ls (.long x :: rest)) := h ▸ k
theorem lb_icmp_lt (hexec : p.tables.exec = Jvm.exec) (hb : c.code = cc) {x y : Int32} (hdg : decode cc pc = .ok (.if_icmp .lt off, 3)) (ht : (pc : Int) + off = (tgt : Int)) (kt : x < y → ¬ y ≤ x → W p l e R s m args below meth c H locs cells slots Q (F0 m tgt ls rest)) (kf : y ≤ x → ¬ x < y → W p l e R s m args below meth c H locs cells slots Q (F0 m (pc + 3) ls rest)) : W p l e R s m args below meth c H locs cells slots Q (F0 m pc ls (.int y :: .int x :: rest)) :=
  lv_icmp_lt hexec hb hdg ht (fun h => kt h (by first | exact Int32.not_lt.mpr h | exact Int32.not_le.mpr h)) (fun h => kf (by first | exact Int32.not_lt.mp h | exact Int32.not_le.mp h) h)
theorem lb_if_lt (hexec : p.tables.exec = Jvm.exec) (hb : c.code = cc) {x : Int32} (hdg : decode cc pc = .ok (.ifCond .lt off, 3)) (ht : (pc : Int) + off = (tgt : Int)) (kt : x < 0 → ¬ 0 ≤ x → W p l e R s m args below meth c H locs cells slots Q (F0 m tgt ls rest)) (kf : 0 ≤ x → ¬ x < 0 → W p l e R s m args below meth c H locs cells slots Q (F0 m (pc + 3) ls rest)) : W p l e R s m args below meth c H locs cells slots Q (F0 m pc ls (.int x :: rest)) :=
  lv_if_lt hexec hb hdg ht (fun h => kt h (by first | exact Int32.not_lt.mpr h | exact Int32.not_le.mpr h)) (fun h => kf (by first | exact Int32.not_lt.mp h | exact Int32.not_le.mp h) h)
theorem lc_if_lt (hexec : p.tables.exec = Jvm.exec) (hb : c.code = cc) {x y : Int64} (hdg : decode cc pc = .ok (.ifCond .lt off, 3)) (ht : (pc : Int) + off = (tgt : Int)) (kt : x < y → ¬ y ≤ x → W p l e R s m args below meth c H locs cells slots Q (F0 m tgt ls rest)) (kf : y ≤ x → ¬ x < y → W p l e R s m args below meth c H locs cells slots Q (F0 m (pc + 3) ls rest)) : W p l e R s m args below meth c H locs cells slots Q (F0 m pc ls (.int (lg_cmp x y) :: rest)) :=
  lv_if_lt hexec hb hdg ht (fun h => kt ((lg_cmp_lt x y).mp h) (by first | exact Int64.not_lt.mpr ((lg_cmp_lt x y).mp h) | exact Int64.not_le.mpr ((lg_cmp_lt x y).mp h))) (fun h => kf (by first | exact Int64.not_lt.mp (fun q => h ((lg_cmp_lt x y).mpr q)) | exact Int64.not_le.mp (fun q => h ((lg_cmp_lt x y).mpr q))) (fun q => h ((lg_cmp_lt x y).mpr q)))
theorem ln_icmp_lt (hexec : p.tables.exec = Jvm.exec) (hb : c.code = cc) {a b : Nat} (ha : a < 2 ^ 31) (hb2 : b < 2 ^ 31) (hdg : decode cc pc = .ok (.if_icmp .lt off, 3)) (ht : (pc : Int) + off = (tgt : Int)) (kt : a < b → W p l e R s m args below meth c H locs cells slots Q (F0 m tgt ls rest)) (kf : b ≤ a → W p l e R s m args below meth c H locs cells slots Q (F0 m (pc + 3) ls rest)) : W p l e R s m args below meth c H locs cells slots Q (F0 m pc ls (.int (nI b) :: .int (nI a) :: rest)) :=
  lv_icmp_lt hexec hb hdg ht (fun h => kt ((nI_ltI ha hb2).mp h)) (fun h => kf (by have q : ¬ a < b := fun z => h ((nI_ltI ha hb2).mpr z); omega))
theorem lb_icmp_ge (hexec : p.tables.exec = Jvm.exec) (hb : c.code = cc) {x y : Int32} (hdg : decode cc pc = .ok (.if_icmp .ge off, 3)) (ht : (pc : Int) + off = (tgt : Int)) (kt : y ≤ x → ¬ x < y → W p l e R s m args below meth c H locs cells slots Q (F0 m tgt ls rest)) (kf : x < y → ¬ y ≤ x → W p l e R s m args below meth c H locs cells slots Q (F0 m (pc + 3) ls rest)) : W p l e R s m args below meth c H locs cells slots Q (F0 m pc ls (.int y :: .int x :: rest)) :=
  lv_icmp_ge hexec hb hdg ht (fun h => kt h (by first | exact Int32.not_lt.mpr h | exact Int32.not_le.mpr h)) (fun h => kf (by first | exact Int32.not_lt.mp h | exact Int32.not_le.mp h) h)
theorem lb_if_ge (hexec : p.tables.exec = Jvm.exec) (hb : c.code = cc) {x : Int32} (hdg : decode cc pc = .ok (.ifCond .ge off, 3)) (ht : (pc : Int) + off = (tgt : Int)) (kt : 0 ≤ x → ¬ x < 0 → W p l e R s m args below meth c H locs cells slots Q (F0 m tgt ls rest)) (kf : x < 0 → ¬ 0 ≤ x → W p l e R s m args below meth c H locs cells slots Q (F0 m (pc + 3) ls rest)) : W p l e R s m args below meth c H locs cells slots Q (F0 m pc ls (.int x :: rest)) :=
  lv_if_ge hexec hb hdg ht (fun h => kt h (by first | exact Int32.not_lt.mpr h | exact Int32.not_le.mpr h)) (fun h => kf (by first | exact Int32.not_lt.mp h | exact Int32.not_le.mp h) h)
theorem lc_if_ge (hexec : p.tables.exec = Jvm.exec) (hb : c.code = cc) {x y : Int64} (hdg : decode cc pc = .ok (.ifCond .ge off, 3)) (ht : (pc : Int) + off = (tgt : Int)) (kt : y ≤ x → ¬ x < y → W p l e R s m args below meth c H locs cells slots Q (F0 m tgt ls rest)) (kf : x < y → ¬ y ≤ x → W p l e R s m args below meth c H locs cells slots Q (F0 m (pc + 3) ls rest)) : W p l e R s m args below meth c H locs cells slots Q (F0 m pc ls (.int (lg_cmp x y) :: rest)) :=
  lv_if_ge hexec hb hdg ht (fun h => kt ((lg_cmp_ge x y).mp h) (by first | exact Int64.not_lt.mpr ((lg_cmp_ge x y).mp h) | exact Int64.not_le.mpr ((lg_cmp_ge x y).mp h))) (fun h => kf (by first | exact Int64.not_lt.mp (fun q => h ((lg_cmp_ge x y).mpr q)) | exact Int64.not_le.mp (fun q => h ((lg_cmp_ge x y).mpr q))) (fun q => h ((lg_cmp_ge x y).mpr q)))
theorem ln_icmp_ge (hexec : p.tables.exec = Jvm.exec) (hb : c.code = cc) {a b : Nat} (ha : a < 2 ^ 31) (hb2 : b < 2 ^ 31) (hdg : decode cc pc = .ok (.if_icmp .ge off, 3)) (ht : (pc : Int) + off = (tgt : Int)) (kt : b ≤ a → W p l e R s m args below meth c H locs cells slots Q (F0 m tgt ls rest)) (kf : a < b → W p l e R s m args below meth c H locs cells slots Q (F0 m (pc + 3) ls rest)) : W p l e R s m args below meth c H locs cells slots Q (F0 m pc ls (.int (nI b) :: .int (nI a) :: rest)) :=
  lv_icmp_ge hexec hb hdg ht (fun h => kt ((nI_leI hb2 ha).mp h)) (fun h => kf (by have q : ¬ b ≤ a := fun z => h ((nI_leI hb2 ha).mpr z); omega))
theorem lb_icmp_gt (hexec : p.tables.exec = Jvm.exec) (hb : c.code = cc) {x y : Int32} (hdg : decode cc pc = .ok (.if_icmp .gt off, 3)) (ht : (pc : Int) + off = (tgt : Int)) (kt : y < x → ¬ x ≤ y → W p l e R s m args below meth c H locs cells slots Q (F0 m tgt ls rest)) (kf : x ≤ y → ¬ y < x → W p l e R s m args below meth c H locs cells slots Q (F0 m (pc + 3) ls rest)) : W p l e R s m args below meth c H locs cells slots Q (F0 m pc ls (.int y :: .int x :: rest)) :=
  lv_icmp_gt hexec hb hdg ht (fun h => kt h (by first | exact Int32.not_lt.mpr h | exact Int32.not_le.mpr h)) (fun h => kf (by first | exact Int32.not_lt.mp h | exact Int32.not_le.mp h) h)
theorem lb_if_gt (hexec : p.tables.exec = Jvm.exec) (hb : c.code = cc) {x : Int32} (hdg : decode cc pc = .ok (.ifCond .gt off, 3)) (ht : (pc : Int) + off = (tgt : Int)) (kt : 0 < x → ¬ x ≤ 0 → W p l e R s m args below meth c H locs cells slots Q (F0 m tgt ls rest)) (kf : x ≤ 0 → ¬ 0 < x → W p l e R s m args below meth c H locs cells slots Q (F0 m (pc + 3) ls rest)) : W p l e R s m args below meth c H locs cells slots Q (F0 m pc ls (.int x :: rest)) :=
  lv_if_gt hexec hb hdg ht (fun h => kt h (by first | exact Int32.not_lt.mpr h | exact Int32.not_le.mpr h)) (fun h => kf (by first | exact Int32.not_lt.mp h | exact Int32.not_le.mp h) h)
theorem lc_if_gt (hexec : p.tables.exec = Jvm.exec) (hb : c.code = cc) {x y : Int64} (hdg : decode cc pc = .ok (.ifCond .gt off, 3)) (ht : (pc : Int) + off = (tgt : Int)) (kt : y < x → ¬ x ≤ y → W p l e R s m args below meth c H locs cells slots Q (F0 m tgt ls rest)) (kf : x ≤ y → ¬ y < x → W p l e R s m args below meth c H locs cells slots Q (F0 m (pc + 3) ls rest)) : W p l e R s m args below meth c H locs cells slots Q (F0 m pc ls (.int (lg_cmp x y) :: rest)) :=
  lv_if_gt hexec hb hdg ht (fun h => kt ((lg_cmp_gt x y).mp h) (by first | exact Int64.not_lt.mpr ((lg_cmp_gt x y).mp h) | exact Int64.not_le.mpr ((lg_cmp_gt x y).mp h))) (fun h => kf (by first | exact Int64.not_lt.mp (fun q => h ((lg_cmp_gt x y).mpr q)) | exact Int64.not_le.mp (fun q => h ((lg_cmp_gt x y).mpr q))) (fun q => h ((lg_cmp_gt x y).mpr q)))
theorem ln_icmp_gt (hexec : p.tables.exec = Jvm.exec) (hb : c.code = cc) {a b : Nat} (ha : a < 2 ^ 31) (hb2 : b < 2 ^ 31) (hdg : decode cc pc = .ok (.if_icmp .gt off, 3)) (ht : (pc : Int) + off = (tgt : Int)) (kt : b < a → W p l e R s m args below meth c H locs cells slots Q (F0 m tgt ls rest)) (kf : a ≤ b → W p l e R s m args below meth c H locs cells slots Q (F0 m (pc + 3) ls rest)) : W p l e R s m args below meth c H locs cells slots Q (F0 m pc ls (.int (nI b) :: .int (nI a) :: rest)) :=
  lv_icmp_gt hexec hb hdg ht (fun h => kt ((nI_ltI hb2 ha).mp h)) (fun h => kf (by have q : ¬ b < a := fun z => h ((nI_ltI hb2 ha).mpr z); omega))
theorem lb_icmp_le (hexec : p.tables.exec = Jvm.exec) (hb : c.code = cc) {x y : Int32} (hdg : decode cc pc = .ok (.if_icmp .le off, 3)) (ht : (pc : Int) + off = (tgt : Int)) (kt : x ≤ y → ¬ y < x → W p l e R s m args below meth c H locs cells slots Q (F0 m tgt ls rest)) (kf : y < x → ¬ x ≤ y → W p l e R s m args below meth c H locs cells slots Q (F0 m (pc + 3) ls rest)) : W p l e R s m args below meth c H locs cells slots Q (F0 m pc ls (.int y :: .int x :: rest)) :=
  lv_icmp_le hexec hb hdg ht (fun h => kt h (by first | exact Int32.not_lt.mpr h | exact Int32.not_le.mpr h)) (fun h => kf (by first | exact Int32.not_lt.mp h | exact Int32.not_le.mp h) h)
theorem lb_if_le (hexec : p.tables.exec = Jvm.exec) (hb : c.code = cc) {x : Int32} (hdg : decode cc pc = .ok (.ifCond .le off, 3)) (ht : (pc : Int) + off = (tgt : Int)) (kt : x ≤ 0 → ¬ 0 < x → W p l e R s m args below meth c H locs cells slots Q (F0 m tgt ls rest)) (kf : 0 < x → ¬ x ≤ 0 → W p l e R s m args below meth c H locs cells slots Q (F0 m (pc + 3) ls rest)) : W p l e R s m args below meth c H locs cells slots Q (F0 m pc ls (.int x :: rest)) :=
  lv_if_le hexec hb hdg ht (fun h => kt h (by first | exact Int32.not_lt.mpr h | exact Int32.not_le.mpr h)) (fun h => kf (by first | exact Int32.not_lt.mp h | exact Int32.not_le.mp h) h)
theorem lc_if_le (hexec : p.tables.exec = Jvm.exec) (hb : c.code = cc) {x y : Int64} (hdg : decode cc pc = .ok (.ifCond .le off, 3)) (ht : (pc : Int) + off = (tgt : Int)) (kt : x ≤ y → ¬ y < x → W p l e R s m args below meth c H locs cells slots Q (F0 m tgt ls rest)) (kf : y < x → ¬ x ≤ y → W p l e R s m args below meth c H locs cells slots Q (F0 m (pc + 3) ls rest)) : W p l e R s m args below meth c H locs cells slots Q (F0 m pc ls (.int (lg_cmp x y) :: rest)) :=
  lv_if_le hexec hb hdg ht (fun h => kt ((lg_cmp_le x y).mp h) (by first | exact Int64.not_lt.mpr ((lg_cmp_le x y).mp h) | exact Int64.not_le.mpr ((lg_cmp_le x y).mp h))) (fun h => kf (by first | exact Int64.not_lt.mp (fun q => h ((lg_cmp_le x y).mpr q)) | exact Int64.not_le.mp (fun q => h ((lg_cmp_le x y).mpr q))) (fun q => h ((lg_cmp_le x y).mpr q)))
theorem ln_icmp_le (hexec : p.tables.exec = Jvm.exec) (hb : c.code = cc) {a b : Nat} (ha : a < 2 ^ 31) (hb2 : b < 2 ^ 31) (hdg : decode cc pc = .ok (.if_icmp .le off, 3)) (ht : (pc : Int) + off = (tgt : Int)) (kt : a ≤ b → W p l e R s m args below meth c H locs cells slots Q (F0 m tgt ls rest)) (kf : b < a → W p l e R s m args below meth c H locs cells slots Q (F0 m (pc + 3) ls rest)) : W p l e R s m args below meth c H locs cells slots Q (F0 m pc ls (.int (nI b) :: .int (nI a) :: rest)) :=
  lv_icmp_le hexec hb hdg ht (fun h => kt ((nI_leI ha hb2).mp h)) (fun h => kf (by have q : ¬ a ≤ b := fun z => h ((nI_leI ha hb2).mpr z); omega))
theorem lc_if_eq (hexec : p.tables.exec = Jvm.exec) (hb : c.code = cc) {x y : Int64} (hdg : decode cc pc = .ok (.ifCond .eq off, 3)) (ht : (pc : Int) + off = (tgt : Int)) (kt : x = y → W p l e R s m args below meth c H locs cells slots Q (F0 m tgt ls rest)) (kf : ¬ x = y → W p l e R s m args below meth c H locs cells slots Q (F0 m (pc + 3) ls rest)) : W p l e R s m args below meth c H locs cells slots Q (F0 m pc ls (.int (lg_cmp x y) :: rest)) :=
  lv_if_eq hexec hb hdg ht (fun h => kt ((lg_cmp_eq x y).mp h)) (fun h => kf (fun q => h ((lg_cmp_eq x y).mpr q)))
theorem lz_if_eq (hexec : p.tables.exec = Jvm.exec) (hb : c.code = cc) {z : Bool} (hdg : decode cc pc = .ok (.ifCond .eq off, 3)) (ht : (pc : Int) + off = (tgt : Int)) (kt : z = false → W p l e R s m args below meth c H locs cells slots Q (F0 m tgt ls rest)) (kf : z = true → W p l e R s m args below meth c H locs cells slots Q (F0 m (pc + 3) ls rest)) : W p l e R s m args below meth c H locs cells slots Q (F0 m pc ls (.int (b2i z) :: rest)) :=
  lv_if_eq hexec hb hdg ht (fun h => kt (by cases z <;> first | rfl | exact absurd h (by decide))) (fun h => kf (by cases z <;> first | rfl | exact absurd h (by decide)))
theorem lc_if_ne (hexec : p.tables.exec = Jvm.exec) (hb : c.code = cc) {x y : Int64} (hdg : decode cc pc = .ok (.ifCond .ne off, 3)) (ht : (pc : Int) + off = (tgt : Int)) (kt : ¬ x = y → W p l e R s m args below meth c H locs cells slots Q (F0 m tgt ls rest)) (kf : x = y → W p l e R s m args below meth c H locs cells slots Q (F0 m (pc + 3) ls rest)) : W p l e R s m args below meth c H locs cells slots Q (F0 m pc ls (.int (lg_cmp x y) :: rest)) :=
  lv_if_ne hexec hb hdg ht (fun h => kt (fun q => h ((lg_cmp_eq x y).mpr q))) (fun h => kf ((lg_cmp_eq x y).mp h))
theorem lz_if_ne (hexec : p.tables.exec = Jvm.exec) (hb : c.code = cc) {z : Bool} (hdg : decode cc pc = .ok (.ifCond .ne off, 3)) (ht : (pc : Int) + off = (tgt : Int)) (kt : z = true → W p l e R s m args below meth c H locs cells slots Q (F0 m tgt ls rest)) (kf : z = false → W p l e R s m args below meth c H locs cells slots Q (F0 m (pc + 3) ls rest)) : W p l e R s m args below meth c H locs cells slots Q (F0 m pc ls (.int (b2i z) :: rest)) :=
  lv_if_ne hexec hb hdg ht (fun h => kt (by cases z <;> first | rfl | exact absurd h (by decide))) (fun h => kf (by cases z <;> first | rfl | exact absurd h (by decide)))
variable {y : MethodName} {bytes : ByteArray} {maxL n index : Nat} {ret : Option FieldType} {ws : List Cond} {rm : Room} {As st : List Value} {own : String}
/-- a static method that only counts: its answer v -/
theorem s_cI {v : Int32} (X : CallFix p m c cc nL s args lw_all own) (hM : Met l y ws rm (va_Pc As (fun _ => True)) (vp_Si (fun r => r = v)) 0 0 (fun _ => False)) (cw : CallB R s args own index y bytes maxL ret ws rm 0 0 n ∧ (Cond.static y).before args s = true) (hn : As.length = n) (hl : ls.size = nL) (hst : st = As.reverse ++ rest) (hW : (rest.map fun v => v.category).sum ≤ 8) (hdg : decode cc pc = .ok (.invokestatic index, 3)) (hf : cells ≤ R.cells ∧ slots ≤ R.slots) (kk : W p l e R s m args below meth c H locs cells slots Q (F0 m (pc + 3) ls (.int v :: rest))) : W p l e R s m args below meth c H locs cells slots Q (F0 m pc ls st) :=
  vp_callSi (W.runS (As := As) (rest := rest) X hM cw ⟨fun a U g mk q => q, fun U hU hW => ⟨rfl, trivial⟩⟩ rfl hn hl hst (lv_room (m := m) (pc := 0) (ls := ls) (rest := []) hW) hdg hf) (fun r hr => by subst hr; exact kk)
end NROWS
