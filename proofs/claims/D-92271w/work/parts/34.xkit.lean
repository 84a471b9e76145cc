/-! THE SYSTEM'S WORLD: what is known of the tables, of statics; the world itself -/
def xCl : List vw_C := [(RX2, TX2, 61), (RX0, TX0, 24), (RJ2, TJ2, 3), (RX1, TX1, 2), (RX4, TX4, 2), (RX7, TX7, 4), (RX8, TX8, 6), (RX9, TX9, 4), (RX10, TX10, 6), (RX11, TX11, 6), (RX12, TX12, 6), (RX13, TX13, 6), (RX14, TX14, 6), (RX3, TX3, 7), (RX6, TX6, 8), (RX5, TX5, 9), (RJ8, TJ8, 4), (RJ10, TJ10, 4)]
def xTy (dA : Nat → ClassId) : List (ClassId × FieldType) := [(dA 0, .int), (dA 1, .byte), (dA 2, .boolean), (dA 3, .object "DuskGates$Sheet"), (dA 4, .object "java/lang/Object")]
def xw (w : Cond) : Bool := match w with
  | .fieldLinkNest .. => true
  | .methodLinkNest .. => true
  | .castable .. => true
  | .declares _ => true
  | _ => false
theorem xw_warm {s U : State} (hW : s.WarmedH U.vm) {w : Cond} (hx : xw w = true) (h : va_Nw w s) : va_Nw w U := by
  cases w <;> first | exact va_Nw.warmF hW h | exact va_Nw.warmM hW h | exact va_Nw.warmC hW h | exact va_Nw.warmD hW h | (simp [xw] at hx)
theorem xw_same {u U : State} (hv : u.vm = U.vm) {w : Cond} (hx : xw w = true) (h : va_Nw w u) : va_Nw w U := by
  cases w <;> first | exact va_Nw.same rfl hv h | (simp [xw] at hx)
def yL_size : MethodName := ⟨"java/util/List", "size", "()I"⟩
def yL_get : MethodName := ⟨"java/util/List", "get", "(I)Ljava/lang/Object;"⟩
def yL_add : MethodName := ⟨"java/util/List", "add", "(Ljava/lang/Object;)Z"⟩
def yL_add_3 : MethodName := ⟨"java/util/List", "add", "(ILjava/lang/Object;)V"⟩
/-- an interface's method, and the one that a class has for it -/
def xFws : List (String × MethodName × MethodName) := [(RJ2, yL_size, yJ2_size), (RJ2, yL_get, yJ2_get), (RJ2, yL_add, yJ2_add), (RJ2, yL_add_3, yJ2_add_3), (RX10, ⟨"DuskGates$Marked", "seal", "()I"⟩, yX10_seal), (RX11, ⟨"DuskGates$Marked", "seal", "()I"⟩, yX10_seal), (RX12, ⟨"DuskGates$Marked", "seal", "()I"⟩, yX10_seal), (RX13, ⟨"DuskGates$Marked", "seal", "()I"⟩, yX10_seal), (RX14, ⟨"DuskGates$Marked", "seal", "()I"⟩, yX10_seal)]
theorem xFws_ok : ∀ q ∈ xFws, q.2.1.cls ≠ "java/lang/invoke/MethodHandle" ∧ q.2.1.cls ≠ "java/lang/invoke/VarHandle" := by decide +kernel
/-- what is not castable -/
def xNcs : List (String × String) := ["DuskGates$Pass", "DuskGates$Token", "DuskGates$Health", "DuskGates$Night", "DuskGates$Forged"].flatMap (fun a => (["DuskGates$Token", "DuskGates$Health", "DuskGates$Night", "DuskGates$Forged"].filter (fun b => a != b && !(a == "DuskGates$Forged" && b == "DuskGates$Health"))).map (fun b => (a, b))) ++ [("DuskGates$Finding", "java/lang/IndexOutOfBoundsException"), ("DuskGates$Finding", "java/lang/ClassCastException"), ("java/lang/ArrayIndexOutOfBoundsException", "DuskGates$Finding"), ("java/lang/ClassCastException", "DuskGates$Finding")]
/-- what stands in the tables all through a run, beside the words of lw_all -/
def xT (U : State) : Prop := (∀ w ∈ lw_tbl, xw w = true → va_Nw w U) ∧ (∀ q ∈ xFws, va_Fw q.1 q.2.1 q.2.2 U) ∧ (∀ q ∈ xNcs, va_Nc q.1 q.2 U) ∧ va_AO "DuskGates$Sheet" U ∧ va_AO "java/lang/Object" U ∧ (∃ mi, va_Mi "[Ljava/lang/Object;" mi U) ∧ va_Dc U
theorem xT.warm {s U : State} (hW : s.WarmedH U.vm) (h : xT s) : xT U :=
  ⟨fun w hw hx => xw_warm hW hx (h.1 w hw hx), fun q hq => (h.2.1 q hq).moved (xFws_ok q hq) hW.alike, fun q hq => (h.2.2.1 q hq).moved hW.alike, h.2.2.2.1.moved hW.alike, h.2.2.2.2.1.moved hW.alike, h.2.2.2.2.2.1.imp (fun _ z => z.moved hW.alike), h.2.2.2.2.2.2.moved hW.alike⟩
theorem xT.frame {U : State} {g : JFrame} {mk : MethodId} {a : Array Value} (h : xT U) : xT (U.calling g mk a) :=
  ⟨fun w hw hx => xw_same (u := U) (U := U.calling g mk a) rfl hx (h.1 w hw hx), fun q hq => (h.2.1 q hq).moved (u := U) (U := U.calling g mk a) (xFws_ok q hq) (Vm.Alike.refl U.vm), fun q hq => (h.2.2.1 q hq).moved (u := U) (U := U.calling g mk a) (Vm.Alike.refl U.vm), h.2.2.2.1.moved (u := U) (U := U.calling g mk a) (Vm.Alike.refl U.vm), h.2.2.2.2.1.moved (u := U) (U := U.calling g mk a) (Vm.Alike.refl U.vm), h.2.2.2.2.2.1.imp (fun _ z => va_Mi.moved (u := U) (U := U.calling g mk a) (Vm.Alike.refl U.vm) z), va_Dc.moved (u := U) (U := U.calling g mk a) (Vm.Alike.refl U.vm) h.2.2.2.2.2.2⟩
/-- statics that nobody writes: the empty row of ArrayList's, at e0 -/
def xZ (A : Nat → Prop) (e0 : Nat) (U : State) (H : Heap) : Prop := va_Z "java/util/ArrayList" "DEFAULTCAPACITY_EMPTY_ELEMENTDATA" "[Ljava/lang/Object;" (.ref e0) A U H ∧ va_T (.object "java/lang/Object") e0 0 (fun _ => .null) A U H
  ∧ vx_Zq "java/lang/Throwable" "UNASSIGNED_STACK" "[Ljava/lang/StackTraceElement;" A U H ∧ vx_Zq "java/lang/Throwable" "SUPPRESSED_SENTINEL" "Ljava/util/List;" A U H
theorem xZ.moved {A : Nat → Prop} {e0 : Nat} {u U : State} {H : Heap} (hvm : u.vm.Alike U.vm) (h : xZ A e0 u H) : xZ A e0 U H := ⟨h.1.moved hvm, h.2.1.moved hvm, h.2.2.1.moved hvm, h.2.2.2.moved hvm⟩
theorem xZ.kept {A : Nat → Prop} {e0 : Nat} {U : State} {H H1 : Heap} (h : xZ A e0 U H) (hq : ∀ a : Nat, a < H.size → ¬ A a → H1[a]? = H[a]?) : xZ A e0 U H1 := ⟨h.1.kept hq, h.2.1.kept hq, h.2.2.1.kept hq, h.2.2.2.kept hq⟩
/-- what holds of a state all through a run: the tables, the statics, the room for what is new -/
def xC (D : va_G) (dA : Nat → ClassId) (A : Nat → Prop) (e0 : Nat) (U : State) : Prop := va_K D xCl (xTy dA) U ∧ xT U ∧ xZ A e0 U U.heap ∧ ∀ q, U.heap.size ≤ q → A q
theorem xC.frame {D : va_G} {dA : Nat → ClassId} {A : Nat → Prop} {e0 : Nat} {U : State} {g : JFrame} {mk : MethodId} {a : Array Value} (h : xC D dA A e0 U) : xC D dA A e0 (U.calling g mk a) :=
  ⟨va_K.moved (u := U) (U := U.calling g mk a) (Vm.Alike.refl U.vm) h.1, h.2.1.frame, xZ.moved (u := U) (U := U.calling g mk a) (Vm.Alike.refl U.vm) h.2.2.1, h.2.2.2⟩
/-- what a walk knows all through -/
def xX (own : String) (p : Program) (s : State) (m : MethodId) (args : Array Value) (c : Code) (cc : ByteArray) (nL : Nat) (D : va_G) (dA : Nat → ClassId) (A : Nat → Prop) (e0 : Nat) : Prop := CallFix p m c cc nL s args lw_all own ∧ xC D dA A e0 s
section XX
variable {own : String} {p : Program} {s : State} {m : MethodId} {args : Array Value} {c : Code} {cc : ByteArray} {nL : Nat} {D : va_G} {dA : Nat → ClassId} {A : Nat → Prop} {e0 : Nat}
theorem xX.hx (X : xX own p s m args c cc nL D dA A e0) : p.tables.exec = Jvm.exec := X.1.1
theorem xX.hb (X : xX own p s m args c cc nL D dA A e0) : c.code = cc := X.1.2.1
theorem xX.hml (X : xX own p s m args c cc nL D dA A e0) : c.maxLocals = nL := X.1.2.2.1
theorem xX.ow (X : xX own p s m args c cc nL D dA A e0) : s.vm.findClass own = some m.cls := X.1.2.2.2.1
theorem xX.hts (X : xX own p s m args c cc nL D dA A e0) : ∀ w ∈ lw_all, w.before args s = true := X.1.2.2.2.2
theorem xX.K (X : xX own p s m args c cc nL D dA A e0) : va_K D xCl (xTy dA) s := X.2.1
theorem xX.T (X : xX own p s m args c cc nL D dA A e0) : xT s := X.2.2.1
theorem xX.Z (X : xX own p s m args c cc nL D dA A e0) : xZ A e0 s s.heap := X.2.2.2.1
theorem xX.hA (X : xX own p s m args c cc nL D dA A e0) : ∀ q, s.heap.size ≤ q → A q := X.2.2.2.2
/-- what holds of the caller's state holds of the callee's -/
theorem xX.C {H : Heap} {locs : List Loc} {U : State} (X : xX own p s m args c cc nL D dA A e0) (hS : va_S A s.heap H locs) (hU : U.heap = H) (hW : s.WarmedH U.vm) : xC D dA A e0 U :=
  ⟨va_K.moved hW.alike X.K, X.T.warm hW, by rw [hU]; exact (X.Z.kept hS.2.1).moved hW.alike, fun q h => X.hA q (by rw [hU] at h; exact Nat.le_trans hS.1 h)⟩
end XX
/-- what is hidden: addresses, the rows of the lists, the pool with each thing's role -/
abbrev xG : Type := (Nat → Nat) × (Nat → Option Nat) × (Nat → Int32) × (Nat → Nat) × (Nat → Nat) × (Nat → Nat → Option Nat) × List Nat × (Nat → Nat) × (Nat → va_E)
def g_ad (G : xG) : Nat → Nat := G.1
def g_rs (G : xG) : Nat → Option Nat := G.2.1
def g_mc (G : xG) : Nat → Int32 := G.2.2.1
def g_ed (G : xG) : Nat → Nat := G.2.2.2.1
def g_cap (G : xG) : Nat → Nat := G.2.2.2.2.1
def g_r (G : xG) : Nat → Nat → Option Nat := G.2.2.2.2.2.1
def g_L (G : xG) : List Nat := G.2.2.2.2.2.2.1
def g_k (G : xG) : Nat → Nat := G.2.2.2.2.2.2.2.1
def g_f (G : xG) : Nat → va_E := G.2.2.2.2.2.2.2.2
def xF (G : xG) (F : Nat → Int32) : List Value := [.ref (g_ad G 0), .ref (g_ad G 1), .ref (g_ad G 2), .ref (g_ad G 3), .ref (g_ad G 4), .ref (g_ad G 5), .ref (g_ad G 6), .ref (g_ad G 7), .int (F 8), .int (F 9), .ref (g_ad G 10), .ref (g_ad G 11), .ref (g_ad G 12), .ref (g_ad G 13), .ref (g_ad G 14), .ref (g_ad G 15), .ref (g_ad G 16), .ref (g_ad G 17), .ref (g_ad G 18), .ref (g_ad G 19), .int (F 20), .int (F 21), .ref (g_ad G 22), .int (F 23)]
def xLc (G : xG) (F : Nat → Int32) (j : Nat) : Nat × va_E := (g_ad G j, .inr (2, [.int (g_mc G j), .ref (g_ed G j), .int (F j)]))
def xW (h : Nat) (dA : Nat → ClassId) (G : xG) (F : Nat → Int32) (Rr : Nat → Nat → Int32) : va_W := [(h, .inr (1, xF G F)), (g_ad G 0, .inl (dA 3, 8, .inr (.inr (.inr (.inr (g_rs G)))))), (g_ad G 1, .inl (dA 0, 9, .inl (Rr 1))), (g_ad G 2, .inl (dA 0, 9, .inl (Rr 2))), (g_ad G 3, .inl (dA 0, 9, .inl (Rr 3))), (g_ad G 4, .inl (dA 0, 9, .inl (Rr 4))), (g_ad G 5, .inl (dA 0, 9, .inl (Rr 5))), xLc G F 6, (g_ad G 7, .inl (dA 1, 400, .inl (Rr 7))), xLc G F 10, xLc G F 11, (g_ad G 12, .inl (dA 0, 72, .inl (Rr 12))), xLc G F 13, xLc G F 14, xLc G F 15, (g_ad G 16, .inl (dA 0, 8, .inl (Rr 16))), (g_ad G 17, .inl (dA 0, 12, .inl (Rr 17))), (g_ad G 18, .inl (dA 0, 12, .inl (Rr 18))), (g_ad G 19, .inl (dA 0, 12, .inl (Rr 19))), (g_ad G 22, .inr (3, [.ref (g_ad G 24), .int (F 22)])), (g_ad G 24, .inl (dA 0, 16, .inl (Rr 22)))]
def xWs (h : Nat) (dA : Nat → ClassId) (G : xG) (F : Nat → Int32) (Rr : Nat → Nat → Int32) (T : va_W) : va_W := (xW h dA G F Rr ++ T) ++ va_pl (g_L G) (g_f G)
/-- a thing of the pool -/
def xat (G : xG) (y c : Nat) (e : va_E) : Prop := y ∈ g_L G ∧ g_k G y = c ∧ g_f G y = e
/-- the member k of the list j -/
def xel (dA : Nat → ClassId) (G : xG) (Rr : Nat → Nat → Int32) (j k y : Nat) : Prop :=
  if j = 6 then xat G y 5 (.inr (5, [.int (Rr 60 k), .int (Rr 61 k), .int (Rr 62 k), .int (Rr 63 k)]))
  else if j = 10 then ∃ g : Nat → Int32, xat G y 50 (.inl (dA 0, 9, .inl g)) ∧ ∀ i, i < 9 → g i = Rr 100 (9 * k + i)
  else if j = 11 then xat G y 6 (.inr (6, [.int (Rr 110 k), .int (Rr 111 k), .int (Rr 112 k), .int (Rr 113 k), .int (Rr 114 k), .int (Rr 115 k)]))
  else if j = 13 then xat G y 7 (.inr (7, [.int (Rr 130 k), .int (Rr 131 k), .int (Rr 132 k), .int (Rr 133 k)]))
  else if j = 14 then ∃ ci, ci < 4 ∧ Rr 146 k = nI ci ∧ xat G y (8 + ci) (.inr (8 + ci, [.int (Rr 140 k), .int (Rr 141 k), .int (Rr 142 k), .int (Rr 143 k), .int (Rr 144 k), .int (Rr 145 k)]))
  else xat G y 7 (.inr (7, [.int (Rr 150 k), .int (Rr 151 k), .int (Rr 152 k), .int (Rr 153 k)]))
/-- the list j: at most N -/
def xLs (dA : Nat → ClassId) (e0 : Nat) (G : xG) (F : Nat → Int32) (Rr : Nat → Nat → Int32) (j : Nat) (N : Int32) : Prop :=
  cnB (F j) N ∧ ((F j = 0 ∧ g_ed G j = e0) ∨ (xat G (g_ed G j) (200 + j) (.inl (dA 4, g_cap G j, .inr (.inr (.inr (.inr (g_r G j)))))) ∧ (F j).toNatClampNeg ≤ g_cap G j ∧ 0 < g_cap G j ∧ g_cap G j ≤ 90)) ∧
  ∀ k, k < (F j).toNatClampNeg → ∃ y, g_r G j k = some y ∧ xel dA G Rr j k y
/-- the sheets -/
def xSh (dA : Nat → ClassId) (G : xG) (Rr : Nat → Nat → Int32) : Prop := ∀ s, s < 8 → (g_rs G s = none ∧ Rr 0 s = -1) ∨ ∃ y z n, g_rs G s = some y ∧ xat G y 4 (.inr (4, [.int (Rr 0 s), .ref z])) ∧ inB 0 2 (Rr 0 s) = true ∧ xat G z (100 + s) (.inl (dA 0, n, .inl (Rr (30 + s)))) ∧ Rr 24 s = nI n ∧ n ≤ 64
def xI (dA : Nat → ClassId) (e0 : Nat) (G : xG) (F : Nat → Int32) (Rr : Nat → Nat → Int32) : Prop := xLs dA e0 G F Rr 6 30 ∧ xLs dA e0 G F Rr 10 16 ∧ xLs dA e0 G F Rr 11 60 ∧ xLs dA e0 G F Rr 13 20 ∧ xLs dA e0 G F Rr 14 16 ∧ xLs dA e0 G F Rr 15 40 ∧ xSh dA G Rr ∧ cnB (F 8) 400 ∧ cnB (F 22) 16
/-- the world as it stands in the heap -/
def xM (D : va_G) (dA : Nat → ClassId) (A : Nat → Prop) (e0 h : Nat) (G : xG) (T : va_W) (s : State) (F : Nat → Int32) (Rr : Nat → Nat → Int32) (H : Heap) (locs : List Loc) : Prop := va_P D xCl (xWs h dA G F Rr T) H ∧ va_D A (xWs h dA G F Rr T) ∧ va_S A s.heap H locs ∧ xI dA e0 G F Rr
/-- a method's start -/
def xPre (D : va_G) (dA : Nat → ClassId) (A : Nat → Prop) (e0 h : Nat) (G : xG) (T : va_W) (F : Nat → Int32) (Rr : Nat → Nat → Int32) (U : State) : Prop := xC D dA A e0 U ∧ va_P D xCl (xWs h dA G F Rr T) U.heap ∧ va_D A (xWs h dA G F Rr T) ∧ xI dA e0 G F Rr
theorem xPre_blind {D : va_G} {dA : Nat → ClassId} {A : Nat → Prop} {e0 h : Nat} {G : xG} {T : va_W} {F : Nat → Int32} {Rr : Nat → Nat → Int32} {As : List Value} : FrameBlind (va_Pc As (xPre D dA A e0 h G T F Rr)) := fun a U g mk q => ⟨q.1, q.2.1.frame, q.2.2⟩
/-- things of the pool that nobody writes stay -/
def xext (G G' : xG) : Prop := ∀ y, y ∈ g_L G → g_k G y < 100 → y ∈ g_L G' ∧ g_k G' y = g_k G y ∧ g_f G' y = g_f G y
theorem xext.rf (G : xG) : xext G G := fun _ h _ => ⟨h, rfl, rfl⟩
theorem xext.tr {G G' G'' : xG} (h1 : xext G G') (h2 : xext G' G'') : xext G G'' := fun y h hk => by
  obtain ⟨a, b, c⟩ := h1 y h hk
  obtain ⟨a2, b2, c2⟩ := h2 y a (by rw [b]; exact hk)
  exact ⟨a2, b2.trans b, c2.trans c⟩
theorem xext.at {G G' : xG} (h : xext G G') {y c : Nat} {e : va_E} (hc : c < 100) (q : xat G y c e) : xat G' y c e := by
  obtain ⟨q1, q2, q3⟩ := q
  obtain ⟨a, b, d⟩ := h y q1 (by rw [q2]; exact hc)
  exact ⟨a, b.trans q2, d.trans q3⟩
/-- what stands behind a method that changes the world -/
def xB (D : va_G) (dA : Nat → ClassId) (A : Nat → Prop) (e0 h : Nat) (G : xG) (T : va_W) (u : mST) (t : State) : Prop := ∃ G', xext G G' ∧ va_P D xCl (xWs h dA G' u.1 u.2 T) t.heap ∧ va_D A (xWs h dA G' u.1 u.2 T) ∧ xI dA e0 G' u.1 u.2
/-- .. where nothing hidden changes -/
def xB0 (D : va_G) (dA : Nat → ClassId) (A : Nat → Prop) (e0 h : Nat) (G : xG) (T : va_W) (u : mST) (t : State) : Prop := va_P D xCl (xWs h dA G u.1 u.2 T) t.heap ∧ va_D A (xWs h dA G u.1 u.2 T) ∧ xI dA e0 G u.1 u.2
/-- a small world: its cells a list -/
def gM (D : va_G) (A : Nat → Prop) (s : State) (ws : va_W) (H : Heap) (locs : List Loc) : Prop := va_P D xCl ws H ∧ va_D A ws ∧ va_S A s.heap H locs
/-- .. that is only read -/
def gQ (D : va_G) (_ : State) (ws : va_W) (H : Heap) (_ : List Loc) : Prop := va_P D xCl ws H ∧ True
theorem gPre_blind {D : va_G} {dA : Nat → ClassId} {A : Nat → Prop} {e0 : Nat} {ws : va_W} {As : List Value} : FrameBlind (va_Pc As (fun U => xC D dA A e0 U ∧ va_P D xCl ws U.heap)) := fun a U g mk q => ⟨q.1, q.2.1.frame, q.2.2⟩
theorem gPre_blindD {D : va_G} {dA : Nat → ClassId} {A : Nat → Prop} {e0 : Nat} {ws : va_W} {As : List Value} : FrameBlind (va_Pc As (fun U => xC D dA A e0 U ∧ va_P D xCl ws U.heap ∧ va_D A ws)) := fun a U g mk q => ⟨q.1, q.2.1.frame, q.2.2⟩
theorem xZ.narrow {A B : Nat → Prop} {e0 : Nat} {U : State} {H : Heap} (h : xZ A e0 U H) (hAB : ∀ q, B q → A q) : xZ B e0 U H := ⟨h.1.narrow hAB, h.2.1.narrow hAB, h.2.2.1.narrow hAB, h.2.2.2.narrow hAB⟩
/-- for a callee that gets a part -/
theorem xX.Cn {own : String} {p : Program} {s : State} {m : MethodId} {args : Array Value} {c : Code} {cc : ByteArray} {nL : Nat} {D : va_G} {dA : Nat → ClassId} {A : Nat → Prop} {e0 : Nat} {H : Heap} {locs : List Loc} {U : State} {wc : va_W} (X : xX own p s m args c cc nL D dA A e0) (hS : va_S A s.heap H locs) (hF : ∀ q, va_A wc H.size q → A q) (hU : U.heap = H) (hW : s.WarmedH U.vm) : xC D dA (va_A wc H.size) e0 U := by
  obtain ⟨h1, h2, h3, -⟩ := X.C hS hU hW
  exact ⟨h1, h2, h3.narrow hF, fun q h => Or.inr (by rw [hU] at h; exact h)⟩
theorem lw_F {own : String} {idx : Nat} {C : String} {x y : MethodName} {b : ByteArray} {L : Nat} {r : Option FieldType} (h1 : Cond.methodLink own idx x ∈ lw_all) (h2 : Cond.selects C x y ∈ lw_all) (h3 : Cond.instanceMethod y ∈ lw_all) (h4 : Cond.initialized y.cls ∈ lw_all) (h5 : Cond.code y b L r ∈ lw_all) : GoodIn lw_all (va_wsF own idx C x y (ws_ y b L r)) := by
  refine lw_app ?_ (lw_meth h5)
  intro w hw
  simp only [List.mem_cons, List.not_mem_nil, or_false] at hw
  rcases hw with e | e | e | e
  · rw [e]; exact h1
  · rw [e]; exact h2
  · rw [e]; exact h3
  · rw [e]; exact h4
def x_abs (x : Int32) : Int32 := if 0 ≤ x then x else 0 - x
def x_max (x y : Int32) : Int32 := if x < y then y else x
def x_bit (x : Int32) : Int32 := vp_nar .boolean x
theorem vp_ge {x : Int32} {n : Nat} (h : vp_in x n) : 0 ≤ x := Int32.not_lt.mp fun q => h (Or.inl q)
theorem vp_lt {x : Int32} {n : Nat} (h : vp_in x n) : x.toNatClampNeg < n := Nat.not_le.mp fun q => h (Or.inr q)
section GROWS
variable {p : Program} {l : Launch} {e : Env} {R : Room} {s : State} {m : MethodId} {args : Array Value} {below : List Frame} {meth : Method} {c : Code} {H : Heap} {locs : List Loc} {cells slots : Nat} {Q : State → Prop}
variable {own : String} {cc : ByteArray} {nL pc : Nat} {ls : Array Slot} {rest : List Value} {D : va_G} {dA : Nat → ClassId} {A : Nat → Prop} {e0 : Nat} {ws : va_W} {a : Nat}
theorem g_iald {cA : ClassId} {n : Nat} {f : Nat → Int32} {i : Int32} {j : Nat} (X : xX own p s m args c cc nL D dA A e0) (hP : va_P D xCl ws H) (q0 t0 : Nat) (ha : ws[q0]? = some (a, .inl (cA, n, .inl f))) (ht : (xTy dA)[t0]? = some (cA, .int)) (hin : vp_in i n) (hj : i.toNatClampNeg = j) (hdg : decode cc pc = .ok (.iaload, 1)) (kk : W p l e R s m args below meth c H locs cells slots Q (F0 m (pc + 1) ls (.int (f j) :: rest))) : W p l e R s m args below meth c H locs cells slots Q (F0 m pc ls (.int i :: .ref a :: rest)) := by
  subst hj
  exact va_iald X.hx X.hb X.K hP q0 t0 ha ht hin hdg kk
theorem g_bald {cA : ClassId} {n : Nat} {f : Nat → Int32} {i : Int32} {j : Nat} (X : xX own p s m args c cc nL D dA A e0) (hP : va_P D xCl ws H) (q0 t0 : Nat) (ha : ws[q0]? = some (a, .inl (cA, n, .inl f))) (ht : (xTy dA)[t0]? = some (cA, .byte)) (hin : vp_in i n) (hj : i.toNatClampNeg = j) (hdg : decode cc pc = .ok (.baload, 1)) (kk : W p l e R s m args below meth c H locs cells slots Q (F0 m (pc + 1) ls (.int (f j) :: rest))) : W p l e R s m args below meth c H locs cells slots Q (F0 m pc ls (.int i :: .ref a :: rest)) := by
  subst hj
  exact va_bald X.hx X.hb X.K hP q0 t0 ha ht hin hdg kk
theorem g_zald {cA : ClassId} {n : Nat} {f : Nat → Int32} {i : Int32} {j : Nat} (X : xX own p s m args c cc nL D dA A e0) (hP : va_P D xCl ws H) (q0 t0 : Nat) (ha : ws[q0]? = some (a, .inl (cA, n, .inl f))) (ht : (xTy dA)[t0]? = some (cA, .boolean)) (hin : vp_in i n) (hj : i.toNatClampNeg = j) (hdg : decode cc pc = .ok (.baload, 1)) (kk : W p l e R s m args below meth c H locs cells slots Q (F0 m (pc + 1) ls (.int (f j) :: rest))) : W p l e R s m args below meth c H locs cells slots Q (F0 m pc ls (.int i :: .ref a :: rest)) := by
  subst hj
  exact va_zald X.hx X.hb X.K hP q0 t0 ha ht hin hdg kk
theorem g_aldq {cA : ClassId} {C : String} {n : Nat} {f : Nat → Option Nat} {i : Int32} {j : Nat} (X : xX own p s m args c cc nL D dA A e0) (hP : va_P D xCl ws H) (q0 t0 : Nat) (ha : ws[q0]? = some (a, .inl (cA, n, .inr (.inr (.inr (.inr f)))))) (ht : (xTy dA)[t0]? = some (cA, .object C)) (hin : vp_in i n) (hj : i.toNatClampNeg = j) (hdg : decode cc pc = .ok (.aaload, 1)) (kk : W p l e R s m args below meth c H locs cells slots Q (F0 m (pc + 1) ls (va_rf (f j) :: rest))) : W p l e R s m args below meth c H locs cells slots Q (F0 m pc ls (.int i :: .ref a :: rest)) := by
  subst hj
  exact va_aldq X.hx X.hb X.K hP q0 t0 ha ht hin hdg kk
theorem g_iast {cA : ClassId} {n : Nat} {f : Nat → Int32} {i x : Int32} {j : Nat} (X : xX own p s m args c cc nL D dA A e0) (hP : va_P D xCl ws H) (hD : va_D A ws) (hS : va_S A s.heap H locs) (q0 t0 : Nat) (ha : ws[q0]? = some (a, .inl (cA, n, .inl f))) (ht : (xTy dA)[t0]? = some (cA, .int)) (hin : vp_in i n) (hj : i.toNatClampNeg = j) (hdg : decode cc pc = .ok (.iastore, 1)) (kk : ∀ (H1 : Heap) (locs1 : List Loc), va_P D xCl (ws.set q0 (a, .inl (cA, n, .inl (upd f j x)))) H1 → va_D A (ws.set q0 (a, .inl (cA, n, .inl (upd f j x)))) → va_S A s.heap H1 locs1 → W p l e R s m args below meth c H1 locs1 cells slots Q (F0 m (pc + 1) ls rest)) : W p l e R s m args below meth c H locs cells slots Q (F0 m pc ls (.int x :: .int i :: .ref a :: rest)) := by
  subst hj
  exact va_iast X.hx X.hb X.K hP hD hS q0 t0 ha ht hin hdg kk
theorem g_bast {cA : ClassId} {n : Nat} {f : Nat → Int32} {i x : Int32} {j : Nat} (X : xX own p s m args c cc nL D dA A e0) (hP : va_P D xCl ws H) (hD : va_D A ws) (hS : va_S A s.heap H locs) (q0 t0 : Nat) (ha : ws[q0]? = some (a, .inl (cA, n, .inl f))) (ht : (xTy dA)[t0]? = some (cA, .byte)) (hin : vp_in i n) (hj : i.toNatClampNeg = j) (hdg : decode cc pc = .ok (.bastore, 1)) (kk : ∀ (H1 : Heap) (locs1 : List Loc), va_P D xCl (ws.set q0 (a, .inl (cA, n, .inl (upd f j x.toInt8.toInt32)))) H1 → va_D A (ws.set q0 (a, .inl (cA, n, .inl (upd f j x.toInt8.toInt32)))) → va_S A s.heap H1 locs1 → W p l e R s m args below meth c H1 locs1 cells slots Q (F0 m (pc + 1) ls rest)) : W p l e R s m args below meth c H locs cells slots Q (F0 m pc ls (.int x :: .int i :: .ref a :: rest)) := by
  subst hj
  exact va_bast X.hx X.hb X.K hP hD hS q0 t0 ha ht hin hdg kk
theorem g_zast {cA : ClassId} {n : Nat} {f : Nat → Int32} {i x : Int32} {j : Nat} (X : xX own p s m args c cc nL D dA A e0) (hP : va_P D xCl ws H) (hD : va_D A ws) (hS : va_S A s.heap H locs) (q0 t0 : Nat) (ha : ws[q0]? = some (a, .inl (cA, n, .inl f))) (ht : (xTy dA)[t0]? = some (cA, .boolean)) (hin : vp_in i n) (hj : i.toNatClampNeg = j) (hdg : decode cc pc = .ok (.bastore, 1)) (kk : ∀ (H1 : Heap) (locs1 : List Loc), va_P D xCl (ws.set q0 (a, .inl (cA, n, .inl (upd f j (x_bit x))))) H1 → va_D A (ws.set q0 (a, .inl (cA, n, .inl (upd f j (x_bit x))))) → va_S A s.heap H1 locs1 → W p l e R s m args below meth c H1 locs1 cells slots Q (F0 m (pc + 1) ls rest)) : W p l e R s m args below meth c H locs cells slots Q (F0 m pc ls (.int x :: .int i :: .ref a :: rest)) := by
  subst hj
  exact va_zast X.hx X.hb X.K hP hD hS q0 t0 ha ht hin hdg kk
/-- a static method of a nest mate that only counts -/
theorem xs_cN {y : MethodName} {bytes : ByteArray} {maxL n index : Nat} {ret : Option FieldType} {wsc : List Cond} {rm : Room} {As st : List Value} {host : String} {v : Int32} (X : xX own p s m args c cc nL D dA A e0) (hM : Met l y wsc rm (va_Pc As (fun _ => True)) (vp_Si (fun r => r = v)) 0 0 (fun _ => False)) (cw : va_CN R s args own index y host bytes maxL ret wsc rm 0 0 n ∧ (Cond.static y).before args s = true ∧ True) (hn : As.length = n) (hl : ls.size = nL) (hst : st = As.reverse ++ rest) (hW : (rest.map fun v => v.category).sum ≤ 8) (hdg : decode cc pc = .ok (.invokestatic index, 3)) (hS : va_S A s.heap H locs) (hf : cells ≤ R.cells ∧ slots ≤ R.slots) (kk : W p l e R s m args below meth c H locs cells slots Q (F0 m (pc + 3) ls (.int v :: rest))) : W p l e R s m args below meth c H locs cells slots Q (F0 m pc ls st) := by
  intro T hT Y
  obtain ⟨v9, st₀, t, T', L, h0, Y', hL, e1, e2, ⟨r, hv, hp, hh⟩, stp⟩ := va_runSN (As := As) (rest := rest) (g := F0 m pc ls st) X.1 hM cw ⟨fun a U g mk q => q, fun U hU hW => ⟨rfl, trivial⟩⟩ rfl hn hl hst (lv_room (m := m) (pc := 0) (ls := ls) (rest := []) hW) hdg hf T hT Y
  cases hv
  subst hp
  obtain ⟨t2, a1, b1⟩ := kk T' (by rw [e1, hh, h0]) (Stand.forget Y' (fun q h => (hL q h).elim))
  exact ⟨t2, stp t2 a1, b1⟩
end GROWS
/-! lists and what they hold -/
def xea (G : xG) (j k : Nat) : Nat := (g_r G j k).getD 0
theorem xLs_at {dA : Nat → ClassId} {e0 : Nat} {G : xG} {F : Nat → Int32} {Rr : Nat → Nat → Int32} {j : Nat} {N : Int32} (h : xLs dA e0 G F Rr j N) {k : Nat} (hk : k < (F j).toNatClampNeg) : g_r G j k = some (xea G j k) ∧ xel dA G Rr j k (xea G j k) := by
  obtain ⟨y, h1, h2⟩ := h.2.2 k hk
  have e : xea G j k = y := by unfold xea; rw [h1]; rfl
  rw [e]; exact ⟨h1, h2⟩
theorem xLs_own {dA : Nat → ClassId} {e0 : Nat} {G : xG} {F : Nat → Int32} {Rr : Nat → Nat → Int32} {j : Nat} {N : Int32} (h : xLs dA e0 G F Rr j N) {k : Nat} (hk : k < (F j).toNatClampNeg) : xat G (g_ed G j) (200 + j) (.inl (dA 4, g_cap G j, .inr (.inr (.inr (.inr (g_r G j)))))) ∧ (F j).toNatClampNeg ≤ g_cap G j ∧ 0 < g_cap G j ∧ g_cap G j ≤ 90 := by
  rcases h.2.1 with q | q
  · rw [q.1] at hk; exact absurd hk (Nat.not_lt_zero _)
  · exact q
theorem xat_ws {G : xG} {y c : Nat} {e : va_E} (q : xat G y c e) (X : va_W) : ∃ k : Nat, (X ++ va_pl (g_L G) (g_f G))[k]? = some (y, e) := by
  obtain ⟨q1, -, q3⟩ := q
  obtain ⟨k, hk⟩ := va_pl_get (X := X) (f := g_f G) q1
  exact ⟨k, by rw [hk, q3]⟩
theorem xat_P {D : va_G} {G : xG} {y c : Nat} {e : va_E} (q : xat G y c e) {X : va_W} {H : Heap} (hP : va_P D xCl (X ++ va_pl (g_L G) (g_f G)) H) : va_at D xCl (y, e) H := by
  obtain ⟨k, hk⟩ := xat_ws q X
  exact hP k _ hk
theorem va_P1 {D : va_G} {y : Nat} {e : va_E} {H : Heap} (h : va_at D xCl (y, e) H) : va_P D xCl [(y, e)] H := by
  intro k q hk
  rcases k with _ | k
  · cases hk; exact h
  · cases hk
theorem va_P2 {D : va_G} {y z : Nat} {e f : va_E} {H : Heap} (h : va_at D xCl (y, e) H) (h2 : va_at D xCl (z, f) H) : va_P D xCl [(y, e), (z, f)] H := by
  intro k q hk
  rcases k with _ | k
  · cases hk; exact h
  · rcases k with _ | k
    · cases hk; exact h2
    · cases hk

theorem xI_F {dA : Nat → ClassId} {e0 : Nat} {G : xG} {F F' : Nat → Int32} {Rr : Nat → Nat → Int32} (h6 : F' 6 = F 6) (h8 : cnB (F' 8) 400) (h10 : F' 10 = F 10) (h11 : F' 11 = F 11) (h13 : F' 13 = F 13) (h14 : F' 14 = F 14) (h15 : F' 15 = F 15) (h22 : cnB (F' 22) 16) (I : xI dA e0 G F Rr) : xI dA e0 G F' Rr := by
  obtain ⟨a, b, c, d, e, f, g, -, -⟩ := I
  unfold xLs at a b c d e f
  refine ⟨?_, ?_, ?_, ?_, ?_, ?_, g, h8, h22⟩ <;> unfold xLs
  · rw [h6]; exact a
  · rw [h10]; exact b
  · rw [h11]; exact c
  · rw [h13]; exact d
  · rw [h14]; exact e
  · rw [h15]; exact f
theorem xel_R {dA : Nat → ClassId} {G : xG} {Rr Rr' : Nat → Nat → Int32} {j k y : Nat} (hR : ∀ j, 24 ≤ j → Rr' j = Rr j) (h : xel dA G Rr j k y) : xel dA G Rr' j k y := by
  unfold xel at h ⊢
  rw [hR 60 (by decide), hR 61 (by decide), hR 62 (by decide), hR 63 (by decide), hR 100 (by decide), hR 110 (by decide), hR 111 (by decide), hR 112 (by decide), hR 113 (by decide), hR 114 (by decide), hR 115 (by decide), hR 130 (by decide), hR 131 (by decide), hR 132 (by decide), hR 133 (by decide), hR 140 (by decide), hR 141 (by decide), hR 142 (by decide), hR 143 (by decide), hR 144 (by decide), hR 145 (by decide), hR 146 (by decide), hR 150 (by decide), hR 151 (by decide), hR 152 (by decide), hR 153 (by decide)]
  exact h
theorem xLs_R {dA : Nat → ClassId} {e0 : Nat} {G : xG} {F : Nat → Int32} {Rr Rr' : Nat → Nat → Int32} {j : Nat} {N : Int32} (hR : ∀ j, 24 ≤ j → Rr' j = Rr j) (h : xLs dA e0 G F Rr j N) : xLs dA e0 G F Rr' j N :=
  ⟨h.1, h.2.1, fun k hk => by obtain ⟨y, h1, h2⟩ := h.2.2 k hk; exact ⟨y, h1, xel_R hR h2⟩⟩
theorem xSh_R {dA : Nat → ClassId} {G : xG} {Rr Rr' : Nat → Nat → Int32} (h0 : Rr' 0 = Rr 0) (hR : ∀ j, 24 ≤ j → Rr' j = Rr j) (h : xSh dA G Rr) : xSh dA G Rr' := fun s hs => by
  have := h s hs
  rw [h0, hR 24 (by decide), hR (30 + s) (by omega)]
  exact this
/-- the world's own rows stand at 1 to 23: what is told of them says nothing of the lists and sheets -/
theorem xI_R {dA : Nat → ClassId} {e0 : Nat} {G : xG} {F : Nat → Int32} {Rr Rr' : Nat → Nat → Int32} (h0 : Rr' 0 = Rr 0) (hR : ∀ j, 24 ≤ j → Rr' j = Rr j) (I : xI dA e0 G F Rr) : xI dA e0 G F Rr' := by
  obtain ⟨a, b, c, d, e, f, g, i, j⟩ := I
  exact ⟨xLs_R hR a, xLs_R hR b, xLs_R hR c, xLs_R hR d, xLs_R hR e, xLs_R hR f, xSh_R h0 hR g, i, j⟩
theorem mset_n {Rr : Nat → Nat → Int32} {k j i : Nat} {x : Int32} (h : i ≠ k) : mset Rr k j x i = Rr i := by unfold mset; exact up_n _ _ h
theorem xI_ms {dA : Nat → ClassId} {e0 : Nat} {G : xG} {F : Nat → Int32} {Rr : Nat → Nat → Int32} {k j : Nat} {x : Int32} (h1 : 0 < k) (h2 : k < 24) (I : xI dA e0 G F Rr) : xI dA e0 G F (mset Rr k j x) := xI_R (mset_n (by omega)) (fun _ h => mset_n (by omega)) I
section XROWS
variable {p : Program} {l : Launch} {e : Env} {R : Room} {s : State} {m : MethodId} {args : Array Value} {below : List Frame} {meth : Method} {c : Code} {H : Heap} {locs : List Loc} {cells slots : Nat} {Q : State → Prop}
variable {own : String} {cc : ByteArray} {nL pc : Nat} {ls : Array Slot} {rest : List Value} {D : va_G} {dA : Nat → ClassId} {A : Nat → Prop} {e0 h : Nat} {G : xG} {T : va_W} {F : Nat → Int32} {Rr : Nat → Nat → Int32}
theorem xg_0 (X : xX RX0 p s m args c cc nL D dA A e0) (M : xM D dA A e0 h G T s F Rr H locs) (hdg : decode cc pc = .ok (.getfield 11, 3)) (kk : W p l e R s m args below meth c H locs cells slots Q (F0 m (pc + 3) ls (.ref (g_ad G 0) :: rest))) : W p l e R s m args below meth c H locs cells slots Q (F0 m pc ls (.ref h :: rest)) :=
  va_get (cl := xCl) (ci := 1) (fs := xF G F) X.hx X.hb X.hts in_X0 X.ow X.K M.1 0 rfl rfl 0 (by decide) (X.hts _ q148) (fun _ h9 => h9) rfl hdg kk
theorem xg_1 (X : xX RX0 p s m args c cc nL D dA A e0) (M : xM D dA A e0 h G T s F Rr H locs) (hdg : decode cc pc = .ok (.getfield 15, 3)) (kk : W p l e R s m args below meth c H locs cells slots Q (F0 m (pc + 3) ls (.ref (g_ad G 1) :: rest))) : W p l e R s m args below meth c H locs cells slots Q (F0 m pc ls (.ref h :: rest)) :=
  va_get (cl := xCl) (ci := 1) (fs := xF G F) X.hx X.hb X.hts in_X0 X.ow X.K M.1 0 rfl rfl 1 (by decide) (X.hts _ q149) (fun _ h9 => h9) rfl hdg kk
theorem xg_2 (X : xX RX0 p s m args c cc nL D dA A e0) (M : xM D dA A e0 h G T s F Rr H locs) (hdg : decode cc pc = .ok (.getfield 19, 3)) (kk : W p l e R s m args below meth c H locs cells slots Q (F0 m (pc + 3) ls (.ref (g_ad G 2) :: rest))) : W p l e R s m args below meth c H locs cells slots Q (F0 m pc ls (.ref h :: rest)) :=
  va_get (cl := xCl) (ci := 1) (fs := xF G F) X.hx X.hb X.hts in_X0 X.ow X.K M.1 0 rfl rfl 2 (by decide) (X.hts _ q150) (fun _ h9 => h9) rfl hdg kk
theorem xg_3 (X : xX RX0 p s m args c cc nL D dA A e0) (M : xM D dA A e0 h G T s F Rr H locs) (hdg : decode cc pc = .ok (.getfield 22, 3)) (kk : W p l e R s m args below meth c H locs cells slots Q (F0 m (pc + 3) ls (.ref (g_ad G 3) :: rest))) : W p l e R s m args below meth c H locs cells slots Q (F0 m pc ls (.ref h :: rest)) :=
  va_get (cl := xCl) (ci := 1) (fs := xF G F) X.hx X.hb X.hts in_X0 X.ow X.K M.1 0 rfl rfl 3 (by decide) (X.hts _ q151) (fun _ h9 => h9) rfl hdg kk
theorem xg_4 (X : xX RX0 p s m args c cc nL D dA A e0) (M : xM D dA A e0 h G T s F Rr H locs) (hdg : decode cc pc = .ok (.getfield 25, 3)) (kk : W p l e R s m args below meth c H locs cells slots Q (F0 m (pc + 3) ls (.ref (g_ad G 4) :: rest))) : W p l e R s m args below meth c H locs cells slots Q (F0 m pc ls (.ref h :: rest)) :=
  va_get (cl := xCl) (ci := 1) (fs := xF G F) X.hx X.hb X.hts in_X0 X.ow X.K M.1 0 rfl rfl 4 (by decide) (X.hts _ q152) (fun _ h9 => h9) rfl hdg kk
theorem xg_5 (X : xX RX0 p s m args c cc nL D dA A e0) (M : xM D dA A e0 h G T s F Rr H locs) (hdg : decode cc pc = .ok (.getfield 28, 3)) (kk : W p l e R s m args below meth c H locs cells slots Q (F0 m (pc + 3) ls (.ref (g_ad G 5) :: rest))) : W p l e R s m args below meth c H locs cells slots Q (F0 m pc ls (.ref h :: rest)) :=
  va_get (cl := xCl) (ci := 1) (fs := xF G F) X.hx X.hb X.hts in_X0 X.ow X.K M.1 0 rfl rfl 5 (by decide) (X.hts _ q153) (fun _ h9 => h9) rfl hdg kk
theorem xg_6 (X : xX RX0 p s m args c cc nL D dA A e0) (M : xM D dA A e0 h G T s F Rr H locs) (hdg : decode cc pc = .ok (.getfield 34, 3)) (kk : W p l e R s m args below meth c H locs cells slots Q (F0 m (pc + 3) ls (.ref (g_ad G 6) :: rest))) : W p l e R s m args below meth c H locs cells slots Q (F0 m pc ls (.ref h :: rest)) :=
  va_get (cl := xCl) (ci := 1) (fs := xF G F) X.hx X.hb X.hts in_X0 X.ow X.K M.1 0 rfl rfl 6 (by decide) (X.hts _ q154) (fun _ h9 => h9) rfl hdg kk
theorem xg_7 (X : xX RX0 p s m args c cc nL D dA A e0) (M : xM D dA A e0 h G T s F Rr H locs) (hdg : decode cc pc = .ok (.getfield 38, 3)) (kk : W p l e R s m args below meth c H locs cells slots Q (F0 m (pc + 3) ls (.ref (g_ad G 7) :: rest))) : W p l e R s m args below meth c H locs cells slots Q (F0 m pc ls (.ref h :: rest)) :=
  va_get (cl := xCl) (ci := 1) (fs := xF G F) X.hx X.hb X.hts in_X0 X.ow X.K M.1 0 rfl rfl 7 (by decide) (X.hts _ q155) (fun _ h9 => h9) rfl hdg kk
theorem xg_8 (X : xX RX0 p s m args c cc nL D dA A e0) (M : xM D dA A e0 h G T s F Rr H locs) {v : Int32} (hv : F 8 = v) (hdg : decode cc pc = .ok (.getfield 162, 3)) (kk : W p l e R s m args below meth c H locs cells slots Q (F0 m (pc + 3) ls (.int v :: rest))) : W p l e R s m args below meth c H locs cells slots Q (F0 m pc ls (.ref h :: rest)) := by
  subst hv
  exact va_get (cl := xCl) (ci := 1) (fs := xF G F) X.hx X.hb X.hts in_X0 X.ow X.K M.1 0 rfl rfl 8 (by decide) (X.hts _ q156) (fun _ h9 => h9) rfl hdg kk
theorem xp_8 (X : xX RX0 p s m args c cc nL D dA A e0) (M : xM D dA A e0 h G T s F Rr H locs) {v : Int32} (hv : cnB v 400) (hdg : decode cc pc = .ok (.putfield 162, 3)) (kk : ∀ (H1 : Heap) (locs1 : List Loc), xM D dA A e0 h G T s (va_up F 8 v) Rr H1 locs1 → W p l e R s m args below meth c H1 locs1 cells slots Q (F0 m (pc + 3) ls rest)) : W p l e R s m args below meth c H locs cells slots Q (F0 m pc ls (.int v :: .ref h :: rest)) :=
  va_put (cl := xCl) (ci := 1) (fs := xF G F) (ty := .int) X.hx X.hb X.hts in_X0 tyX0 tyX0_ok nmX0 X.ow X.K M.1 M.2.1 M.2.2.1 0 rfl rfl 8 (by decide) (X.hts _ q156) (fun _ h9 => h9) rfl (by decide +kernel) rfl rfl (Nat.le_of_ble_eq_true rfl) hdg (fun H1 locs1 hP hD hS => kk H1 locs1 ⟨hP, hD, hS, xI_F (F := F) (F' := va_up F 8 v) rfl (by rw [up_s]; exact hv) rfl rfl rfl rfl rfl M.2.2.2.2.2.2.2.2.2.2.2 M.2.2.2⟩)
theorem xg_9 (X : xX RX0 p s m args c cc nL D dA A e0) (M : xM D dA A e0 h G T s F Rr H locs) {v : Int32} (hv : F 9 = v) (hdg : decode cc pc = .ok (.getfield 185, 3)) (kk : W p l e R s m args below meth c H locs cells slots Q (F0 m (pc + 3) ls (.int v :: rest))) : W p l e R s m args below meth c H locs cells slots Q (F0 m pc ls (.ref h :: rest)) := by
  subst hv
  exact va_get (cl := xCl) (ci := 1) (fs := xF G F) X.hx X.hb X.hts in_X0 X.ow X.K M.1 0 rfl rfl 9 (by decide) (X.hts _ q157) (fun _ h9 => h9) rfl hdg kk
theorem xp_9 (X : xX RX0 p s m args c cc nL D dA A e0) (M : xM D dA A e0 h G T s F Rr H locs) {v : Int32} (hdg : decode cc pc = .ok (.putfield 185, 3)) (kk : ∀ (H1 : Heap) (locs1 : List Loc), xM D dA A e0 h G T s (va_up F 9 v) Rr H1 locs1 → W p l e R s m args below meth c H1 locs1 cells slots Q (F0 m (pc + 3) ls rest)) : W p l e R s m args below meth c H locs cells slots Q (F0 m pc ls (.int v :: .ref h :: rest)) :=
  va_put (cl := xCl) (ci := 1) (fs := xF G F) (ty := .int) X.hx X.hb X.hts in_X0 tyX0 tyX0_ok nmX0 X.ow X.K M.1 M.2.1 M.2.2.1 0 rfl rfl 9 (by decide) (X.hts _ q157) (fun _ h9 => h9) rfl (by decide +kernel) rfl rfl (Nat.le_of_ble_eq_true rfl) hdg (fun H1 locs1 hP hD hS => kk H1 locs1 ⟨hP, hD, hS, xI_F (F := F) (F' := va_up F 9 v) rfl M.2.2.2.2.2.2.2.2.2.2.1 rfl rfl rfl rfl rfl M.2.2.2.2.2.2.2.2.2.2.2 M.2.2.2⟩)
theorem xg_10 (X : xX RX0 p s m args c cc nL D dA A e0) (M : xM D dA A e0 h G T s F Rr H locs) (hdg : decode cc pc = .ok (.getfield 42, 3)) (kk : W p l e R s m args below meth c H locs cells slots Q (F0 m (pc + 3) ls (.ref (g_ad G 10) :: rest))) : W p l e R s m args below meth c H locs cells slots Q (F0 m pc ls (.ref h :: rest)) :=
  va_get (cl := xCl) (ci := 1) (fs := xF G F) X.hx X.hb X.hts in_X0 X.ow X.K M.1 0 rfl rfl 10 (by decide) (X.hts _ q158) (fun _ h9 => h9) rfl hdg kk
theorem xg_11 (X : xX RX0 p s m args c cc nL D dA A e0) (M : xM D dA A e0 h G T s F Rr H locs) (hdg : decode cc pc = .ok (.getfield 45, 3)) (kk : W p l e R s m args below meth c H locs cells slots Q (F0 m (pc + 3) ls (.ref (g_ad G 11) :: rest))) : W p l e R s m args below meth c H locs cells slots Q (F0 m pc ls (.ref h :: rest)) :=
  va_get (cl := xCl) (ci := 1) (fs := xF G F) X.hx X.hb X.hts in_X0 X.ow X.K M.1 0 rfl rfl 11 (by decide) (X.hts _ q159) (fun _ h9 => h9) rfl hdg kk
theorem xg_12 (X : xX RX0 p s m args c cc nL D dA A e0) (M : xM D dA A e0 h G T s F Rr H locs) (hdg : decode cc pc = .ok (.getfield 48, 3)) (kk : W p l e R s m args below meth c H locs cells slots Q (F0 m (pc + 3) ls (.ref (g_ad G 12) :: rest))) : W p l e R s m args below meth c H locs cells slots Q (F0 m pc ls (.ref h :: rest)) :=
  va_get (cl := xCl) (ci := 1) (fs := xF G F) X.hx X.hb X.hts in_X0 X.ow X.K M.1 0 rfl rfl 12 (by decide) (X.hts _ q160) (fun _ h9 => h9) rfl hdg kk
theorem xg_13 (X : xX RX0 p s m args c cc nL D dA A e0) (M : xM D dA A e0 h G T s F Rr H locs) (hdg : decode cc pc = .ok (.getfield 51, 3)) (kk : W p l e R s m args below meth c H locs cells slots Q (F0 m (pc + 3) ls (.ref (g_ad G 13) :: rest))) : W p l e R s m args below meth c H locs cells slots Q (F0 m pc ls (.ref h :: rest)) :=
  va_get (cl := xCl) (ci := 1) (fs := xF G F) X.hx X.hb X.hts in_X0 X.ow X.K M.1 0 rfl rfl 13 (by decide) (X.hts _ q161) (fun _ h9 => h9) rfl hdg kk
theorem xg_14 (X : xX RX0 p s m args c cc nL D dA A e0) (M : xM D dA A e0 h G T s F Rr H locs) (hdg : decode cc pc = .ok (.getfield 54, 3)) (kk : W p l e R s m args below meth c H locs cells slots Q (F0 m (pc + 3) ls (.ref (g_ad G 14) :: rest))) : W p l e R s m args below meth c H locs cells slots Q (F0 m pc ls (.ref h :: rest)) :=
  va_get (cl := xCl) (ci := 1) (fs := xF G F) X.hx X.hb X.hts in_X0 X.ow X.K M.1 0 rfl rfl 14 (by decide) (X.hts _ q162) (fun _ h9 => h9) rfl hdg kk
theorem xg_15 (X : xX RX0 p s m args c cc nL D dA A e0) (M : xM D dA A e0 h G T s F Rr H locs) (hdg : decode cc pc = .ok (.getfield 57, 3)) (kk : W p l e R s m args below meth c H locs cells slots Q (F0 m (pc + 3) ls (.ref (g_ad G 15) :: rest))) : W p l e R s m args below meth c H locs cells slots Q (F0 m pc ls (.ref h :: rest)) :=
  va_get (cl := xCl) (ci := 1) (fs := xF G F) X.hx X.hb X.hts in_X0 X.ow X.K M.1 0 rfl rfl 15 (by decide) (X.hts _ q163) (fun _ h9 => h9) rfl hdg kk
theorem xg_16 (X : xX RX0 p s m args c cc nL D dA A e0) (M : xM D dA A e0 h G T s F Rr H locs) (hdg : decode cc pc = .ok (.getfield 60, 3)) (kk : W p l e R s m args below meth c H locs cells slots Q (F0 m (pc + 3) ls (.ref (g_ad G 16) :: rest))) : W p l e R s m args below meth c H locs cells slots Q (F0 m pc ls (.ref h :: rest)) :=
  va_get (cl := xCl) (ci := 1) (fs := xF G F) X.hx X.hb X.hts in_X0 X.ow X.K M.1 0 rfl rfl 16 (by decide) (X.hts _ q164) (fun _ h9 => h9) rfl hdg kk
theorem xg_17 (X : xX RX0 p s m args c cc nL D dA A e0) (M : xM D dA A e0 h G T s F Rr H locs) (hdg : decode cc pc = .ok (.getfield 63, 3)) (kk : W p l e R s m args below meth c H locs cells slots Q (F0 m (pc + 3) ls (.ref (g_ad G 17) :: rest))) : W p l e R s m args below meth c H locs cells slots Q (F0 m pc ls (.ref h :: rest)) :=
  va_get (cl := xCl) (ci := 1) (fs := xF G F) X.hx X.hb X.hts in_X0 X.ow X.K M.1 0 rfl rfl 17 (by decide) (X.hts _ q165) (fun _ h9 => h9) rfl hdg kk
theorem xg_18 (X : xX RX0 p s m args c cc nL D dA A e0) (M : xM D dA A e0 h G T s F Rr H locs) (hdg : decode cc pc = .ok (.getfield 66, 3)) (kk : W p l e R s m args below meth c H locs cells slots Q (F0 m (pc + 3) ls (.ref (g_ad G 18) :: rest))) : W p l e R s m args below meth c H locs cells slots Q (F0 m pc ls (.ref h :: rest)) :=
  va_get (cl := xCl) (ci := 1) (fs := xF G F) X.hx X.hb X.hts in_X0 X.ow X.K M.1 0 rfl rfl 18 (by decide) (X.hts _ q166) (fun _ h9 => h9) rfl hdg kk
theorem xg_19 (X : xX RX0 p s m args c cc nL D dA A e0) (M : xM D dA A e0 h G T s F Rr H locs) (hdg : decode cc pc = .ok (.getfield 69, 3)) (kk : W p l e R s m args below meth c H locs cells slots Q (F0 m (pc + 3) ls (.ref (g_ad G 19) :: rest))) : W p l e R s m args below meth c H locs cells slots Q (F0 m pc ls (.ref h :: rest)) :=
  va_get (cl := xCl) (ci := 1) (fs := xF G F) X.hx X.hb X.hts in_X0 X.ow X.K M.1 0 rfl rfl 19 (by decide) (X.hts _ q167) (fun _ h9 => h9) rfl hdg kk
theorem xg_20 (X : xX RX0 p s m args c cc nL D dA A e0) (M : xM D dA A e0 h G T s F Rr H locs) {v : Int32} (hv : F 20 = v) (hdg : decode cc pc = .ok (.getfield 419, 3)) (kk : W p l e R s m args below meth c H locs cells slots Q (F0 m (pc + 3) ls (.int v :: rest))) : W p l e R s m args below meth c H locs cells slots Q (F0 m pc ls (.ref h :: rest)) := by
  subst hv
  exact va_get (cl := xCl) (ci := 1) (fs := xF G F) X.hx X.hb X.hts in_X0 X.ow X.K M.1 0 rfl rfl 20 (by decide) (X.hts _ q168) (fun _ h9 => h9) rfl hdg kk
theorem xp_20 (X : xX RX0 p s m args c cc nL D dA A e0) (M : xM D dA A e0 h G T s F Rr H locs) {v : Int32} (hdg : decode cc pc = .ok (.putfield 419, 3)) (kk : ∀ (H1 : Heap) (locs1 : List Loc), xM D dA A e0 h G T s (va_up F 20 v) Rr H1 locs1 → W p l e R s m args below meth c H1 locs1 cells slots Q (F0 m (pc + 3) ls rest)) : W p l e R s m args below meth c H locs cells slots Q (F0 m pc ls (.int v :: .ref h :: rest)) :=
  va_put (cl := xCl) (ci := 1) (fs := xF G F) (ty := .int) X.hx X.hb X.hts in_X0 tyX0 tyX0_ok nmX0 X.ow X.K M.1 M.2.1 M.2.2.1 0 rfl rfl 20 (by decide) (X.hts _ q168) (fun _ h9 => h9) rfl (by decide +kernel) rfl rfl (Nat.le_of_ble_eq_true rfl) hdg (fun H1 locs1 hP hD hS => kk H1 locs1 ⟨hP, hD, hS, xI_F (F := F) (F' := va_up F 20 v) rfl M.2.2.2.2.2.2.2.2.2.2.1 rfl rfl rfl rfl rfl M.2.2.2.2.2.2.2.2.2.2.2 M.2.2.2⟩)
theorem xg_21 (X : xX RX0 p s m args c cc nL D dA A e0) (M : xM D dA A e0 h G T s F Rr H locs) {v : Int32} (hv : F 21 = v) (hdg : decode cc pc = .ok (.getfield 429, 3)) (kk : W p l e R s m args below meth c H locs cells slots Q (F0 m (pc + 3) ls (.int v :: rest))) : W p l e R s m args below meth c H locs cells slots Q (F0 m pc ls (.ref h :: rest)) := by
  subst hv
  exact va_get (cl := xCl) (ci := 1) (fs := xF G F) X.hx X.hb X.hts in_X0 X.ow X.K M.1 0 rfl rfl 21 (by decide) (X.hts _ q169) (fun _ h9 => h9) rfl hdg kk
theorem xp_21 (X : xX RX0 p s m args c cc nL D dA A e0) (M : xM D dA A e0 h G T s F Rr H locs) {v : Int32} (hdg : decode cc pc = .ok (.putfield 429, 3)) (kk : ∀ (H1 : Heap) (locs1 : List Loc), xM D dA A e0 h G T s (va_up F 21 v) Rr H1 locs1 → W p l e R s m args below meth c H1 locs1 cells slots Q (F0 m (pc + 3) ls rest)) : W p l e R s m args below meth c H locs cells slots Q (F0 m pc ls (.int v :: .ref h :: rest)) :=
  va_put (cl := xCl) (ci := 1) (fs := xF G F) (ty := .int) X.hx X.hb X.hts in_X0 tyX0 tyX0_ok nmX0 X.ow X.K M.1 M.2.1 M.2.2.1 0 rfl rfl 21 (by decide) (X.hts _ q169) (fun _ h9 => h9) rfl (by decide +kernel) rfl rfl (Nat.le_of_ble_eq_true rfl) hdg (fun H1 locs1 hP hD hS => kk H1 locs1 ⟨hP, hD, hS, xI_F (F := F) (F' := va_up F 21 v) rfl M.2.2.2.2.2.2.2.2.2.2.1 rfl rfl rfl rfl rfl M.2.2.2.2.2.2.2.2.2.2.2 M.2.2.2⟩)
theorem xg_22 (X : xX RX0 p s m args c cc nL D dA A e0) (M : xM D dA A e0 h G T s F Rr H locs) (hdg : decode cc pc = .ok (.getfield 75, 3)) (kk : W p l e R s m args below meth c H locs cells slots Q (F0 m (pc + 3) ls (.ref (g_ad G 22) :: rest))) : W p l e R s m args below meth c H locs cells slots Q (F0 m pc ls (.ref h :: rest)) :=
  va_get (cl := xCl) (ci := 1) (fs := xF G F) X.hx X.hb X.hts in_X0 X.ow X.K M.1 0 rfl rfl 22 (by decide) (X.hts _ q170) (fun _ h9 => h9) rfl hdg kk
theorem xg_23 (X : xX RX0 p s m args c cc nL D dA A e0) (M : xM D dA A e0 h G T s F Rr H locs) {v : Int32} (hv : F 23 = v) (hdg : decode cc pc = .ok (.getfield 86, 3)) (kk : W p l e R s m args below meth c H locs cells slots Q (F0 m (pc + 3) ls (.int v :: rest))) : W p l e R s m args below meth c H locs cells slots Q (F0 m pc ls (.ref h :: rest)) := by
  subst hv
  exact va_get (cl := xCl) (ci := 1) (fs := xF G F) X.hx X.hb X.hts in_X0 X.ow X.K M.1 0 rfl rfl 23 (by decide) (X.hts _ q171) (fun _ h9 => h9) rfl hdg kk
theorem xp_23 (X : xX RX0 p s m args c cc nL D dA A e0) (M : xM D dA A e0 h G T s F Rr H locs) {v : Int32} (hdg : decode cc pc = .ok (.putfield 86, 3)) (kk : ∀ (H1 : Heap) (locs1 : List Loc), xM D dA A e0 h G T s (va_up F 23 v) Rr H1 locs1 → W p l e R s m args below meth c H1 locs1 cells slots Q (F0 m (pc + 3) ls rest)) : W p l e R s m args below meth c H locs cells slots Q (F0 m pc ls (.int v :: .ref h :: rest)) :=
  va_put (cl := xCl) (ci := 1) (fs := xF G F) (ty := .int) X.hx X.hb X.hts in_X0 tyX0 tyX0_ok nmX0 X.ow X.K M.1 M.2.1 M.2.2.1 0 rfl rfl 23 (by decide) (X.hts _ q171) (fun _ h9 => h9) rfl (by decide +kernel) rfl rfl (Nat.le_of_ble_eq_true rfl) hdg (fun H1 locs1 hP hD hS => kk H1 locs1 ⟨hP, hD, hS, xI_F (F := F) (F' := va_up F 23 v) rfl M.2.2.2.2.2.2.2.2.2.2.1 rfl rfl rfl rfl rfl M.2.2.2.2.2.2.2.2.2.2.2 M.2.2.2⟩)
theorem xr_1 (X : xX RX0 p s m args c cc nL D dA A e0) (M : xM D dA A e0 h G T s F Rr H locs) {f : Nat → Int32} (hf : Rr 1 = f) {i : Int32} {j : Nat} (hin : vp_in i 9) (hj : i.toNatClampNeg = j) (hdg : decode cc pc = .ok (.iaload, 1)) (kk : W p l e R s m args below meth c H locs cells slots Q (F0 m (pc + 1) ls (.int (f j) :: rest))) : W p l e R s m args below meth c H locs cells slots Q (F0 m pc ls (.int i :: .ref (g_ad G 1) :: rest)) := by
  subst hf; subst hj
  exact va_iald X.hx X.hb X.K M.1 2 0 rfl rfl hin hdg kk
theorem xs_1 (X : xX RX0 p s m args c cc nL D dA A e0) (M : xM D dA A e0 h G T s F Rr H locs) {i x : Int32} {j : Nat} (hin : vp_in i 9) (hj : i.toNatClampNeg = j) (hdg : decode cc pc = .ok (.iastore, 1)) (kk : ∀ (H1 : Heap) (locs1 : List Loc), xM D dA A e0 h G T s F (mset Rr 1 j (x)) H1 locs1 → W p l e R s m args below meth c H1 locs1 cells slots Q (F0 m (pc + 1) ls rest)) : W p l e R s m args below meth c H locs cells slots Q (F0 m pc ls (.int x :: .int i :: .ref (g_ad G 1) :: rest)) := by
  subst hj
  exact va_iast X.hx X.hb X.K M.1 M.2.1 M.2.2.1 2 0 rfl rfl hin hdg (fun H1 locs1 hP hD hS => kk H1 locs1 ⟨hP, hD, hS, xI_ms (by decide) (by decide) M.2.2.2⟩)
theorem xn_1 (X : xX RX0 p s m args c cc nL D dA A e0) (M : xM D dA A e0 h G T s F Rr H locs) (hdg : decode cc pc = .ok (.arraylength, 1)) (kk : W p l e R s m args below meth c H locs cells slots Q (F0 m (pc + 1) ls (.int 9 :: rest))) : W p l e R s m args below meth c H locs cells slots Q (F0 m pc ls (.ref (g_ad G 1) :: rest)) := va_alen X.hx X.hb X.K M.1 2 0 rfl rfl rfl hdg kk
theorem xr_2 (X : xX RX0 p s m args c cc nL D dA A e0) (M : xM D dA A e0 h G T s F Rr H locs) {f : Nat → Int32} (hf : Rr 2 = f) {i : Int32} {j : Nat} (hin : vp_in i 9) (hj : i.toNatClampNeg = j) (hdg : decode cc pc = .ok (.iaload, 1)) (kk : W p l e R s m args below meth c H locs cells slots Q (F0 m (pc + 1) ls (.int (f j) :: rest))) : W p l e R s m args below meth c H locs cells slots Q (F0 m pc ls (.int i :: .ref (g_ad G 2) :: rest)) := by
  subst hf; subst hj
  exact va_iald X.hx X.hb X.K M.1 3 0 rfl rfl hin hdg kk
theorem xs_2 (X : xX RX0 p s m args c cc nL D dA A e0) (M : xM D dA A e0 h G T s F Rr H locs) {i x : Int32} {j : Nat} (hin : vp_in i 9) (hj : i.toNatClampNeg = j) (hdg : decode cc pc = .ok (.iastore, 1)) (kk : ∀ (H1 : Heap) (locs1 : List Loc), xM D dA A e0 h G T s F (mset Rr 2 j (x)) H1 locs1 → W p l e R s m args below meth c H1 locs1 cells slots Q (F0 m (pc + 1) ls rest)) : W p l e R s m args below meth c H locs cells slots Q (F0 m pc ls (.int x :: .int i :: .ref (g_ad G 2) :: rest)) := by
  subst hj
  exact va_iast X.hx X.hb X.K M.1 M.2.1 M.2.2.1 3 0 rfl rfl hin hdg (fun H1 locs1 hP hD hS => kk H1 locs1 ⟨hP, hD, hS, xI_ms (by decide) (by decide) M.2.2.2⟩)
theorem xn_2 (X : xX RX0 p s m args c cc nL D dA A e0) (M : xM D dA A e0 h G T s F Rr H locs) (hdg : decode cc pc = .ok (.arraylength, 1)) (kk : W p l e R s m args below meth c H locs cells slots Q (F0 m (pc + 1) ls (.int 9 :: rest))) : W p l e R s m args below meth c H locs cells slots Q (F0 m pc ls (.ref (g_ad G 2) :: rest)) := va_alen X.hx X.hb X.K M.1 3 0 rfl rfl rfl hdg kk
theorem xr_3 (X : xX RX0 p s m args c cc nL D dA A e0) (M : xM D dA A e0 h G T s F Rr H locs) {f : Nat → Int32} (hf : Rr 3 = f) {i : Int32} {j : Nat} (hin : vp_in i 9) (hj : i.toNatClampNeg = j) (hdg : decode cc pc = .ok (.iaload, 1)) (kk : W p l e R s m args below meth c H locs cells slots Q (F0 m (pc + 1) ls (.int (f j) :: rest))) : W p l e R s m args below meth c H locs cells slots Q (F0 m pc ls (.int i :: .ref (g_ad G 3) :: rest)) := by
  subst hf; subst hj
  exact va_iald X.hx X.hb X.K M.1 4 0 rfl rfl hin hdg kk
theorem xs_3 (X : xX RX0 p s m args c cc nL D dA A e0) (M : xM D dA A e0 h G T s F Rr H locs) {i x : Int32} {j : Nat} (hin : vp_in i 9) (hj : i.toNatClampNeg = j) (hdg : decode cc pc = .ok (.iastore, 1)) (kk : ∀ (H1 : Heap) (locs1 : List Loc), xM D dA A e0 h G T s F (mset Rr 3 j (x)) H1 locs1 → W p l e R s m args below meth c H1 locs1 cells slots Q (F0 m (pc + 1) ls rest)) : W p l e R s m args below meth c H locs cells slots Q (F0 m pc ls (.int x :: .int i :: .ref (g_ad G 3) :: rest)) := by
  subst hj
  exact va_iast X.hx X.hb X.K M.1 M.2.1 M.2.2.1 4 0 rfl rfl hin hdg (fun H1 locs1 hP hD hS => kk H1 locs1 ⟨hP, hD, hS, xI_ms (by decide) (by decide) M.2.2.2⟩)
theorem xn_3 (X : xX RX0 p s m args c cc nL D dA A e0) (M : xM D dA A e0 h G T s F Rr H locs) (hdg : decode cc pc = .ok (.arraylength, 1)) (kk : W p l e R s m args below meth c H locs cells slots Q (F0 m (pc + 1) ls (.int 9 :: rest))) : W p l e R s m args below meth c H locs cells slots Q (F0 m pc ls (.ref (g_ad G 3) :: rest)) := va_alen X.hx X.hb X.K M.1 4 0 rfl rfl rfl hdg kk
theorem xr_4 (X : xX RX0 p s m args c cc nL D dA A e0) (M : xM D dA A e0 h G T s F Rr H locs) {f : Nat → Int32} (hf : Rr 4 = f) {i : Int32} {j : Nat} (hin : vp_in i 9) (hj : i.toNatClampNeg = j) (hdg : decode cc pc = .ok (.iaload, 1)) (kk : W p l e R s m args below meth c H locs cells slots Q (F0 m (pc + 1) ls (.int (f j) :: rest))) : W p l e R s m args below meth c H locs cells slots Q (F0 m pc ls (.int i :: .ref (g_ad G 4) :: rest)) := by
  subst hf; subst hj
  exact va_iald X.hx X.hb X.K M.1 5 0 rfl rfl hin hdg kk
theorem xs_4 (X : xX RX0 p s m args c cc nL D dA A e0) (M : xM D dA A e0 h G T s F Rr H locs) {i x : Int32} {j : Nat} (hin : vp_in i 9) (hj : i.toNatClampNeg = j) (hdg : decode cc pc = .ok (.iastore, 1)) (kk : ∀ (H1 : Heap) (locs1 : List Loc), xM D dA A e0 h G T s F (mset Rr 4 j (x)) H1 locs1 → W p l e R s m args below meth c H1 locs1 cells slots Q (F0 m (pc + 1) ls rest)) : W p l e R s m args below meth c H locs cells slots Q (F0 m pc ls (.int x :: .int i :: .ref (g_ad G 4) :: rest)) := by
  subst hj
  exact va_iast X.hx X.hb X.K M.1 M.2.1 M.2.2.1 5 0 rfl rfl hin hdg (fun H1 locs1 hP hD hS => kk H1 locs1 ⟨hP, hD, hS, xI_ms (by decide) (by decide) M.2.2.2⟩)
theorem xn_4 (X : xX RX0 p s m args c cc nL D dA A e0) (M : xM D dA A e0 h G T s F Rr H locs) (hdg : decode cc pc = .ok (.arraylength, 1)) (kk : W p l e R s m args below meth c H locs cells slots Q (F0 m (pc + 1) ls (.int 9 :: rest))) : W p l e R s m args below meth c H locs cells slots Q (F0 m pc ls (.ref (g_ad G 4) :: rest)) := va_alen X.hx X.hb X.K M.1 5 0 rfl rfl rfl hdg kk
theorem xr_5 (X : xX RX0 p s m args c cc nL D dA A e0) (M : xM D dA A e0 h G T s F Rr H locs) {f : Nat → Int32} (hf : Rr 5 = f) {i : Int32} {j : Nat} (hin : vp_in i 9) (hj : i.toNatClampNeg = j) (hdg : decode cc pc = .ok (.iaload, 1)) (kk : W p l e R s m args below meth c H locs cells slots Q (F0 m (pc + 1) ls (.int (f j) :: rest))) : W p l e R s m args below meth c H locs cells slots Q (F0 m pc ls (.int i :: .ref (g_ad G 5) :: rest)) := by
  subst hf; subst hj
  exact va_iald X.hx X.hb X.K M.1 6 0 rfl rfl hin hdg kk
theorem xs_5 (X : xX RX0 p s m args c cc nL D dA A e0) (M : xM D dA A e0 h G T s F Rr H locs) {i x : Int32} {j : Nat} (hin : vp_in i 9) (hj : i.toNatClampNeg = j) (hdg : decode cc pc = .ok (.iastore, 1)) (kk : ∀ (H1 : Heap) (locs1 : List Loc), xM D dA A e0 h G T s F (mset Rr 5 j (x)) H1 locs1 → W p l e R s m args below meth c H1 locs1 cells slots Q (F0 m (pc + 1) ls rest)) : W p l e R s m args below meth c H locs cells slots Q (F0 m pc ls (.int x :: .int i :: .ref (g_ad G 5) :: rest)) := by
  subst hj
  exact va_iast X.hx X.hb X.K M.1 M.2.1 M.2.2.1 6 0 rfl rfl hin hdg (fun H1 locs1 hP hD hS => kk H1 locs1 ⟨hP, hD, hS, xI_ms (by decide) (by decide) M.2.2.2⟩)
theorem xn_5 (X : xX RX0 p s m args c cc nL D dA A e0) (M : xM D dA A e0 h G T s F Rr H locs) (hdg : decode cc pc = .ok (.arraylength, 1)) (kk : W p l e R s m args below meth c H locs cells slots Q (F0 m (pc + 1) ls (.int 9 :: rest))) : W p l e R s m args below meth c H locs cells slots Q (F0 m pc ls (.ref (g_ad G 5) :: rest)) := va_alen X.hx X.hb X.K M.1 6 0 rfl rfl rfl hdg kk
theorem xr_7 (X : xX RX0 p s m args c cc nL D dA A e0) (M : xM D dA A e0 h G T s F Rr H locs) {f : Nat → Int32} (hf : Rr 7 = f) {i : Int32} {j : Nat} (hin : vp_in i 400) (hj : i.toNatClampNeg = j) (hdg : decode cc pc = .ok (.baload, 1)) (kk : W p l e R s m args below meth c H locs cells slots Q (F0 m (pc + 1) ls (.int (f j) :: rest))) : W p l e R s m args below meth c H locs cells slots Q (F0 m pc ls (.int i :: .ref (g_ad G 7) :: rest)) := by
  subst hf; subst hj
  exact va_bald X.hx X.hb X.K M.1 8 1 rfl rfl hin hdg kk
theorem xs_7 (X : xX RX0 p s m args c cc nL D dA A e0) (M : xM D dA A e0 h G T s F Rr H locs) {i x : Int32} {j : Nat} (hin : vp_in i 400) (hj : i.toNatClampNeg = j) (hdg : decode cc pc = .ok (.bastore, 1)) (kk : ∀ (H1 : Heap) (locs1 : List Loc), xM D dA A e0 h G T s F (mset Rr 7 j (x.toInt8.toInt32)) H1 locs1 → W p l e R s m args below meth c H1 locs1 cells slots Q (F0 m (pc + 1) ls rest)) : W p l e R s m args below meth c H locs cells slots Q (F0 m pc ls (.int x :: .int i :: .ref (g_ad G 7) :: rest)) := by
  subst hj
  exact va_bast X.hx X.hb X.K M.1 M.2.1 M.2.2.1 8 1 rfl rfl hin hdg (fun H1 locs1 hP hD hS => kk H1 locs1 ⟨hP, hD, hS, xI_ms (by decide) (by decide) M.2.2.2⟩)
theorem xn_7 (X : xX RX0 p s m args c cc nL D dA A e0) (M : xM D dA A e0 h G T s F Rr H locs) (hdg : decode cc pc = .ok (.arraylength, 1)) (kk : W p l e R s m args below meth c H locs cells slots Q (F0 m (pc + 1) ls (.int 400 :: rest))) : W p l e R s m args below meth c H locs cells slots Q (F0 m pc ls (.ref (g_ad G 7) :: rest)) := va_alen X.hx X.hb X.K M.1 8 1 rfl rfl rfl hdg kk
theorem xr_12 (X : xX RX0 p s m args c cc nL D dA A e0) (M : xM D dA A e0 h G T s F Rr H locs) {f : Nat → Int32} (hf : Rr 12 = f) {i : Int32} {j : Nat} (hin : vp_in i 72) (hj : i.toNatClampNeg = j) (hdg : decode cc pc = .ok (.iaload, 1)) (kk : W p l e R s m args below meth c H locs cells slots Q (F0 m (pc + 1) ls (.int (f j) :: rest))) : W p l e R s m args below meth c H locs cells slots Q (F0 m pc ls (.int i :: .ref (g_ad G 12) :: rest)) := by
  subst hf; subst hj
  exact va_iald X.hx X.hb X.K M.1 11 0 rfl rfl hin hdg kk
theorem xs_12 (X : xX RX0 p s m args c cc nL D dA A e0) (M : xM D dA A e0 h G T s F Rr H locs) {i x : Int32} {j : Nat} (hin : vp_in i 72) (hj : i.toNatClampNeg = j) (hdg : decode cc pc = .ok (.iastore, 1)) (kk : ∀ (H1 : Heap) (locs1 : List Loc), xM D dA A e0 h G T s F (mset Rr 12 j (x)) H1 locs1 → W p l e R s m args below meth c H1 locs1 cells slots Q (F0 m (pc + 1) ls rest)) : W p l e R s m args below meth c H locs cells slots Q (F0 m pc ls (.int x :: .int i :: .ref (g_ad G 12) :: rest)) := by
  subst hj
  exact va_iast X.hx X.hb X.K M.1 M.2.1 M.2.2.1 11 0 rfl rfl hin hdg (fun H1 locs1 hP hD hS => kk H1 locs1 ⟨hP, hD, hS, xI_ms (by decide) (by decide) M.2.2.2⟩)
theorem xn_12 (X : xX RX0 p s m args c cc nL D dA A e0) (M : xM D dA A e0 h G T s F Rr H locs) (hdg : decode cc pc = .ok (.arraylength, 1)) (kk : W p l e R s m args below meth c H locs cells slots Q (F0 m (pc + 1) ls (.int 72 :: rest))) : W p l e R s m args below meth c H locs cells slots Q (F0 m pc ls (.ref (g_ad G 12) :: rest)) := va_alen X.hx X.hb X.K M.1 11 0 rfl rfl rfl hdg kk
theorem xr_16 (X : xX RX0 p s m args c cc nL D dA A e0) (M : xM D dA A e0 h G T s F Rr H locs) {f : Nat → Int32} (hf : Rr 16 = f) {i : Int32} {j : Nat} (hin : vp_in i 8) (hj : i.toNatClampNeg = j) (hdg : decode cc pc = .ok (.iaload, 1)) (kk : W p l e R s m args below meth c H locs cells slots Q (F0 m (pc + 1) ls (.int (f j) :: rest))) : W p l e R s m args below meth c H locs cells slots Q (F0 m pc ls (.int i :: .ref (g_ad G 16) :: rest)) := by
  subst hf; subst hj
  exact va_iald X.hx X.hb X.K M.1 15 0 rfl rfl hin hdg kk
theorem xs_16 (X : xX RX0 p s m args c cc nL D dA A e0) (M : xM D dA A e0 h G T s F Rr H locs) {i x : Int32} {j : Nat} (hin : vp_in i 8) (hj : i.toNatClampNeg = j) (hdg : decode cc pc = .ok (.iastore, 1)) (kk : ∀ (H1 : Heap) (locs1 : List Loc), xM D dA A e0 h G T s F (mset Rr 16 j (x)) H1 locs1 → W p l e R s m args below meth c H1 locs1 cells slots Q (F0 m (pc + 1) ls rest)) : W p l e R s m args below meth c H locs cells slots Q (F0 m pc ls (.int x :: .int i :: .ref (g_ad G 16) :: rest)) := by
  subst hj
  exact va_iast X.hx X.hb X.K M.1 M.2.1 M.2.2.1 15 0 rfl rfl hin hdg (fun H1 locs1 hP hD hS => kk H1 locs1 ⟨hP, hD, hS, xI_ms (by decide) (by decide) M.2.2.2⟩)
theorem xn_16 (X : xX RX0 p s m args c cc nL D dA A e0) (M : xM D dA A e0 h G T s F Rr H locs) (hdg : decode cc pc = .ok (.arraylength, 1)) (kk : W p l e R s m args below meth c H locs cells slots Q (F0 m (pc + 1) ls (.int 8 :: rest))) : W p l e R s m args below meth c H locs cells slots Q (F0 m pc ls (.ref (g_ad G 16) :: rest)) := va_alen X.hx X.hb X.K M.1 15 0 rfl rfl rfl hdg kk
theorem xr_17 (X : xX RX0 p s m args c cc nL D dA A e0) (M : xM D dA A e0 h G T s F Rr H locs) {f : Nat → Int32} (hf : Rr 17 = f) {i : Int32} {j : Nat} (hin : vp_in i 12) (hj : i.toNatClampNeg = j) (hdg : decode cc pc = .ok (.iaload, 1)) (kk : W p l e R s m args below meth c H locs cells slots Q (F0 m (pc + 1) ls (.int (f j) :: rest))) : W p l e R s m args below meth c H locs cells slots Q (F0 m pc ls (.int i :: .ref (g_ad G 17) :: rest)) := by
  subst hf; subst hj
  exact va_iald X.hx X.hb X.K M.1 16 0 rfl rfl hin hdg kk
theorem xs_17 (X : xX RX0 p s m args c cc nL D dA A e0) (M : xM D dA A e0 h G T s F Rr H locs) {i x : Int32} {j : Nat} (hin : vp_in i 12) (hj : i.toNatClampNeg = j) (hdg : decode cc pc = .ok (.iastore, 1)) (kk : ∀ (H1 : Heap) (locs1 : List Loc), xM D dA A e0 h G T s F (mset Rr 17 j (x)) H1 locs1 → W p l e R s m args below meth c H1 locs1 cells slots Q (F0 m (pc + 1) ls rest)) : W p l e R s m args below meth c H locs cells slots Q (F0 m pc ls (.int x :: .int i :: .ref (g_ad G 17) :: rest)) := by
  subst hj
  exact va_iast X.hx X.hb X.K M.1 M.2.1 M.2.2.1 16 0 rfl rfl hin hdg (fun H1 locs1 hP hD hS => kk H1 locs1 ⟨hP, hD, hS, xI_ms (by decide) (by decide) M.2.2.2⟩)
theorem xn_17 (X : xX RX0 p s m args c cc nL D dA A e0) (M : xM D dA A e0 h G T s F Rr H locs) (hdg : decode cc pc = .ok (.arraylength, 1)) (kk : W p l e R s m args below meth c H locs cells slots Q (F0 m (pc + 1) ls (.int 12 :: rest))) : W p l e R s m args below meth c H locs cells slots Q (F0 m pc ls (.ref (g_ad G 17) :: rest)) := va_alen X.hx X.hb X.K M.1 16 0 rfl rfl rfl hdg kk
theorem xr_18 (X : xX RX0 p s m args c cc nL D dA A e0) (M : xM D dA A e0 h G T s F Rr H locs) {f : Nat → Int32} (hf : Rr 18 = f) {i : Int32} {j : Nat} (hin : vp_in i 12) (hj : i.toNatClampNeg = j) (hdg : decode cc pc = .ok (.iaload, 1)) (kk : W p l e R s m args below meth c H locs cells slots Q (F0 m (pc + 1) ls (.int (f j) :: rest))) : W p l e R s m args below meth c H locs cells slots Q (F0 m pc ls (.int i :: .ref (g_ad G 18) :: rest)) := by
  subst hf; subst hj
  exact va_iald X.hx X.hb X.K M.1 17 0 rfl rfl hin hdg kk
theorem xs_18 (X : xX RX0 p s m args c cc nL D dA A e0) (M : xM D dA A e0 h G T s F Rr H locs) {i x : Int32} {j : Nat} (hin : vp_in i 12) (hj : i.toNatClampNeg = j) (hdg : decode cc pc = .ok (.iastore, 1)) (kk : ∀ (H1 : Heap) (locs1 : List Loc), xM D dA A e0 h G T s F (mset Rr 18 j (x)) H1 locs1 → W p l e R s m args below meth c H1 locs1 cells slots Q (F0 m (pc + 1) ls rest)) : W p l e R s m args below meth c H locs cells slots Q (F0 m pc ls (.int x :: .int i :: .ref (g_ad G 18) :: rest)) := by
  subst hj
  exact va_iast X.hx X.hb X.K M.1 M.2.1 M.2.2.1 17 0 rfl rfl hin hdg (fun H1 locs1 hP hD hS => kk H1 locs1 ⟨hP, hD, hS, xI_ms (by decide) (by decide) M.2.2.2⟩)
theorem xn_18 (X : xX RX0 p s m args c cc nL D dA A e0) (M : xM D dA A e0 h G T s F Rr H locs) (hdg : decode cc pc = .ok (.arraylength, 1)) (kk : W p l e R s m args below meth c H locs cells slots Q (F0 m (pc + 1) ls (.int 12 :: rest))) : W p l e R s m args below meth c H locs cells slots Q (F0 m pc ls (.ref (g_ad G 18) :: rest)) := va_alen X.hx X.hb X.K M.1 17 0 rfl rfl rfl hdg kk
theorem xr_19 (X : xX RX0 p s m args c cc nL D dA A e0) (M : xM D dA A e0 h G T s F Rr H locs) {f : Nat → Int32} (hf : Rr 19 = f) {i : Int32} {j : Nat} (hin : vp_in i 12) (hj : i.toNatClampNeg = j) (hdg : decode cc pc = .ok (.iaload, 1)) (kk : W p l e R s m args below meth c H locs cells slots Q (F0 m (pc + 1) ls (.int (f j) :: rest))) : W p l e R s m args below meth c H locs cells slots Q (F0 m pc ls (.int i :: .ref (g_ad G 19) :: rest)) := by
  subst hf; subst hj
  exact va_iald X.hx X.hb X.K M.1 18 0 rfl rfl hin hdg kk
theorem xs_19 (X : xX RX0 p s m args c cc nL D dA A e0) (M : xM D dA A e0 h G T s F Rr H locs) {i x : Int32} {j : Nat} (hin : vp_in i 12) (hj : i.toNatClampNeg = j) (hdg : decode cc pc = .ok (.iastore, 1)) (kk : ∀ (H1 : Heap) (locs1 : List Loc), xM D dA A e0 h G T s F (mset Rr 19 j (x)) H1 locs1 → W p l e R s m args below meth c H1 locs1 cells slots Q (F0 m (pc + 1) ls rest)) : W p l e R s m args below meth c H locs cells slots Q (F0 m pc ls (.int x :: .int i :: .ref (g_ad G 19) :: rest)) := by
  subst hj
  exact va_iast X.hx X.hb X.K M.1 M.2.1 M.2.2.1 18 0 rfl rfl hin hdg (fun H1 locs1 hP hD hS => kk H1 locs1 ⟨hP, hD, hS, xI_ms (by decide) (by decide) M.2.2.2⟩)
theorem xn_19 (X : xX RX0 p s m args c cc nL D dA A e0) (M : xM D dA A e0 h G T s F Rr H locs) (hdg : decode cc pc = .ok (.arraylength, 1)) (kk : W p l e R s m args below meth c H locs cells slots Q (F0 m (pc + 1) ls (.int 12 :: rest))) : W p l e R s m args below meth c H locs cells slots Q (F0 m pc ls (.ref (g_ad G 19) :: rest)) := va_alen X.hx X.hb X.K M.1 18 0 rfl rfl rfl hdg kk
theorem xr_22 (X : xX RX0 p s m args c cc nL D dA A e0) (M : xM D dA A e0 h G T s F Rr H locs) {f : Nat → Int32} (hf : Rr 22 = f) {i : Int32} {j : Nat} (hin : vp_in i 16) (hj : i.toNatClampNeg = j) (hdg : decode cc pc = .ok (.iaload, 1)) (kk : W p l e R s m args below meth c H locs cells slots Q (F0 m (pc + 1) ls (.int (f j) :: rest))) : W p l e R s m args below meth c H locs cells slots Q (F0 m pc ls (.int i :: .ref (g_ad G 24) :: rest)) := by
  subst hf; subst hj
  exact va_iald X.hx X.hb X.K M.1 20 0 rfl rfl hin hdg kk
theorem xs_22 (X : xX RX0 p s m args c cc nL D dA A e0) (M : xM D dA A e0 h G T s F Rr H locs) {i x : Int32} {j : Nat} (hin : vp_in i 16) (hj : i.toNatClampNeg = j) (hdg : decode cc pc = .ok (.iastore, 1)) (kk : ∀ (H1 : Heap) (locs1 : List Loc), xM D dA A e0 h G T s F (mset Rr 22 j (x)) H1 locs1 → W p l e R s m args below meth c H1 locs1 cells slots Q (F0 m (pc + 1) ls rest)) : W p l e R s m args below meth c H locs cells slots Q (F0 m pc ls (.int x :: .int i :: .ref (g_ad G 24) :: rest)) := by
  subst hj
  exact va_iast X.hx X.hb X.K M.1 M.2.1 M.2.2.1 20 0 rfl rfl hin hdg (fun H1 locs1 hP hD hS => kk H1 locs1 ⟨hP, hD, hS, xI_ms (by decide) (by decide) M.2.2.2⟩)
theorem xn_22 (X : xX RX0 p s m args c cc nL D dA A e0) (M : xM D dA A e0 h G T s F Rr H locs) (hdg : decode cc pc = .ok (.arraylength, 1)) (kk : W p l e R s m args below meth c H locs cells slots Q (F0 m (pc + 1) ls (.int 16 :: rest))) : W p l e R s m args below meth c H locs cells slots Q (F0 m pc ls (.ref (g_ad G 24) :: rest)) := va_alen X.hx X.hb X.K M.1 20 0 rfl rfl rfl hdg kk
theorem x_recv (X : xX own p s m args c cc nL D dA A e0) (M : xM D dA A e0 h G T s F Rr H locs) : ∃ cell : Cell, H[h]? = some cell ∧ cell.vm.isStatics = false ∧ s.vm.findClass RX0 = some cell.cls := va_recv (cl := xCl) X.K M.1 (ci := 1) (q0 := 0) (fs := xF G F) rfl rfl
theorem x_pre {U : State} (X : xX own p s m args c cc nL D dA A e0) (M : xM D dA A e0 h G T s F Rr H locs) (hU : U.heap = H) (hW : s.WarmedH U.vm) : xPre D dA A e0 h G T F Rr U := ⟨X.C M.2.2.1 hU hW, by rw [hU]; exact M.1, M.2.1, M.2.2.2⟩
variable {y : MethodName} {bytes : ByteArray} {maxL n index mc ms : Nat} {ret : Option FieldType} {ws : List Cond} {rm : Room} {As st : List Value}
/-- a call on this that only asks: an int -/
theorem x_cQ {v : Int32} (X : xX RX0 p s m args c cc nL D dA A e0) (M : xM D dA A e0 h G T s F Rr H locs) (hM : Met l y ws rm (va_Pc (.ref h :: As) (xPre D dA A e0 h G T F Rr)) (vp_Si (fun r => r = v)) 0 0 (fun _ => False)) (cw : CallW R s args RX0 RX0 index y bytes maxL ret ws rm 0 0 n) (hn : As.length = n) (hl : ls.size = nL) (hst : st = As.reverse ++ .ref h :: rest) (hW : (rest.map fun v => v.category).sum ≤ 8) (hdg : decode cc pc = .ok (.invokevirtual index, 3)) (hf : cells ≤ R.cells ∧ slots ≤ R.slots) (kk : W p l e R s m args below meth c H locs cells slots Q (F0 m (pc + 3) ls (.int v :: rest))) : W p l e R s m args below meth c H locs cells slots Q (F0 m pc ls st) :=
  vp_callSi (W.runV (As := As) (rest := rest) X.1 hM cw ⟨xPre_blind, x_recv X M, fun U hU hW => ⟨rfl, x_pre X M hU hW⟩⟩ rfl hn hl hst (by simpa [JFrame.monitorRoom] using hW) hdg hf) (fun r hr => by subst hr; exact kk)
/-- a call on this that changes the world, nothing hidden: an int -/
theorem x_cU0 {post : Int32 → mST → Prop} (X : xX RX0 p s m args c cc nL D dA A e0) (M : xM D dA A e0 h G T s F Rr H locs) (hM : Met l y ws rm (va_Pc (.ref h :: As) (xPre D dA A e0 h G T F Rr)) (va_Qi post (xB0 D dA A e0 h G T) A) mc ms A) (cw : CallW R s args RX0 RX0 index y bytes maxL ret ws rm mc ms n) (hn : As.length = n) (hl : ls.size = nL) (hst : st = As.reverse ++ .ref h :: rest) (hW : (rest.map fun v => v.category).sum ≤ 8) (hdg : decode cc pc = .ok (.invokevirtual index, 3)) (hf : cells + mc ≤ R.cells ∧ slots + ms ≤ R.slots) (kk : ∀ (r : Int32) (F1 : Nat → Int32) (R1 : Nat → Nat → Int32), post r (F1, R1) → ∀ (H1 : Heap) (locs1 : List Loc), xM D dA A e0 h G T s F1 R1 H1 locs1 → W p l e R s m args below meth c H1 locs1 (cells + mc) (slots + ms) Q (F0 m (pc + 3) ls (.int r :: rest))) : W p l e R s m args below meth c H locs cells slots Q (F0 m pc ls st) :=
  va_calli (va_runV (As := As) (rest := rest) X.1 hM cw ⟨xPre_blind, x_recv X M, fun U hU hW => ⟨rfl, x_pre X M hU hW⟩⟩ rfl hn hl hst (by simpa [JFrame.monitorRoom] using hW) hdg hf) M.2.2.1 (fun _ _ h => h) (fun _ h => h) (fun r u t H1 locs1 ht hvm hp hB hz hk hS => kk r u.1 u.2 hp H1 locs1 ⟨by rw [← ht]; exact hB.1, hB.2.1, hS, hB.2.2⟩)
/-- .. and what is hidden may grow -/
theorem x_cU {post : Int32 → mST → Prop} (X : xX RX0 p s m args c cc nL D dA A e0) (M : xM D dA A e0 h G T s F Rr H locs) (hM : Met l y ws rm (va_Pc (.ref h :: As) (xPre D dA A e0 h G T F Rr)) (va_Qi post (xB D dA A e0 h G T) A) mc ms A) (cw : CallW R s args RX0 RX0 index y bytes maxL ret ws rm mc ms n) (hn : As.length = n) (hl : ls.size = nL) (hst : st = As.reverse ++ .ref h :: rest) (hW : (rest.map fun v => v.category).sum ≤ 8) (hdg : decode cc pc = .ok (.invokevirtual index, 3)) (hf : cells + mc ≤ R.cells ∧ slots + ms ≤ R.slots) (kk : ∀ (r : Int32) (F1 : Nat → Int32) (R1 : Nat → Nat → Int32), post r (F1, R1) → ∀ (G1 : xG), xext G G1 → ∀ (H1 : Heap) (locs1 : List Loc), xM D dA A e0 h G1 T s F1 R1 H1 locs1 → W p l e R s m args below meth c H1 locs1 (cells + mc) (slots + ms) Q (F0 m (pc + 3) ls (.int r :: rest))) : W p l e R s m args below meth c H locs cells slots Q (F0 m pc ls st) :=
  va_calli (va_runV (As := As) (rest := rest) X.1 hM cw ⟨xPre_blind, x_recv X M, fun U hU hW => ⟨rfl, x_pre X M hU hW⟩⟩ rfl hn hl hst (by simpa [JFrame.monitorRoom] using hW) hdg hf) M.2.2.1 (fun _ _ h => h) (fun _ h => h) (fun r u t H1 locs1 ht hvm hp hB hz hk hS => by obtain ⟨G1, hx, b1, b2, b3⟩ := hB; exact kk r u.1 u.2 hp G1 hx H1 locs1 ⟨by rw [← ht]; exact b1, b2, hS, b3⟩)
/-- a static method that only counts -/
theorem xs_cI {v : Int32} (X : xX own p s m args c cc nL D dA A e0) (hM : Met l y ws rm (va_Pc As (fun _ => True)) (vp_Si (fun r => r = v)) 0 0 (fun _ => False)) (cw : CallB R s args own index y bytes maxL ret ws rm 0 0 n ∧ (Cond.static y).before args s = true) (hn : As.length = n) (hl : ls.size = nL) (hst : st = As.reverse ++ rest) (hW : (rest.map fun v => v.category).sum ≤ 8) (hdg : decode cc pc = .ok (.invokestatic index, 3)) (hf : cells ≤ R.cells ∧ slots ≤ R.slots) (kk : W p l e R s m args below meth c H locs cells slots Q (F0 m (pc + 3) ls (.int v :: rest))) : W p l e R s m args below meth c H locs cells slots Q (F0 m pc ls st) := s_cI X.1 hM cw hn hl hst hW hdg hf kk
end XROWS
