/-! Z-LAYER: contracts over a given heap: every method's start is one heap H0, its end says what the heap is then. G: class numbers, array classes, ArrayList's empty array, the mirror of Object's array, the heap at the law's start -/
abbrev zG : Type := va_G × (Nat → ClassId) × (Nat × Nat) × Heap
abbrev zHB (G : zG) : Heap := G.2.2.2
abbrev zdE (G : zG) : Nat := G.2.2.1.1
abbrev zmi (G : zG) : Nat := G.2.2.1.2
def zT0 : u_T := fun _ => ("", "", "", false)
abbrev zCl : List vw_C := [(RX1, TX1, 3), (RX3, TX3, 2), (RX4, TX4, 8), (RX5, TX5, 2), (RX6, TX6, 5), (RX2, TX2, 18), (RJ2, TJ2, 3), (RJ6, zT0, 0), (RJ7, zT0, 0), (RJ12, zT0, 0)]
abbrev zTy (f : Nat → ClassId) : List (ClassId × FieldType) := [(f 0, .int), (f 1, .boolean), (f 2, .long), (f 3, .object "java/lang/Object")]
abbrev zA (G : zG) : Nat → Prop := fun q => (zHB G).size ≤ q
def zB (G : zG) (H : Heap) : Prop := (zHB G).size ≤ H.size ∧ ∀ q : Nat, q < (zHB G).size → H[q]? = (zHB G)[q]?
def zL (G : zG) (locs : List Loc) : Prop := ∀ z ∈ locs, (zHB G).size ≤ z.base
theorem zL.nil {G : zG} : zL G [] := fun _ h => nomatch h
theorem zL.app {G : zG} {a b : List Loc} (ha : zL G a) (hb : ∀ z ∈ b, (zHB G).size ≤ z.base) : zL G (a ++ b) := fun z h => (List.mem_append.mp h).elim (ha z) (hb z)
theorem zL.one {G : zG} {a : List Loc} {q k : Nat} (ha : zL G a) (hq : (zHB G).size ≤ q) : zL G (a ++ [⟨q, k⟩]) := ha.app (fun z h => by rw [List.mem_singleton.mp h]; exact hq)
/-- an object of the class ci with the fields fs -/
def zO (G : zG) (H : Heap) (a ci : Nat) (fs : List Value) : Prop := va_at G.1 zCl (a, .inr (ci, fs)) H
/-- arrays: of ints, of booleans, of longs, of objects -/
def zI (G : zG) (H : Heap) (a n : Nat) (f : Nat → Int32) : Prop := H[a]? = some (vp_cell (G.2.1 0) (n, .inl f))
def zZ (G : zG) (H : Heap) (a n : Nat) (f : Nat → Int32) : Prop := H[a]? = some (vp_cell (G.2.1 1) (n, .inl f))
def zJ (G : zG) (H : Heap) (a n : Nat) (f : Nat → Int64) : Prop := H[a]? = some (vp_cell (G.2.1 2) (n, .inr (.inl f)))
def zR (G : zG) (H : Heap) (a n : Nat) (f : Nat → Option Nat) : Prop := H[a]? = some (vp_cell (G.2.1 3) (n, .inr (.inr (.inr (.inr f)))))
theorem zP1 {G : zG} {H : Heap} {a : Nat} {x : va_E} (h : va_at G.1 zCl (a, x) H) : va_P G.1 zCl [(a, x)] H := by
  intro k q hk
  have hz : k < 1 := (List.getElem?_eq_some_iff.mp hk).1
  rw [show k = 0 by omega] at hk
  cases hk
  exact h
theorem zO.P {G : zG} {H : Heap} {a ci : Nat} {fs : List Value} (h : zO G H a ci fs) : va_P G.1 zCl [(a, .inr (ci, fs))] H := zP1 h
theorem zI.P {G : zG} {H : Heap} {a n : Nat} {f : Nat → Int32} (h : zI G H a n f) : va_P G.1 zCl [(a, .inl (G.2.1 0, n, .inl f))] H := zP1 h
theorem zZ.P {G : zG} {H : Heap} {a n : Nat} {f : Nat → Int32} (h : zZ G H a n f) : va_P G.1 zCl [(a, .inl (G.2.1 1, n, .inl f))] H := zP1 h
theorem zJ.P {G : zG} {H : Heap} {a n : Nat} {f : Nat → Int64} (h : zJ G H a n f) : va_P G.1 zCl [(a, .inl (G.2.1 2, n, .inr (.inl f)))] H := zP1 h
theorem zR.P {G : zG} {H : Heap} {a n : Nat} {f : Nat → Option Nat} (h : zR G H a n f) : va_P G.1 zCl [(a, .inl (G.2.1 3, n, .inr (.inr (.inr (.inr f)))))] H := zP1 h
theorem zO.kept {G : zG} {H H1 : Heap} {a ci : Nat} {fs : List Value} (h : zO G H a ci fs) (hq : H1[a]? = H[a]?) : zO G H1 a ci fs := va_at.kept h hq
theorem zO.lt {G : zG} {H : Heap} {a ci : Nat} {fs : List Value} (h : zO G H a ci fs) : a < H.size := va_at.lt h
theorem zI.kept {G : zG} {H H1 : Heap} {a n : Nat} {f : Nat → Int32} (h : zI G H a n f) (hq : H1[a]? = H[a]?) : zI G H1 a n f := hq.trans h
theorem zI.lt {G : zG} {H : Heap} {a n : Nat} {f : Nat → Int32} (h : zI G H a n f) : a < H.size := (Array.getElem?_eq_some_iff.mp h).1
theorem zZ.kept {G : zG} {H H1 : Heap} {a n : Nat} {f : Nat → Int32} (h : zZ G H a n f) (hq : H1[a]? = H[a]?) : zZ G H1 a n f := hq.trans h
theorem zZ.lt {G : zG} {H : Heap} {a n : Nat} {f : Nat → Int32} (h : zZ G H a n f) : a < H.size := (Array.getElem?_eq_some_iff.mp h).1
theorem zJ.kept {G : zG} {H H1 : Heap} {a n : Nat} {f : Nat → Int64} (h : zJ G H a n f) (hq : H1[a]? = H[a]?) : zJ G H1 a n f := hq.trans h
theorem zJ.lt {G : zG} {H : Heap} {a n : Nat} {f : Nat → Int64} (h : zJ G H a n f) : a < H.size := (Array.getElem?_eq_some_iff.mp h).1
theorem zR.kept {G : zG} {H H1 : Heap} {a n : Nat} {f : Nat → Option Nat} (h : zR G H a n f) (hq : H1[a]? = H[a]?) : zR G H1 a n f := hq.trans h
theorem zR.lt {G : zG} {H : Heap} {a n : Nat} {f : Nat → Option Nat} (h : zR G H a n f) : a < H.size := (Array.getElem?_eq_some_iff.mp h).1
/-- words that no list carries, but that stay: declares, castable, links across the nest -/
def zWk : Cond → Bool
  | .declares _ => true
  | .castable _ _ => true
  | .fieldLinkNest .. => true
  | .methodLinkNest .. => true
  | _ => false
theorem zWk_moved {w : Cond} (hk : zWk w = true) {s U : State} (hW : s.WarmedH U.vm) (h : va_Nw w s) : va_Nw w U := by
  cases w <;> first | exact va_Nw.warmD hW h | exact va_Nw.warmC hW h | exact va_Nw.warmF hW h | exact va_Nw.warmM hW h | (exfalso; revert hk; simp [zWk])
def yL_size : MethodName := ⟨"java/util/List", "size", "()I"⟩
def yL_add : MethodName := ⟨"java/util/List", "add", "(Ljava/lang/Object;)Z"⟩
def yL_get : MethodName := ⟨"java/util/List", "get", "(I)Ljava/lang/Object;"⟩
/-- ArrayList's empty array -/
def zE (G : zG) (U : State) : Prop := ∃ cell : Cell, (zHB G)[zdE G]? = some cell ∧ U.isArrayOf cell (.object "java/lang/Object") ∧ cell.slots.size = 0
/-- what the tables say, all through the run -/
def zK (G : zG) (U : State) : Prop := va_K G.1 zCl (zTy G.2.1) U ∧ (∀ w ∈ lw_tbl, zWk w = true → va_Nw w U) ∧ (va_Fw RJ2 yL_size yJ2_size U ∧ va_Fw RJ2 yL_add yJ2_add U ∧ va_Fw RJ2 yL_get yJ2_get U) ∧
  (va_AO "java/lang/Object" U ∧ va_Mi "[Ljava/lang/Object;" (zmi G) U ∧ zE G U) ∧
  va_Z "java/util/ArrayList" "DEFAULTCAPACITY_EMPTY_ELEMENTDATA" "[Ljava/lang/Object;" (.ref (zdE G)) (zA G) U (zHB G) ∧
  (vx_Zq Bundle.tN "UNASSIGNED_STACK" Bundle.steD (zA G) U (zHB G) ∧ vx_Zq Bundle.tN "SUPPRESSED_SENTINEL" Bundle.listD (zA G) U (zHB G)) ∧
  (va_Nc RJ7 RJ6 U ∧ va_Nc RJ6 RJ12 U ∧ va_Nc RJ12 RJ6 U ∧ va_Nc RJ7 RJ12 U)
theorem zK.moved {G : zG} {s U : State} (hW : s.WarmedH U.vm) (h : zK G s) : zK G U := by
  obtain ⟨h1, h2, ⟨f1, f2, f3⟩, ⟨a1, a2, cell, a3, a4, a5⟩, h5, ⟨q1, q2⟩, c1, c2, c3, c4⟩ := h
  exact ⟨va_K.moved hW.alike h1, fun w hw hk => zWk_moved hk hW (h2 w hw hk), ⟨va_Fw.moved ⟨by decide +kernel, by decide +kernel⟩ hW.alike f1, va_Fw.moved ⟨by decide +kernel, by decide +kernel⟩ hW.alike f2, va_Fw.moved ⟨by decide +kernel, by decide +kernel⟩ hW.alike f3⟩,
    ⟨va_AO.moved hW.alike a1, va_Mi.moved hW.alike a2, cell, a3, State.isArrayOf_alike hW.alike a4, a5⟩, va_Z.moved hW.alike h5, ⟨vx_Zq.moved hW.alike q1, vx_Zq.moved hW.alike q2⟩,
    va_Nc.moved hW.alike c1, va_Nc.moved hW.alike c2, va_Nc.moved hW.alike c3, va_Nc.moved hW.alike c4⟩
/-- a method's start: these arguments, this heap -/
abbrev zPc (G : zG) (av : List Value) (H0 : Heap) : Array Value → State → Prop := fun v U => v = av.toArray ∧ U.heap = H0 ∧ zK G U ∧ zB G H0
/-- its end: the answer, and the heap behind it -/
abbrev zQ (P : Option Value → Heap → Prop) : Array Value → State → Outcome → State → Prop := fun _ _ oc t => ∃ r, oc = .returned r ∧ P r t.heap
abbrev zXc (X : String → Heap → Prop) : String → State → State → Prop := fun E _ t => X E t.heap
/-- room by depth -/
abbrev zr (d mc ms : Nat) : Room := { frames := d, cells := mc, slots := ms, locals := 64 * d }
def zM (G : zG) (l : Launch) (y : MethodName) (cc : ByteArray) (nL : Nat) (ret : Option FieldType) (d mc ms : Nat) (av : List Value) (H0 : Heap) (P : Option Value → Heap → Prop) : Prop :=
  Met l y (ws_ y cc nL ret) (zr d mc ms) (zPc G av H0) (zQ P) mc ms (zA G)
def zX (G : zG) (l : Launch) (y : MethodName) (cc : ByteArray) (nL : Nat) (ret : Option FieldType) (d mc ms : Nat) (av : List Value) (H0 : Heap) (P : Option Value → Heap → Prop) (X : String → Heap → Prop) : Prop :=
  vx_Met l y (ws_ y cc nL ret) (zr d mc ms) (zPc G av H0) (zQ P) (zXc X) mc ms (zA G)
/-- a method with handlers that doesn't throw -/
def zMW (G : zG) (l : Launch) (y : MethodName) (cc : ByteArray) (nL : Nat) (ret : Option FieldType) (hh : List (Nat × Nat × Nat × Nat)) (d mc ms : Nat) (av : List Value) (H0 : Heap) (P : Option Value → Heap → Prop) : Prop :=
  Met l y (wsW_ y cc nL ret hh) (zr d mc ms) (zPc G av H0) (zQ P) mc ms (zA G)
theorem zPc_blind {G : zG} {av : List Value} {H0 : Heap} : FrameBlind (zPc G av H0) := fun a U g mk h => ⟨h.1, h.2.1, zK.moved (U := U.calling g mk a) (State.WarmedH.refl U) h.2.2.1, h.2.2.2⟩
/-- what holds all through a method -/
def zC (G : zG) (p : Program) (s : State) (m : MethodId) (args : Array Value) (meth : Method) (c : Code) (own : String) (cc : ByteArray) (nL : Nat) : Prop :=
  CallFix p m c cc nL s args lw_all own ∧ zK G s ∧ zB G s.heap ∧ meth.locks = false
section ZC
variable {G : zG} {p : Program} {l : Launch} {e : Env} {R : Room} {s : State} {m : MethodId} {args : Array Value} {below : List Frame} {meth : Method} {c : Code} {H : Heap} {locs : List Loc} {cells slots : Nat} {Q : State → Prop} {own : String} {cc : ByteArray} {nL : Nat}
theorem zC.hx (Z : zC G p s m args meth c own cc nL) : p.tables.exec = Jvm.exec := Z.1.1
theorem zC.hb (Z : zC G p s m args meth c own cc nL) : c.code = cc := Z.1.2.1
theorem zC.hml (Z : zC G p s m args meth c own cc nL) : c.maxLocals = nL := Z.1.2.2.1
theorem zC.hown (Z : zC G p s m args meth c own cc nL) : s.vm.findClass own = some m.cls := Z.1.2.2.2.1
theorem zC.hts (Z : zC G p s m args meth c own cc nL) : ∀ w ∈ lw_all, w.before args s = true := Z.1.2.2.2.2
theorem zC.K (Z : zC G p s m args meth c own cc nL) : zK G s := Z.2.1
theorem zC.B0 (Z : zC G p s m args meth c own cc nL) : zB G s.heap := Z.2.2.1
theorem zC.lk (Z : zC G p s m args meth c own cc nL) : meth.locks = false := Z.2.2.2
theorem zC.vk (Z : zC G p s m args meth c own cc nL) : va_K G.1 zCl (zTy G.2.1) s := Z.2.1.1
theorem zC.nw (Z : zC G p s m args meth c own cc nL) {w : Cond} (h : w ∈ lw_tbl) (hk : zWk w = true) : va_Nw w s := Z.2.1.2.1 w h hk
/-- the base of the heap stays -/
theorem zC.B (Z : zC G p s m args meth c own cc nL) {T : State} (hT : T.heap = H) (hL : zL G locs) (X : Stand p l e R s m args below meth c T locs cells slots) : zB G H := by
  obtain ⟨h1, h2⟩ := vx_frame X.same
  have g1 : s.heap.size ≤ T.heap.size := h1
  have g2 : ∀ q : Nat, q < s.heap.size → (∀ z ∈ locs, z.base ≠ q) → T.heap[q]? = s.heap[q]? := h2
  rw [hT] at g1 g2
  refine ⟨Nat.le_trans Z.B0.1 g1, fun q hq => ?_⟩
  rw [g2 q (Nat.lt_of_lt_of_le hq Z.B0.1) (fun z hz e9 => absurd (hL z hz) (by rw [e9]; omega))]
  exact Z.B0.2 q hq
theorem zC.S (Z : zC G p s m args meth c own cc nL) {T : State} (hT : T.heap = H) (hL : zL G locs) (X : Stand p l e R s m args below meth c T locs cells slots) : va_S (zA G) s.heap H locs := by
  obtain ⟨h1, h2⟩ := vx_frame X.same
  have g1 : s.heap.size ≤ T.heap.size := h1
  have g2 : ∀ q : Nat, q < s.heap.size → (∀ z ∈ locs, z.base ≠ q) → T.heap[q]? = s.heap[q]? := h2
  rw [hT] at g1 g2
  exact ⟨g1, fun q hq hA => g2 q hq (fun z hz e9 => hA (by rw [← e9]; exact hL z hz)), hL⟩
/-- the base, in the open -/
theorem z_base (Z : zC G p s m args meth c own cc nL) (hL : zL G locs) {g : JFrame} (kk : zB G H → W p l e R s m args below meth c H locs cells slots Q g) : W p l e R s m args below meth c H locs cells slots Q g := fun T hT X => kk (Z.B hT hL X) T hT X
end ZC
section ZS
variable {G : zG} {l : Launch} {y : MethodName} {cc : ByteArray} {nL : Nat} {ret : Option FieldType} {d mc ms : Nat} {av : List Value} {H0 : Heap} {P : Option Value → Heap → Prop} {X : String → Heap → Prop}
/-- a method's contract from its walk -/
theorem zM.of (hy : plainName y.cls = true) (hlen : (lg_sl av).length ≤ nL)
    (body : ∀ (p : Program) (e : Env) (s : State) (m : MethodId) (args : Array Value) (below : List Frame) (meth : Method) (c : Code), zC G p s m args meth c y.cls cc nL → meth.sig.returnType = ret → s.heap = H0 → (y.name = "<init>" → meth.name = "<init>") → ∀ ls : Array Slot, lv_has ls nL (lv_args 0 av) →
      W p l e (zr d mc ms) s m args below meth c H0 [] 0 0 (MQ below (zQ P) args s mc ms (zA G)) (F0 m 0 ls [])) : zM G l y cc nL ret d mc ms av H0 P := by
  refine Met.ofW (cc := cc) (maxL := nL) (ret := ret) hy rfl ?_
  intro p e s m args below meth c s₁ B hml hv
  obtain ⟨rfl, hH, hK, hB⟩ := hv
  have hts := atoms_spec (ws := ws_ y cc nL ret) B.pre
  have hts : ∀ w ∈ lw_all, w.before _ s = true := fun w h => hts w (List.mem_cons_of_mem _ h)
  have hl := lv_entry av hlen
  rw [lg_entry_eq]
  rw [← hH] at hB
  have k := body p e s m _ below meth c ⟨⟨B.exec, B.bytes, hml, findClass_of_methodNamed B.named, hts⟩, hK, hB, B.notSynchronized⟩ B.returns hH (fun h => (name_of_methodNamed B.named B.method).1.trans h) _ hl
  rw [hH]
  exact k
theorem zX.of (hy : plainName y.cls = true) (hlen : (lg_sl av).length ≤ nL)
    (body : ∀ (p : Program) (e : Env) (s : State) (m : MethodId) (args : Array Value) (below : List Frame) (meth : Method) (c : Code), zC G p s m args meth c y.cls cc nL → meth.sig.returnType = ret → (∀ x ∈ c.exceptionTable.toList, False) → s.heap = H0 → ∀ ls : Array Slot, lv_has ls nL (lv_args 0 av) →
      W p l e (zr d mc ms) s m args below meth c H0 [] 0 0 (vx_MQ below (zQ P) (zXc X) args s mc ms (zA G)) (F0 m 0 ls [])) : zX G l y cc nL ret d mc ms av H0 P X := by
  refine vx_ofW (cc := cc) (maxL := nL) (ret := ret) hy rfl ?_
  intro p e s m args below meth c s₁ B hml hxt hv
  obtain ⟨rfl, hH, hK, hB⟩ := hv
  have hts := atoms_spec (ws := ws_ y cc nL ret) B.pre
  have hts : ∀ w ∈ lw_all, w.before _ s = true := fun w h => hts w (List.mem_cons_of_mem _ h)
  have hl := lv_entry av hlen
  rw [lg_entry_eq]
  rw [← hH] at hB
  have k := body p e s m _ below meth c ⟨⟨B.exec, B.bytes, hml, findClass_of_methodNamed B.named, hts⟩, hK, hB, B.notSynchronized⟩ B.returns hxt hH _ hl
  rw [hH]
  exact k
end ZS
