/-! ArrayList: size, get, add, new -/
/-- an object of ours that goes into an Object[] -/
def zEl (G : zG) (H : Heap) (e : Nat) : Prop := ∃ (ci : Nat) (fs : List Value) (q : vw_C), zCl[ci]? = some q ∧ Cond.castable q.1 "java/lang/Object" ∈ lw_tbl ∧ zO G H e ci fs
theorem zEl.lt {G : zG} {H : Heap} {e : Nat} (h : zEl G H e) : e < H.size := by
  obtain ⟨ci, fs, q, -, -, h⟩ := h
  exact h.lt
theorem zEl.kept {G : zG} {H H1 : Heap} {e : Nat} (h : zEl G H e) (hq : H1[e]? = H[e]?) : zEl G H1 e := by
  obtain ⟨ci, fs, q, h1, h2, h⟩ := h
  exact ⟨ci, fs, q, h1, h2, h.kept hq⟩
theorem zEl.any {G : zG} {H : Heap} {e : Nat} {s : State} (hK : zK G s) (h : zEl G H e) : va_Any "java/lang/Object" s H e := by
  obtain ⟨ci, fs, q, h1, h2, h⟩ := h
  exact z_any hK h1 h2 h
theorem zEl.o1 {G : zG} {H : Heap} {e : Nat} {fs : List Value} (h : zO G H e 1 fs) : zEl G H e := ⟨1, fs, _, rfl, q875, h⟩
theorem zEl.o2 {G : zG} {H : Heap} {e : Nat} {fs : List Value} (h : zO G H e 2 fs) : zEl G H e := ⟨2, fs, _, rfl, q878, h⟩
theorem zEl.o3 {G : zG} {H : Heap} {e : Nat} {fs : List Value} (h : zO G H e 3 fs) : zEl G H e := ⟨3, fs, _, rfl, q879, h⟩
theorem zEl.o4 {G : zG} {H : Heap} {e : Nat} {fs : List Value} (h : zO G H e 4 fs) : zEl G H e := ⟨4, fs, _, rfl, q880, h⟩
theorem zEl.o6 {G : zG} {H : Heap} {e : Nat} {fs : List Value} (h : zO G H e 6 fs) : zEl G H e := ⟨6, fs, _, rfl, q871, h⟩
/-- its array: the empty one of the class, or one of its own -/
def zArr (G : zG) (H : Heap) (S : Nat → Prop) (a d : Nat) (es : List Nat) : Prop := (d = zdE G ∧ es = []) ∨ (S d ∧ d ≠ a ∧ (zHB G).size ≤ d ∧ ∃ (n : Nat) (f : Nat → Option Nat), zR G H d n f ∧ 10 ≤ n ∧ es.length ≤ n ∧ n ≤ 10 + 2 * es.length ∧ ∀ i, i < es.length → f i = es[i]?)
/-- a list at a, its cells in S, holds es -/
def zLs (G : zG) (H : Heap) (S : Nat → Prop) (a : Nat) (es : List Nat) : Prop := S a ∧ (zHB G).size ≤ a ∧ (∀ e ∈ es, zEl G H e) ∧ ∃ (m : Int32) (d : Nat), zO G H a 6 [.int m, .ref d, .int (nI es.length)] ∧ zArr G H S a d es
theorem zArr.kept {G : zG} {H H1 : Heap} {S S' : Nat → Prop} {a d : Nat} {es : List Nat} (h : zArr G H S a d es) (hS : ∀ q, S q → q < H.size → S' q ∧ H1[q]? = H[q]?) : zArr G H1 S' a d es := by
  rcases h with h | ⟨h1, h2, h3, n, f, h4, h5⟩
  · exact Or.inl h
  · obtain ⟨g1, g2⟩ := hS d h1 h4.lt
    exact Or.inr ⟨g1, h2, h3, n, f, h4.kept g2, h5⟩
theorem zLs.kept {G : zG} {H H1 : Heap} {S S' : Nat → Prop} {a : Nat} {es : List Nat} (h : zLs G H S a es) (hS : ∀ q, S q → q < H.size → S' q ∧ H1[q]? = H[q]?) (he : ∀ e ∈ es, zEl G H e → zEl G H1 e) : zLs G H1 S' a es := by
  obtain ⟨h1, h2, h3, m, d, h4, h5⟩ := h
  obtain ⟨g1, g2⟩ := hS a h1 h4.lt
  exact ⟨g1, h2, fun e h => he e h (h3 e h), m, d, h4.kept g2, h5.kept hS⟩
theorem zLs.keep {G : zG} {H H1 : Heap} {S : Nat → Prop} {a : Nat} {es : List Nat} (h : zLs G H S a es) (hk : zKeep H H1) : zLs G H1 S a es := h.kept (fun q hq hl => ⟨hq, hk.2 q hl⟩) (fun e _ h => h.kept (hk.2 e h.lt))
section ZX2
variable {G : zG} {p : Program} {l : Launch} {e : Env} {R : Room} {s : State} {m : MethodId} {args : Array Value} {below : List Frame} {meth : Method} {c : Code} {H : Heap} {locs : List Loc} {cells slots : Nat} {Q : State → Prop} {own : String} {cc : ByteArray} {nL pc : Nat} {ls : Array Slot} {rest : List Value}
theorem z_copyR (Z : zC G p s m args meth c own cc nL) (hsize : ls.size = nL) {index : Nat} (hlink : Cond.methodLink own index arraycopyName ∈ lw_all) (hnat : Cond.native arraycopyName ∈ lw_all) (hstat : Cond.static arraycopyName ∈ lw_all) (hini : Cond.initialized "java/lang/System" ∈ lw_all)
    {a0 a n0 n1 : Nat} {f g : Nat → Option Nat} (h0 : zR G H a0 n0 f) (h1 : zR G H a n1 g) {k : Nat} (hk : k < 2 ^ 31) (h4 : k ≤ n0) (h5 : k ≤ n1) (hel : ∀ i : Nat, i < k → ∀ y : Nat, f i = some y → va_Any "java/lang/Object" s H y) (hL : zL G locs) (ha : (zHB G).size ≤ a)
    (hframes : 1 ≤ R.frames) (hlocals : (rest.map fun v => v.category).sum + (nativeFrameWords "java/lang/System" "arraycopy" 5 + 11) ≤ R.locals) (hdg : decode cc pc = .ok (.invokestatic index, 3))
    (kk : ∀ (H1 : Heap) (locs1 : List Loc), zL G locs1 → zR G H1 a n1 (va_cpy f g 0 0 k) → H1.size = H.size → (∀ q : Nat, q ≠ a → H1[q]? = H[q]?) → W p l e R s m args below meth c H1 locs1 cells slots Q (F0 m (pc + 3) ls rest)) : W p l e R s m args below meth c H locs cells slots Q (F0 m pc ls (.int (nI k) :: .int 0 :: .ref a :: .int 0 :: .ref a0 :: rest)) := by
  have ek : (nI k).toNatClampNeg = k := nI_clamp hk
  have ek2 : (nI k).toInt = (k : Int) := nI_toInt hk
  have z0 : (0 : Int32).toNatClampNeg = 0 := sb_cl0
  have z1 : (0 : Int32).toInt = 0 := by decide
  intro T hT X
  obtain ⟨-, k0, hk0, cm0, hkk0⟩ := (Z.vk.2 3 _ rfl).1 n0 (fun j => va_rf (f j))
  obtain ⟨-, k1, hk1, cm1, hkk1⟩ := (Z.vk.2 3 _ rfl).1 n1 (fun j => va_rf (g j))
  obtain ⟨vm', X', step⟩ := X.arraycopy Z.hx Z.hown (Z.hts _ hlink) (Z.hts _ hnat) (Z.hts _ hstat) (Z.hts _ hini) (src := a0) (dst := a) (cs := vp_cell (G.2.1 3) (n0, .inr (.inr (.inr (.inr f))))) (cd := vp_cell (G.2.1 3) (n1, .inr (.inr (.inr (.inr g))))) (srcPos := 0) (destPos := 0) (n := nI k) (by rw [hT]; exact h0) (by rw [hT]; exact h1)
    (fun _ h => by cases h) (fun _ h => by cases h) (fun h => by cases h) (fun h => by cases h) hk0 hk1 hkk0 hkk1 rfl (by decide) (by decide) (nI_pos hk)
    (by rw [z1, ek2]; show ¬ _ > ((arrV (G.2.1 3) n0 (fun j => va_rf (f j))).slots.size : Int); rw [arrV_size]; omega)
    (by rw [z1, ek2]; show ¬ _ > ((arrV (G.2.1 3) n1 (fun j => va_rf (g j))).slots.size : Int); rw [arrV_size]; omega)
    (fun vm₁ hal i hi => by
      rw [ek] at hi
      have e : (vp_cell (G.2.1 3) (n0, .inr (.inr (.inr (.inr f))))).slots.getD ((0 : Int32).toNatClampNeg + i) .null = va_rf (f i) := by
        show (arrV (G.2.1 3) n0 (fun j => va_rf (f j))).slots.getD _ _ = _
        rw [z0, Nat.zero_add, Array.getD_eq_getD_getElem?, arrV_read _ _ (by omega)]
        rfl
      rw [e]
      cases hy : f i with
      | none => exact ⟨rfl, trivial⟩
      | some y =>
        obtain ⟨cellV, g1, g2, ⟨kC, hkC⟩, hasg⟩ := hel i hi y hy
        obtain ⟨kA, comp, r1, r2, r3, -⟩ := (Z.vk.2 3 _ rfl).2
        cases hk1.symm.trans r1
        cases hkk1.symm.trans r2
        obtain ⟨kE, hkE, -⟩ := Vm.findClass_spec r3
        obtain ⟨kC', hkC', -⟩ := hal.2.2 _ _ hkC
        obtain ⟨kE', hkE', -⟩ := hal.2.2 _ _ hkE
        refine ⟨rfl, cellV, (show T.heap[y]? = some cellV by rw [hT]; exact g1), (fun q h => by rw [h] at g2; cases g2), ⟨kC', hkC'⟩, ?_, ?_⟩
        · exact ⟨kE', hkE'⟩
        · show vm₁.assignable _ _ = true
          rw [hal.assignable]
          exact hasg _ r3)
    (g := F0 m pc ls (.int (nI k) :: .int 0 :: .ref a :: .int 0 :: .ref a0 :: rest)) rfl (by rw [Z.hml]; exact hsize) (rest := rest) rfl (by rw [Z.hb]; exact hdg) hframes (by show 2 * 0 + _ + _ ≤ _; omega)
  have e1 : copied (vp_cell (G.2.1 3) (n0, .inr (.inr (.inr (.inr f))))) (vp_cell (G.2.1 3) (n1, .inr (.inr (.inr (.inr g))))) 0 0 (nI k) = vp_cell (G.2.1 3) (n1, .inr (.inr (.inr (.inr (va_cpy f g 0 0 k))))) := by
    rw [vp_cell_q, vp_cell_q, vp_cell_q]
    show (arrV (G.2.1 3) n1 (fun j => va_rf (g j))).storeRun (0 : Int32).toNatClampNeg ((arrV (G.2.1 3) n0 (fun j => va_rf (f j))).stretch (0 : Int32).toNatClampNeg (nI k).toNatClampNeg) = _
    rw [ek, z0]
    exact va_copied (fun z => va_rf z) (G.2.1 3) (G.2.1 3) f g (by omega)
  rw [e1] at X' step
  have hl : a < H.size := h1.lt
  have hheap : ((T.setVm vm').setCell a (vp_cell (G.2.1 3) (n1, .inr (.inr (.inr (.inr (va_cpy f g 0 0 k))))))).heap = H.setIfInBounds a (vp_cell (G.2.1 3) (n1, .inr (.inr (.inr (.inr (va_cpy f g 0 0 k)))))) := by rw [← hT]; rfl
  obtain ⟨t, a1, b1⟩ := kk _ _ (hL.app (fun z hz => by
      obtain ⟨y, -, hy⟩ := List.mem_map.mp hz
      rw [← hy]
      exact ha)) (show (H.setIfInBounds a _)[a]? = some _ by simp [Array.getElem?_setIfInBounds, hl]) (by simp) (fun q hq => by simp [Array.getElem?_setIfInBounds, Ne.symm hq]) _ hheap X'
  exact ⟨t, step t a1, b1⟩
end ZX2
section LK
variable {G : zG} {p : Program} {l : Launch} {e : Env} {R : Room} {s : State} {m : MethodId} {args : Array Value} {below : List Frame} {meth : Method} {c : Code} {H : Heap} {locs : List Loc} {cells slots : Nat} {Q : State → Prop} {cc : ByteArray} {nL pc : Nat} {ls : Array Slot} {rest : List Value}
theorem gf_J2_9 (Z : zC G p s m args meth c RJ2 cc nL) {a : Nat} {fs : List Value} {v : Value} (hO : zO G H a 6 fs) (hv : fs[1]? = some v) (hdg : decode cc pc = .ok (.getfield 9, 3)) (kk : W p l e R s m args below meth c H locs cells slots Q (F0 m (pc + 3) ls (v :: rest))) : W p l e R s m args below meth c H locs cells slots Q (F0 m pc ls (.ref a :: rest)) := z_get Z (C := RJ2) (T := TJ2) (N := 3) (ci := 6) rfl in_J2 1 (by decide) q75 (fun _ h => h) hO hv hdg kk
theorem pf_J2_9 (Z : zC G p s m args meth c RJ2 cc nL) {a : Nat} {fs : List Value} {x : Nat} (hO : zO G H a 6 fs) (hl : 1 < fs.length) (hL : zL G locs) (ha : (zHB G).size ≤ a) (hdg : decode cc pc = .ok (.putfield 9, 3)) (kk : ∀ (H1 : Heap) (locs1 : List Loc), zL G locs1 → zO G H1 a 6 (fs.set 1 (.ref x)) → H1.size = H.size → (∀ q : Nat, q ≠ a → H1[q]? = H[q]?) → W p l e R s m args below meth c H1 locs1 cells slots Q (F0 m (pc + 3) ls rest)) : W p l e R s m args below meth c H locs cells slots Q (F0 m pc ls (.ref x :: .ref a :: rest)) := z_put Z (C := RJ2) (T := TJ2) (N := 3) (ci := 6) rfl in_J2 tyJ2 tyJ2_ok nmJ2 1 (by decide) q75 (fun _ h => h) rfl (ty := (.array (.object "java/lang/Object"))) (by decide +kernel) rfl rfl hO hl hL ha hdg kk
theorem gf_J2_48 (Z : zC G p s m args meth c RJ2 cc nL) {a : Nat} {fs : List Value} {v : Value} (hO : zO G H a 6 fs) (hv : fs[2]? = some v) (hdg : decode cc pc = .ok (.getfield 48, 3)) (kk : W p l e R s m args below meth c H locs cells slots Q (F0 m (pc + 3) ls (v :: rest))) : W p l e R s m args below meth c H locs cells slots Q (F0 m pc ls (.ref a :: rest)) := z_get Z (C := RJ2) (T := TJ2) (N := 3) (ci := 6) rfl in_J2 2 (by decide) q76 (fun _ h => h) hO hv hdg kk
theorem pf_J2_48 (Z : zC G p s m args meth c RJ2 cc nL) {a : Nat} {fs : List Value} {x : Int32} (hO : zO G H a 6 fs) (hl : 2 < fs.length) (hL : zL G locs) (ha : (zHB G).size ≤ a) (hdg : decode cc pc = .ok (.putfield 48, 3)) (kk : ∀ (H1 : Heap) (locs1 : List Loc), zL G locs1 → zO G H1 a 6 (fs.set 2 (.int x)) → H1.size = H.size → (∀ q : Nat, q ≠ a → H1[q]? = H[q]?) → W p l e R s m args below meth c H1 locs1 cells slots Q (F0 m (pc + 3) ls rest)) : W p l e R s m args below meth c H locs cells slots Q (F0 m pc ls (.int x :: .ref a :: rest)) := z_put Z (C := RJ2) (T := TJ2) (N := 3) (ci := 6) rfl in_J2 tyJ2 tyJ2_ok nmJ2 2 (by decide) q76 (fun _ h => h) rfl (ty := .int) (by decide +kernel) rfl rfl hO hl hL ha hdg kk
theorem gf_J1_7 (Z : zC G p s m args meth c RJ1 cc nL) {a : Nat} {fs : List Value} {v : Value} (hO : zO G H a 6 fs) (hv : fs[0]? = some v) (hdg : decode cc pc = .ok (.getfield 7, 3)) (kk : W p l e R s m args below meth c H locs cells slots Q (F0 m (pc + 3) ls (v :: rest))) : W p l e R s m args below meth c H locs cells slots Q (F0 m pc ls (.ref a :: rest)) := z_get Z (C := RJ2) (T := TJ2) (N := 3) (ci := 6) rfl in_J2 0 (by decide) q77 (fun _ h => h) hO hv hdg kk
theorem pf_J1_7 (Z : zC G p s m args meth c RJ1 cc nL) {a : Nat} {fs : List Value} {x : Int32} (hO : zO G H a 6 fs) (hl : 0 < fs.length) (hL : zL G locs) (ha : (zHB G).size ≤ a) (hdg : decode cc pc = .ok (.putfield 7, 3)) (kk : ∀ (H1 : Heap) (locs1 : List Loc), zL G locs1 → zO G H1 a 6 (fs.set 0 (.int x)) → H1.size = H.size → (∀ q : Nat, q ≠ a → H1[q]? = H[q]?) → W p l e R s m args below meth c H1 locs1 cells slots Q (F0 m (pc + 3) ls rest)) : W p l e R s m args below meth c H locs cells slots Q (F0 m pc ls (.int x :: .ref a :: rest)) := z_put Z (C := RJ2) (T := TJ2) (N := 3) (ci := 6) rfl in_J2 tyJ2 tyJ2_ok nmJ2 0 (by decide) q77 (fun _ h => h) rfl (ty := .int) (by decide +kernel) rfl rfl hO hl hL ha hdg kk
theorem gf_J2_63 (Z : zC G p s m args meth c RJ2 cc nL) {a : Nat} {fs : List Value} {v : Value} (hO : zO G H a 6 fs) (hv : fs[0]? = some v) (hdg : decode cc pc = .ok (.getfield 63, 3)) (kk : W p l e R s m args below meth c H locs cells slots Q (F0 m (pc + 3) ls (v :: rest))) : W p l e R s m args below meth c H locs cells slots Q (F0 m pc ls (.ref a :: rest)) := z_get Z (C := RJ2) (T := TJ2) (N := 3) (ci := 6) rfl in_J2 0 (by decide) q78 (u_same (Z.hts _ q79)) hO hv hdg kk
theorem pf_J2_63 (Z : zC G p s m args meth c RJ2 cc nL) {a : Nat} {fs : List Value} {x : Int32} (hO : zO G H a 6 fs) (hl : 0 < fs.length) (hL : zL G locs) (ha : (zHB G).size ≤ a) (hdg : decode cc pc = .ok (.putfield 63, 3)) (kk : ∀ (H1 : Heap) (locs1 : List Loc), zL G locs1 → zO G H1 a 6 (fs.set 0 (.int x)) → H1.size = H.size → (∀ q : Nat, q ≠ a → H1[q]? = H[q]?) → W p l e R s m args below meth c H1 locs1 cells slots Q (F0 m (pc + 3) ls rest)) : W p l e R s m args below meth c H locs cells slots Q (F0 m pc ls (.int x :: .ref a :: rest)) := z_put Z (C := RJ2) (T := TJ2) (N := 3) (ci := 6) rfl in_J2 tyJ2 tyJ2_ok nmJ2 0 (by decide) q78 (u_same (Z.hts _ q79)) rfl (ty := .int) (by decide +kernel) rfl rfl hO hl hL ha hdg kk
end LK
theorem gw_J2_1 : GoodIn lw_all (ws_ yJ1_init cJ1_init 1 none) := lw_meth q68
theorem gd_J2_1 : zhd yJ1_init 0 := by decide +kernel
theorem gw_J1_1 : GoodIn lw_all (ws_ yJ0_init cJ0_init 1 none) := lw_meth q71
theorem gd_J1_1 : zhd yJ0_init 0 := by decide +kernel
theorem gw_J2_131 : GoodIn lw_all (wsV RJ2 131 RJ2 yJ2_add_2 (ws_ yJ2_add_2 cJ2_add_2 4 (Option.none : Option Jvm.ClassFile.FieldType))) := lw_V q231 q233 qs1 q32 q234
theorem gd_J2_131 : yJ2_add_2.cls = RJ2 ∧ zhd yJ2_add_2 3 := by decide +kernel
theorem gw_J2_129 : GoodIn lw_all (wsV RJ2 129 RJ2 yJ2_grow (ws_ yJ2_grow cJ2_grow 1 (Option.some (Jvm.ClassFile.FieldType.array (Jvm.ClassFile.FieldType.object "java/lang/Object"))))) := lw_V q235 q237 qs2 q32 q238
theorem gd_J2_129 : yJ2_grow.cls = RJ2 ∧ zhd yJ2_grow 0 := by decide +kernel
theorem gw_J2_69 : GoodIn lw_all (wsV RJ2 69 RJ2 yJ2_grow_2 (ws_ yJ2_grow_2 cJ2_grow_2 4 (Option.some (Jvm.ClassFile.FieldType.array (Jvm.ClassFile.FieldType.object "java/lang/Object"))))) := lw_V q239 q241 qs3 q32 q242
theorem gd_J2_69 : yJ2_grow_2.cls = RJ2 ∧ zhd yJ2_grow_2 1 := by decide +kernel
theorem gw_J2_73 : GoodIn lw_all (va_wsS RJ2 73 yJ9_newLength (ws_ yJ9_newLength cJ9_newLength 4 (Option.some Jvm.ClassFile.FieldType.int))) := lw_S q243 q244 q41 q245
theorem gd_J2_73 : zhd yJ9_newLength 3 := by decide +kernel
theorem gw_J9_194 : GoodIn lw_all (va_wsS RJ9 194 yJ10_max (ws_ yJ10_max cJ10_max 2 (Option.some Jvm.ClassFile.FieldType.int))) := lw_S q246 q247 q42 q248
theorem gd_J9_194 : zhd yJ10_max 2 := by decide +kernel
theorem gw_J9_201 : GoodIn lw_all (va_wsS RJ9 201 yJ9_hugeLength (ws_ yJ9_hugeLength cJ9_hugeLength 3 (Option.some Jvm.ClassFile.FieldType.int))) := lw_S q250 q251 q41 q252
theorem gd_J9_201 : zhd yJ9_hugeLength 2 := by decide +kernel
theorem gw_J2_66 : GoodIn lw_all (va_wsS RJ2 66 yJ11_copyOf (ws_ yJ11_copyOf cJ11_copyOf 2 (Option.some (Jvm.ClassFile.FieldType.array (Jvm.ClassFile.FieldType.object "java/lang/Object"))))) := lw_S q253 q254 q43 q255
theorem gd_J2_66 : zhd yJ11_copyOf 2 := by decide +kernel
theorem gw_J11_300 : GoodIn lw_all (va_wsS RJ11 300 yJ11_copyOf_2 (ws_ yJ11_copyOf_2 cJ11_copyOf_2 4 (Option.some (Jvm.ClassFile.FieldType.array (Jvm.ClassFile.FieldType.object "java/lang/Object"))))) := lw_S q271 q272 q43 q273
theorem gd_J11_300 : zhd yJ11_copyOf_2 3 := by decide +kernel
theorem gw_J11_304 : GoodIn lw_all (va_wsS RJ11 304 yJ10_min (ws_ yJ10_min cJ10_min 2 (Option.some Jvm.ClassFile.FieldType.int))) := lw_S q277 q278 q42 q279
theorem gd_J11_304 : zhd yJ10_min 2 := by decide +kernel
theorem gw_J2_79 : GoodIn lw_all (va_wsS RJ2 79 yJ10_max (ws_ yJ10_max cJ10_max 2 (Option.some Jvm.ClassFile.FieldType.int))) := lw_S q283 q247 q42 q248
theorem gd_J2_79 : zhd yJ10_max 2 := by decide +kernel
theorem gw_J2_118 : GoodIn lw_all (va_wsS RJ2 118 yJ15_checkIndex (ws_ yJ15_checkIndex cJ15_checkIndex 2 (Option.some Jvm.ClassFile.FieldType.int))) := lw_S q356 q357 q48 q358
theorem gd_J2_118 : zhd yJ15_checkIndex 2 := by decide +kernel
theorem gw_J15_105 : GoodIn lw_all (va_wsS RJ15 105 yJ16_checkIndex (ws_ yJ16_checkIndex cJ16_checkIndex 3 (Option.some Jvm.ClassFile.FieldType.int))) := lw_S q359 q360 q49 q361
theorem gd_J15_105 : zhd yJ16_checkIndex 3 := by decide +kernel
theorem gw_J2_123 : GoodIn lw_all (wsV RJ2 123 RJ2 yJ2_elementData (ws_ yJ2_elementData cJ2_elementData 2 (Option.some (Jvm.ClassFile.FieldType.object "java/lang/Object")))) := lw_V q362 q363 q364 q32 q365
theorem gd_J2_123 : yJ2_elementData.cls = RJ2 ∧ zhd yJ2_elementData 1 := by decide +kernel
set_option maxHeartbeats 4000000 in
set_option maxRecDepth 100000 in
theorem j_chk (G : zG) (l : Launch) (H : Heap) (i n : Nat) (hi : i < n) (hn : n < 2 ^ 31) : zMp G l yJ16_checkIndex cJ16_checkIndex 3 (Option.some Jvm.ClassFile.FieldType.int) 0 [.int (nI i), .int (nI n), .null] H (.int (nI i)) := by
  refine zM.of (by decide +kernel) (Nat.le_of_ble_eq_true rfl) ?_
  intro p0 e0 s0 m0 args0 below0 meth0 c0 Z hr hH hn0 ls hl
  have Z : zC G p0 s0 m0 args0 meth0 c0 RJ16 cJ16_checkIndex 3 := Z
  have hl : lv_has ls 3 [(0, .int (nI i)), (1, .int (nI n)), (2, .null)] := hl
  have hL : zL G [] := zL.nil
  refine lv_iload_n Z.hx Z.hb dJ16_checkIndex_0 rfl (lv_at hl 0 rfl) ?_
  refine lv_if_lt (tgt := 9) Z.hx Z.hb dJ16_checkIndex_1 (by decide) (fun c1 => ?_) (fun c1 => ?_)
  · exact absurd c1 (nI_pos (by omega))
  · skip
    refine lv_iload_n Z.hx Z.hb dJ16_checkIndex_4 rfl (lv_at hl 0 rfl) ?_
    refine lv_iload_n Z.hx Z.hb dJ16_checkIndex_5 rfl (lv_at hl 1 rfl) ?_
    refine lv_icmp_lt (tgt := 16) Z.hx Z.hb dJ16_checkIndex_6 (by decide) (fun c6 => ?_) (fun c6 => ?_)
    · skip
      refine lv_iload_n Z.hx Z.hb dJ16_checkIndex_16 rfl (lv_at hl 0 rfl) ?_
      exact z_iret Z hr hL (⟨rfl, rfl⟩) (Nat.le_of_ble_eq_true rfl) (Nat.le_of_ble_eq_true rfl) dJ16_checkIndex_17
    · exact absurd (nI_lt hi hn) c6
set_option maxHeartbeats 4000000 in
set_option maxRecDepth 100000 in
theorem j_chk2 (G : zG) (l : Launch) (H : Heap) (i n : Nat) (hi : i < n) (hn : n < 2 ^ 31) : zMp G l yJ15_checkIndex cJ15_checkIndex 2 (Option.some Jvm.ClassFile.FieldType.int) 1 [.int (nI i), .int (nI n)] H (.int (nI i)) := by
  refine zM.of (by decide +kernel) (Nat.le_of_ble_eq_true rfl) ?_
  intro p0 e0 s0 m0 args0 below0 meth0 c0 Z hr hH hn0 ls hl
  have Z : zC G p0 s0 m0 args0 meth0 c0 RJ15 cJ15_checkIndex 2 := Z
  have hl : lv_has ls 2 [(0, .int (nI i)), (1, .int (nI n))] := hl
  have hL : zL G [] := zL.nil
  refine lv_iload_n Z.hx Z.hb dJ15_checkIndex_0 rfl (lv_at hl 0 rfl) ?_
  refine lv_iload_n Z.hx Z.hb dJ15_checkIndex_1 rfl (lv_at hl 1 rfl) ?_
  refine lv_null Z.hx Z.hb dJ15_checkIndex_2 ?_
  -- jdk/internal/util/Preconditions.checkIndex
  refine z_pcallS (rest := []) (As := [.int (nI i), .int (nI n), .null]) Z (j_chk G l H i n hi hn) gw_J15_105 gd_J15_105 rfl hl.1 (Nat.le_of_ble_eq_true rfl) rfl dJ15_checkIndex_3 ⟨⟨Nat.le_of_ble_eq_true rfl, Nat.le_of_ble_eq_true rfl⟩, Nat.le_of_ble_eq_true rfl, Nat.le_of_ble_eq_true rfl⟩ hL (fun locs hL => ?_)
  exact z_iret Z hr hL (⟨rfl, rfl⟩) (Nat.le_of_ble_eq_true rfl) (Nat.le_of_ble_eq_true rfl) dJ15_checkIndex_6
section
set_option maxHeartbeats 4000000 in
set_option maxRecDepth 100000 in
theorem j_size (G : zG) (l : Launch) (H : Heap) (S : Nat → Prop) (a : Nat) (es : List Nat) (hA : zLs G H S a es) : zMp G l yJ2_size cJ2_size 1 (Option.some Jvm.ClassFile.FieldType.int) 0 [.ref a] H (.int (nI es.length)) := by
  obtain ⟨hSa, haB, hEl, mc9, d9, hO, hAr⟩ := hA
  refine zM.of (by decide +kernel) (Nat.le_of_ble_eq_true rfl) ?_
  intro p0 e0 s0 m0 args0 below0 meth0 c0 Z hr hH hn0 ls hl
  have Z : zC G p0 s0 m0 args0 meth0 c0 RJ2 cJ2_size 1 := Z
  have hl : lv_has ls 1 [(0, .ref a)] := hl
  have hL : zL G [] := zL.nil
  refine lv_aload_n Z.hx Z.hb dJ2_size_0 rfl (lv_at hl 0 rfl) ?_
  refine gf_J2_48 Z hO (v := .int (nI es.length)) rfl dJ2_size_1 ?_
  exact z_iret Z hr hL (⟨rfl, rfl⟩) (Nat.le_of_ble_eq_true rfl) (Nat.le_of_ble_eq_true rfl) dJ2_size_4
set_option maxHeartbeats 4000000 in
set_option maxRecDepth 100000 in
theorem j_elem (G : zG) (l : Launch) (H : Heap) (S : Nat → Prop) (a : Nat) (es : List Nat) (hA : zLs G H S a es) (i y : Nat) (hi : i < es.length) (hl9 : es.length < 2 ^ 29) (hy : es[i]? = some y) : zMp G l yJ2_elementData cJ2_elementData 2 (Option.some (Jvm.ClassFile.FieldType.object "java/lang/Object")) 0 [.ref a, .int (nI i)] H (.ref y) := by
  obtain ⟨hSa, haB, hEl, mc9, d9, hO, hAr⟩ := hA
  rcases hAr with ⟨hz, he⟩ | ⟨hd1, hd2, hd3, n9, f9, hR, hn1, hn2, hn3, hf⟩
  · rw [he] at hi
    exact absurd hi (Nat.not_lt_zero _)
  refine zM.of (by decide +kernel) (Nat.le_of_ble_eq_true rfl) ?_
  intro p0 e0 s0 m0 args0 below0 meth0 c0 Z hr hH hn0 ls hl
  have Z : zC G p0 s0 m0 args0 meth0 c0 RJ2 cJ2_elementData 2 := Z
  have hl : lv_has ls 2 [(0, .ref a), (1, .int (nI i))] := hl
  have hL : zL G [] := zL.nil
  refine lv_aload_n Z.hx Z.hb dJ2_elementData_0 rfl (lv_at hl 0 rfl) ?_
  refine gf_J2_9 Z hO (v := .ref d9) rfl dJ2_elementData_1 ?_
  refine lv_iload_n Z.hx Z.hb dJ2_elementData_4 rfl (lv_at hl 1 rfl) ?_
  refine z_aaldN Z hR (k := i) (by omega) (by omega) ((hf i hi).trans hy) dJ2_elementData_5 ?_
  exact z_aret Z hr (Or.inl ⟨_, rfl⟩) hL (Or.inr ⟨_, rfl⟩) (⟨rfl, rfl⟩) (Nat.le_of_ble_eq_true rfl) (Nat.le_of_ble_eq_true rfl) dJ2_elementData_6
set_option maxHeartbeats 4000000 in
set_option maxRecDepth 100000 in
theorem j_get (G : zG) (l : Launch) (H : Heap) (S : Nat → Prop) (a : Nat) (es : List Nat) (hA : zLs G H S a es) (i y : Nat) (hi : i < es.length) (hl9 : es.length < 2 ^ 29) (hy : es[i]? = some y) : zMp G l yJ2_get cJ2_get 2 (Option.some (Jvm.ClassFile.FieldType.object "java/lang/Object")) 2 [.ref a, .int (nI i)] H (.ref y) := by
  have hA0 := hA
  obtain ⟨hSa, haB, hEl, mc9, d9, hO, hAr⟩ := hA
  refine zM.of (by decide +kernel) (Nat.le_of_ble_eq_true rfl) ?_
  intro p0 e0 s0 m0 args0 below0 meth0 c0 Z hr hH hn0 ls hl
  have Z : zC G p0 s0 m0 args0 meth0 c0 RJ2 cJ2_get 2 := Z
  have hl : lv_has ls 2 [(0, .ref a), (1, .int (nI i))] := hl
  have hL : zL G [] := zL.nil
  refine lv_iload_n Z.hx Z.hb dJ2_get_0 rfl (lv_at hl 1 rfl) ?_
  refine lv_aload_n Z.hx Z.hb dJ2_get_1 rfl (lv_at hl 0 rfl) ?_
  refine gf_J2_48 Z hO (v := .int (nI es.length)) rfl dJ2_get_2 ?_
  -- java/util/Objects.checkIndex
  refine z_pcallS (rest := []) (As := [.int (nI i), .int (nI es.length)]) Z (j_chk2 G l H i es.length hi (by omega)) gw_J2_118 gd_J2_118 rfl hl.1 (Nat.le_of_ble_eq_true rfl) rfl dJ2_get_5 ⟨⟨Nat.le_of_ble_eq_true rfl, Nat.le_of_ble_eq_true rfl⟩, Nat.le_of_ble_eq_true rfl, Nat.le_of_ble_eq_true rfl⟩ hL (fun locs hL => ?_)
  refine lv_pop Z.hx Z.hb dJ2_get_8 rfl ?_
  refine lv_aload_n Z.hx Z.hb dJ2_get_9 rfl (lv_at hl 0 rfl) ?_
  refine lv_iload_n Z.hx Z.hb dJ2_get_10 rfl (lv_at hl 1 rfl) ?_
  -- java/util/ArrayList.elementData
  refine z_pcallV (rest := []) (As := [.int (nI i)]) Z (j_elem G l H S a es hA0 i y hi hl9 hy) gw_J2_123 gd_J2_123 rfl hO rfl hl.1 (Nat.le_of_ble_eq_true rfl) rfl dJ2_get_11 ⟨⟨Nat.le_of_ble_eq_true rfl, Nat.le_of_ble_eq_true rfl⟩, Nat.le_of_ble_eq_true rfl, Nat.le_of_ble_eq_true rfl⟩ hL (fun locs hL => ?_)
  exact z_aret Z hr (Or.inl ⟨_, rfl⟩) hL (Or.inr ⟨_, rfl⟩) (⟨rfl, rfl⟩) (Nat.le_of_ble_eq_true rfl) (Nat.le_of_ble_eq_true rfl) dJ2_get_14
end
theorem zmin_nI {a b : Nat} (h : a ≤ b) (hb : b < 2 ^ 31) : (if nI b < nI a then nI b else nI a) = nI a := if_neg (nI_nlt h hb)
theorem zmax_nI {a b : Nat} (h : b ≤ a) (ha : a < 2 ^ 31) : (if nI a < nI b then nI b else nI a) = nI a := if_neg (nI_nlt h ha)
set_option maxHeartbeats 4000000 in
set_option maxRecDepth 100000 in
theorem j_newLen (G : zG) (l : Launch) (H : Heap) (n : Nat) (hn : 10 ≤ n) (hn2 : n ≤ 40000) : zMp G l yJ9_newLength cJ9_newLength 4 (Option.some Jvm.ClassFile.FieldType.int) 1 [.int (nI n), .int (nI 1), .int (nI (n / 2))] H (.int (nI (n + n / 2))) := by
  refine zM.of (by decide +kernel) (Nat.le_of_ble_eq_true rfl) ?_
  intro p0 e0 s0 m0 args0 below0 meth0 c0 Z hr hH hn0 ls hl
  have Z : zC G p0 s0 m0 args0 meth0 c0 RJ9 cJ9_newLength 4 := Z
  have hl : lv_has ls 4 [(0, .int (nI n)), (1, .int (nI 1)), (2, .int (nI (n / 2)))] := hl
  have hL : zL G [] := zL.nil
  refine lv_iload_n Z.hx Z.hb dJ9_newLength_0 rfl (lv_at hl 0 rfl) ?_
  refine lv_iload_n Z.hx Z.hb dJ9_newLength_1 rfl (lv_at hl 1 rfl) ?_
  refine lv_iload_n Z.hx Z.hb dJ9_newLength_2 rfl (lv_at hl 2 rfl) ?_
  refine va_mmax Z.hx Z.hb (Z.hml.trans hl.1.symm) Z.hown (Z.hts _ q246) (Z.hts _ q247) (Z.hts _ q42) (Z.hts _ q248) (Nat.le_of_ble_eq_true rfl) (Nat.le_of_ble_eq_true rfl) (Nat.le_of_ble_eq_true rfl) (Nat.le_of_ble_eq_true rfl) dJ9_newLength_3 ?_
  refine z_top (x' := nI (n / 2)) (if_pos (nI_lt (by omega) (by omega))) ?_
  refine lv_iadd Z.hx Z.hb dJ9_newLength_6 ?_
  refine z_top (x' := nI (n + n / 2)) (nI_add _ _) ?_
  refine lv_istore_n (lv' := [(3, .int (nI (n + n / 2))), (0, .int (nI n)), (1, .int (nI 1)), (2, .int (nI (n / 2)))]) Z.hx Z.hb dJ9_newLength_7 rfl hl (by decide) rfl (fun ls hl => ?_)
  refine lv_iconst (v := 0) Z.hx Z.hb dJ9_newLength_8 (by decide) ?_
  refine lv_iload_n Z.hx Z.hb dJ9_newLength_9 rfl (lv_at hl 0 rfl) ?_
  refine lv_icmp_ge (tgt := 21) Z.hx Z.hb dJ9_newLength_10 (by decide) (fun c10 => ?_) (fun c10 => ?_)
  · exact absurd c10 (nI_nle (by omega) (by omega))
  · skip
    refine lv_iload_n Z.hx Z.hb dJ9_newLength_13 rfl (lv_at hl 0 rfl) ?_
    refine lv_ldc Z.hx Z.hb Z.hown (Z.hts _ q249) dJ9_newLength_14 ?_
    refine lv_icmp_gt (tgt := 21) Z.hx Z.hb dJ9_newLength_16 (by decide) (fun c16 => ?_) (fun c16 => ?_)
    · exact absurd c16 (show ¬ nI 2147483639 < nI (n + n / 2) from nI_nlt (by omega) (by decide))
    · skip
      refine lv_iload_n Z.hx Z.hb dJ9_newLength_19 rfl (lv_at hl 0 rfl) ?_
      exact z_iret Z hr hL (⟨rfl, rfl⟩) (Nat.le_of_ble_eq_true rfl) (Nat.le_of_ble_eq_true rfl) dJ9_newLength_20
set_option maxHeartbeats 4000000 in
set_option maxRecDepth 100000 in
theorem j_copy2 (G : zG) (l : Launch) (H : Heap) (d n N2 : Nat) (f : Nat → Option Nat) (hR : zR G H d n f) (hn : n ≤ N2) (hN : N2 ≤ 160) (hB9 : zB G H) (hel : ∀ i : Nat, i < n → ∀ y : Nat, f i = some y → zEl G H y) : zMg G l yJ11_copyOf_2 cJ11_copyOf_2 4 (Option.some (Jvm.ClassFile.FieldType.array (Jvm.ClassFile.FieldType.object "java/lang/Object"))) 2 1 160 [.ref d, .int (nI N2), .ref (zmi G)] H (.ref H.size) (fun H1 => zR G H1 H.size N2 (va_cpy f (fun _ => none) 0 0 n) ∧ H1.size = H.size + 1 ∧ ∀ q : Nat, q < H.size → H1[q]? = H[q]?) := by
  refine zM.of (by decide +kernel) (Nat.le_of_ble_eq_true rfl) ?_
  intro p0 e0 s0 m0 args0 below0 meth0 c0 Z hr hH hn0 ls hl
  have Z : zC G p0 s0 m0 args0 meth0 c0 RJ11 cJ11_copyOf_2 4 := Z
  have hl : lv_has ls 4 [(0, .ref d), (1, .int (nI N2)), (2, .ref (zmi G))] := hl
  have hL : zL G [] := zL.nil
  refine lv_aload_n Z.hx Z.hb dJ11_copyOf_2_0 rfl (lv_at hl 2 rfl) ?_
  refine va_ldcM Z.hx Z.hb Z.hown (Z.hts _ q274) Z.K.2.2.2.1.2.1 dJ11_copyOf_2_1 ?_
  refine lv_acmp_ne (rx := some (zmi G)) (ry := some (zmi G)) (tgt := 13) Z.hx Z.hb dJ11_copyOf_2_3 (by decide) (fun c3 => ?_) (fun c3 => ?_)
  · exact absurd rfl c3
  · skip
    refine lv_iload_n Z.hx Z.hb dJ11_copyOf_2_6 rfl (lv_at hl 1 rfl) ?_
    refine z_newR Z q276 (n := nI N2) (N := N2) (nI_pos (by omega)) (nI_clamp (by omega)) (by omega) (Nat.le_of_ble_eq_true rfl) (by show 0 + N2 ≤ 160; omega) dJ11_copyOf_2_7 (fun H_1 hA_ hz_ hq_ => ?_)
    refine W.widen (k := 1) (n := 160) (Nat.le_of_ble_eq_true rfl) (by omega) ?_
    refine lv_goto (tgt := 24) Z.hx Z.hb dJ11_copyOf_2_10 (by decide) ?_
    refine lv_astore_n (lv' := [(3, .ref H.size), (0, .ref d), (1, .int (nI N2)), (2, .ref (zmi G))]) Z.hx Z.hb dJ11_copyOf_2_24 rfl hl (by decide) rfl (fun ls hl => ?_)
    refine lv_aload_n Z.hx Z.hb dJ11_copyOf_2_25 rfl (lv_at hl 1 rfl) ?_
    refine lv_iconst (v := 0) Z.hx Z.hb dJ11_copyOf_2_26 (by decide) ?_
    refine lv_aload_n Z.hx Z.hb dJ11_copyOf_2_27 rfl (lv_at hl 0 rfl) ?_
    refine lv_iconst (v := 0) Z.hx Z.hb dJ11_copyOf_2_28 (by decide) ?_
    refine lv_aload_n Z.hx Z.hb dJ11_copyOf_2_29 rfl (lv_at hl 1 rfl) ?_
    refine z_alenR Z (hR.kept (hq_ _ hR.lt)) dJ11_copyOf_2_30 ?_
    refine lv_iload_n Z.hx Z.hb dJ11_copyOf_2_31 rfl (lv_at hl 2 rfl) ?_
    refine va_mmin Z.hx Z.hb (Z.hml.trans hl.1.symm) Z.hown (Z.hts _ q277) (Z.hts _ q278) (Z.hts _ q42) (Z.hts _ q279) (Nat.le_of_ble_eq_true rfl) (Nat.le_of_ble_eq_true rfl) (Nat.le_of_ble_eq_true rfl) (Nat.le_of_ble_eq_true rfl) dJ11_copyOf_2_32 ?_
    refine z_top (x' := nI n) (zmin_nI hn (by omega)) ?_
    refine z_copyR Z hl.1 q280 q282 q281 q44 (hR.kept (hq_ _ hR.lt)) hA_ (k := n) (by omega) (Nat.le_refl _) hn (fun i hi y hy => ((hel i hi y hy).kept (hq_ _ (hel i hi y hy).lt)).any Z.K) hL hB9.1 (Nat.le_of_ble_eq_true rfl) (by decide) dJ11_copyOf_2_35 (fun H_2 locs hL hA2_ hz2_ hq2_ => ?_)
    refine lv_aload_n Z.hx Z.hb dJ11_copyOf_2_38 rfl (lv_at hl 0 rfl) ?_
    exact z_aret Z hr (Or.inr ⟨_, rfl⟩) hL (Or.inr ⟨_, rfl⟩) (⟨rfl, hA2_, hz2_.trans hz_, fun q hq => (hq2_ q (by omega)).trans (hq_ q hq)⟩) (Nat.le_of_ble_eq_true rfl) (Nat.le_of_ble_eq_true rfl) dJ11_copyOf_2_39
theorem z_recvR {G : zG} {s : State} {H : Heap} (hK : zK G s) {a n : Nat} {f : Nat → Option Nat} (hR : zR G H a n f) : ∃ cell : Cell, H[a]? = some cell ∧ cell.vm.isStatics = false ∧ s.vm.findClass "[Ljava/lang/Object;" = some cell.cls := by
  refine ⟨_, hR, rfl, ?_⟩
  exact va_nmO (hK.1.2 3 _ rfl).2 (by decide +kernel)
set_option maxHeartbeats 4000000 in
set_option maxRecDepth 100000 in
theorem j_copy (G : zG) (l : Launch) (H : Heap) (d n N2 : Nat) (f : Nat → Option Nat) (hR : zR G H d n f) (hn : n ≤ N2) (hN : N2 ≤ 160) (hB9 : zB G H) (hel : ∀ i : Nat, i < n → ∀ y : Nat, f i = some y → zEl G H y) : zMg G l yJ11_copyOf cJ11_copyOf 2 (Option.some (Jvm.ClassFile.FieldType.array (Jvm.ClassFile.FieldType.object "java/lang/Object"))) 3 1 160 [.ref d, .int (nI N2)] H (.ref H.size) (fun H1 => zR G H1 H.size N2 (va_cpy f (fun _ => none) 0 0 n) ∧ H1.size = H.size + 1 ∧ ∀ q : Nat, q < H.size → H1[q]? = H[q]?) := by
  refine zM.of (by decide +kernel) (Nat.le_of_ble_eq_true rfl) ?_
  intro p0 e0 s0 m0 args0 below0 meth0 c0 Z hr hH hn0 ls hl
  have Z : zC G p0 s0 m0 args0 meth0 c0 RJ11 cJ11_copyOf 2 := Z
  have hl : lv_has ls 2 [(0, .ref d), (1, .int (nI N2))] := hl
  have hL : zL G [] := zL.nil
  refine lv_aload_n Z.hx Z.hb dJ11_copyOf_0 rfl (lv_at hl 0 rfl) ?_
  refine lv_iload_n Z.hx Z.hb dJ11_copyOf_1 rfl (lv_at hl 1 rfl) ?_
  refine lv_aload_n Z.hx Z.hb dJ11_copyOf_2 rfl (lv_at hl 0 rfl) ?_
  refine va_getC Z.hx Z.hb (Z.hml.trans hl.1.symm) Z.hown (Z.hts _ q256) (va_Nw.use rfl (Z.nw q885 rfl)) (Z.hts _ q884) (Z.hts _ q257) (Z.hts _ q270) Z.K.2.2.2.1.2.1 (z_recvR Z.K hR) (Nat.le_of_ble_eq_true rfl) (Nat.le_of_ble_eq_true rfl) dJ11_copyOf_3 ?_
  -- java/util/Arrays.copyOf
  refine z_gcallS (rest := []) (As := [.ref d, .int (nI N2), .ref (zmi G)]) Z (j_copy2 G l H d n N2 f hR hn hN hB9 hel) gw_J11_300 gd_J11_300 rfl hl.1 (Nat.le_of_ble_eq_true rfl) rfl dJ11_copyOf_6 ⟨⟨Nat.le_of_ble_eq_true rfl, Nat.le_of_ble_eq_true rfl⟩, Nat.le_of_ble_eq_true rfl, Nat.le_of_ble_eq_true rfl⟩ hL (fun H_1 locs hL hP_ => ?_)
  skip
  exact z_aret Z hr (Or.inr ⟨_, rfl⟩) hL (Or.inr ⟨_, rfl⟩) (⟨rfl, hP_⟩) (Nat.le_of_ble_eq_true rfl) (Nat.le_of_ble_eq_true rfl) dJ11_copyOf_9
/-- behind grow: a new array with room -/
def jGr (G : zG) (H : Heap) (a : Nat) (m : Int32) (es : List Nat) (H1 : Heap) : Prop := zO G H1 a 6 [.int m, .ref H.size, .int (nI es.length)] ∧ (∃ (n : Nat) (f : Nat → Option Nat), zR G H1 H.size n f ∧ 10 ≤ n ∧ es.length + 1 ≤ n ∧ n ≤ 10 + 2 * es.length ∧ ∀ i, i < es.length → f i = es[i]?) ∧ H1.size = H.size + 1 ∧ ∀ q : Nat, q < H.size → q ≠ a → H1[q]? = H[q]?
/-- a full list, or one without an array -/
def jFull (G : zG) (H : Heap) (a : Nat) (m : Int32) (d : Nat) (es : List Nat) : Prop := zO G H a 6 [.int m, .ref d, .int (nI es.length)] ∧ (zHB G).size ≤ a ∧ (∀ e ∈ es, zEl G H e) ∧ ((d = zdE G ∧ es = []) ∨ (10 ≤ es.length ∧ ∃ f : Nat → Option Nat, zR G H d es.length f ∧ ∀ i, i < es.length → f i = es[i]?))
set_option maxHeartbeats 4000000 in
set_option maxRecDepth 100000 in
theorem j_grow2 (G : zG) (l : Launch) (H : Heap) (a : Nat) (m9 : Int32) (d : Nat) (es : List Nat) (hB9 : zB G H) (h64 : es.length ≤ 64) (hJ : jFull G H a m9 d es) : zMg G l yJ2_grow_2 cJ2_grow_2 4 (Option.some (Jvm.ClassFile.FieldType.array (Jvm.ClassFile.FieldType.object "java/lang/Object"))) 4 1 160 [.ref a, .int (nI (es.length + 1))] H (.ref H.size) (fun H1 => jGr G H a m9 es H1) := by
  refine zM.of (by decide +kernel) (Nat.le_of_ble_eq_true rfl) ?_
  intro p0 e0 s0 m0 args0 below0 meth0 c0 Z hr hH hn0 ls hl
  have Z : zC G p0 s0 m0 args0 meth0 c0 RJ2 cJ2_grow_2 4 := Z
  have hl : lv_has ls 4 [(0, .ref a), (1, .int (nI (es.length + 1)))] := hl
  have hL : zL G [] := zL.nil
  obtain ⟨hO, haB, hEl, hAr⟩ := hJ
  rcases hAr with ⟨hd, he⟩ | ⟨h10, f9, hR, hf⟩
  · subst hd he
    refine lv_aload_n Z.hx Z.hb dJ2_grow_2_0 rfl (lv_at hl 0 rfl) ?_
    refine gf_J2_9 Z hO (v := .ref (zdE G)) rfl dJ2_grow_2_1 ?_
    refine z_alenE Z hB9 dJ2_grow_2_4 ?_
    refine lv_istore_n (lv' := [(2, .int 0), (0, .ref a), (1, .int (nI 1))]) Z.hx Z.hb dJ2_grow_2_5 rfl hl (by decide) rfl (fun ls hl => ?_)
    refine lv_iload_n Z.hx Z.hb dJ2_grow_2_6 rfl (lv_at hl 0 rfl) ?_
    refine lv_if_gt (tgt := 20) Z.hx Z.hb dJ2_grow_2_7 (by decide) (fun c7 => ?_) (fun c7 => ?_)
    · exact absurd c7 (by decide)
    · skip
      refine lv_aload_n Z.hx Z.hb dJ2_grow_2_10 rfl (lv_at hl 1 rfl) ?_
      refine gf_J2_9 Z hO (v := .ref (zdE G)) rfl dJ2_grow_2_11 ?_
      refine z_getsE Z hL q73 dJ2_grow_2_14 ?_
      refine lv_acmp_eq (rx := some (zdE G)) (ry := some (zdE G)) (tgt := 45) Z.hx Z.hb dJ2_grow_2_17 (by decide) (fun c17 => ?_) (fun c17 => ?_)
      · skip
        refine lv_aload_n Z.hx Z.hb dJ2_grow_2_45 rfl (lv_at hl 1 rfl) ?_
        refine lv_bipush (v := 10) Z.hx Z.hb dJ2_grow_2_46 (by decide) ?_
        refine lv_iload_n Z.hx Z.hb dJ2_grow_2_48 rfl (lv_at hl 2 rfl) ?_
        refine va_mmax Z.hx Z.hb (Z.hml.trans hl.1.symm) Z.hown (Z.hts _ q283) (Z.hts _ q247) (Z.hts _ q42) (Z.hts _ q248) (Nat.le_of_ble_eq_true rfl) (Nat.le_of_ble_eq_true rfl) (Nat.le_of_ble_eq_true rfl) (Nat.le_of_ble_eq_true rfl) dJ2_grow_2_49 ?_
        refine z_top (x' := 10) (by decide) ?_
        refine z_newR Z q284 (n := 10) (N := 10) (by decide) (by decide) (by omega) (Nat.le_of_ble_eq_true rfl) (Nat.le_of_ble_eq_true rfl) dJ2_grow_2_52 (fun H_1 hA_ hz_ hq_ => ?_)
        refine lv_dup_x1 Z.hx Z.hb dJ2_grow_2_55 rfl rfl ?_
        refine pf_J2_9 Z (hO.kept (hq_ _ hO.lt)) (Nat.le_of_ble_eq_true rfl) hL haB dJ2_grow_2_56 (fun H_2 locs hL hO2_ hz2_ hq2_ => ?_)
        exact z_aret Z hr (Or.inr ⟨_, rfl⟩) hL (Or.inr ⟨_, rfl⟩) (⟨rfl, hO2_, ⟨10, _, hA_.kept (hq2_ _ (Nat.ne_of_gt hO.lt)), by omega, by show 0 + 1 ≤ 10; omega, by omega, fun i hi => absurd hi (Nat.not_lt_zero _)⟩, hz2_.trans hz_, fun q h1 h2 => (hq2_ q h2).trans (hq_ q h1)⟩) (Nat.le_of_ble_eq_true rfl) (Nat.le_of_ble_eq_true rfl) dJ2_grow_2_59
      · exact absurd rfl c17
  · skip
    refine lv_aload_n Z.hx Z.hb dJ2_grow_2_0 rfl (lv_at hl 0 rfl) ?_
    refine gf_J2_9 Z hO (v := .ref d) rfl dJ2_grow_2_1 ?_
    refine z_alenR Z hR dJ2_grow_2_4 ?_
    refine lv_istore_n (lv' := [(2, .int (nI es.length)), (0, .ref a), (1, .int (nI (es.length + 1)))]) Z.hx Z.hb dJ2_grow_2_5 rfl hl (by decide) rfl (fun ls hl => ?_)
    refine lv_iload_n Z.hx Z.hb dJ2_grow_2_6 rfl (lv_at hl 0 rfl) ?_
    refine lv_if_gt (tgt := 20) Z.hx Z.hb dJ2_grow_2_7 (by decide) (fun c7 => ?_) (fun c7 => ?_)
    · skip
      refine lv_iload_n Z.hx Z.hb dJ2_grow_2_20 rfl (lv_at hl 0 rfl) ?_
      refine lv_iload_n Z.hx Z.hb dJ2_grow_2_21 rfl (lv_at hl 2 rfl) ?_
      refine lv_iload_n Z.hx Z.hb dJ2_grow_2_22 rfl (lv_at hl 0 rfl) ?_
      refine lv_isub Z.hx Z.hb dJ2_grow_2_23 ?_
      refine z_top (x' := nI 1) (by rw [pk_sub (by omega), Nat.add_sub_cancel_left]) ?_
      refine lv_iload_n Z.hx Z.hb dJ2_grow_2_24 rfl (lv_at hl 0 rfl) ?_
      refine lv_iconst (v := 1) Z.hx Z.hb dJ2_grow_2_25 (by decide) ?_
      refine lv_ishr Z.hx Z.hb dJ2_grow_2_26 ?_
      refine z_top (x' := nI (es.length / 2)) (by have k9 := pk_shrN (n := es.length) (by omega) ((1 : Int32) &&& 31) 1 (by decide); rw [Nat.pow_one] at k9; exact k9) ?_
      -- jdk/internal/util/ArraysSupport.newLength
      refine z_pcallS (rest := []) (As := [.int (nI es.length), .int (nI 1), .int (nI (es.length / 2))]) Z (j_newLen G l H es.length h10 (by omega)) gw_J2_73 gd_J2_73 rfl hl.1 (Nat.le_of_ble_eq_true rfl) rfl dJ2_grow_2_27 ⟨⟨Nat.le_of_ble_eq_true rfl, Nat.le_of_ble_eq_true rfl⟩, Nat.le_of_ble_eq_true rfl, Nat.le_of_ble_eq_true rfl⟩ hL (fun locs hL => ?_)
      refine lv_istore_n (lv' := [(3, .int (nI (es.length + es.length / 2))), (2, .int (nI es.length)), (0, .ref a), (1, .int (nI (es.length + 1)))]) Z.hx Z.hb dJ2_grow_2_30 rfl hl (by decide) rfl (fun ls hl => ?_)
      refine lv_aload_n Z.hx Z.hb dJ2_grow_2_31 rfl (lv_at hl 2 rfl) ?_
      refine lv_aload_n Z.hx Z.hb dJ2_grow_2_32 rfl (lv_at hl 2 rfl) ?_
      refine gf_J2_9 Z hO (v := .ref d) rfl dJ2_grow_2_33 ?_
      refine lv_iload_n Z.hx Z.hb dJ2_grow_2_36 rfl (lv_at hl 0 rfl) ?_
      -- java/util/Arrays.copyOf
      refine z_gcallS (rest := [.ref a]) (As := [.ref d, .int (nI (es.length + es.length / 2))]) Z (j_copy G l H d es.length (es.length + es.length / 2) f9 hR (by omega) (by omega) hB9 (fun i hi y hy => hEl y (List.mem_of_getElem? ((hf i hi).symm.trans hy)))) gw_J2_66 gd_J2_66 rfl hl.1 (Nat.le_of_ble_eq_true rfl) rfl dJ2_grow_2_37 ⟨⟨Nat.le_of_ble_eq_true rfl, Nat.le_of_ble_eq_true rfl⟩, Nat.le_of_ble_eq_true rfl, Nat.le_of_ble_eq_true rfl⟩ hL (fun H_1 locs hL hP_ => ?_)
      obtain ⟨hA_, hz_, hq_⟩ := hP_
      refine lv_dup_x1 Z.hx Z.hb dJ2_grow_2_40 rfl rfl ?_
      refine pf_J2_9 Z (hO.kept (hq_ _ hO.lt)) (Nat.le_of_ble_eq_true rfl) hL haB dJ2_grow_2_41 (fun H_2 locs hL hO2_ hz2_ hq2_ => ?_)
      exact z_aret Z hr (Or.inr ⟨_, rfl⟩) hL (Or.inr ⟨_, rfl⟩) (⟨rfl, hO2_, ⟨_, _, hA_.kept (hq2_ _ (Nat.ne_of_gt hO.lt)), by omega, by omega, by omega, fun i hi => (pk_cpy_in (by omega) (by omega)).trans (by rw [Nat.sub_zero, Nat.zero_add]; exact hf i hi)⟩, hz2_.trans hz_, fun q h1 h2 => (hq2_ q h2).trans (hq_ q h1)⟩) (Nat.le_of_ble_eq_true rfl) (Nat.le_of_ble_eq_true rfl) dJ2_grow_2_44
    · exact absurd (nI_lt (a := 0) (by omega) (by omega)) c7
set_option maxHeartbeats 4000000 in
set_option maxRecDepth 100000 in
theorem j_grow (G : zG) (l : Launch) (H : Heap) (a : Nat) (m9 : Int32) (d : Nat) (es : List Nat) (hB9 : zB G H) (h64 : es.length ≤ 64) (hJ : jFull G H a m9 d es) : zMg G l yJ2_grow cJ2_grow 1 (Option.some (Jvm.ClassFile.FieldType.array (Jvm.ClassFile.FieldType.object "java/lang/Object"))) 5 1 160 [.ref a] H (.ref H.size) (fun H1 => jGr G H a m9 es H1) := by
  refine zM.of (by decide +kernel) (Nat.le_of_ble_eq_true rfl) ?_
  intro p0 e0 s0 m0 args0 below0 meth0 c0 Z hr hH hn0 ls hl
  have Z : zC G p0 s0 m0 args0 meth0 c0 RJ2 cJ2_grow 1 := Z
  have hl : lv_has ls 1 [(0, .ref a)] := hl
  have hL : zL G [] := zL.nil
  refine lv_aload_n Z.hx Z.hb dJ2_grow_0 rfl (lv_at hl 0 rfl) ?_
  refine lv_aload_n Z.hx Z.hb dJ2_grow_1 rfl (lv_at hl 0 rfl) ?_
  refine gf_J2_48 Z hJ.1 (v := .int (nI es.length)) rfl dJ2_grow_2 ?_
  refine lv_iconst (v := 1) Z.hx Z.hb dJ2_grow_5 (by decide) ?_
  refine lv_iadd Z.hx Z.hb dJ2_grow_6 ?_
  refine z_top (x' := nI (es.length + 1)) (nI_1 _) ?_
  -- java/util/ArrayList.grow
  refine z_gcallV (rest := []) (As := [.int (nI (es.length + 1))]) Z (j_grow2 G l H a m9 d es hB9 h64 hJ) gw_J2_69 gd_J2_69 rfl hJ.1 rfl hl.1 (Nat.le_of_ble_eq_true rfl) rfl dJ2_grow_7 ⟨⟨Nat.le_of_ble_eq_true rfl, Nat.le_of_ble_eq_true rfl⟩, Nat.le_of_ble_eq_true rfl, Nat.le_of_ble_eq_true rfl⟩ hL (fun H_1 locs hL hP_ => ?_)
  exact z_aret Z hr (Or.inr ⟨_, rfl⟩) hL (Or.inr ⟨_, rfl⟩) (⟨rfl, hP_⟩) (Nat.le_of_ble_eq_true rfl) (Nat.le_of_ble_eq_true rfl) dJ2_grow_10
/-- behind an add: the list holds one more, its cells in S or new -/
def jAdd (G : zG) (H : Heap) (S : Nat → Prop) (a x : Nat) (es : List Nat) (H1 : Heap) : Prop := zLs G H1 (fun q => S q ∨ H.size ≤ q) a (es ++ [x]) ∧ H.size ≤ H1.size ∧ ∀ q : Nat, q < H.size → ¬ S q → H1[q]? = H[q]?
theorem jEls {G : zG} {H : Heap} {es : List Nat} {x : Nat} (h : ∀ e ∈ es, zEl G H e) (hx : zEl G H x) : ∀ e ∈ es ++ [x], zEl G H e := fun e h9 => (List.mem_append.mp h9).elim (h e) (fun z => by rw [List.mem_singleton.mp z]; exact hx)
theorem jUp {f : Nat → Option Nat} {es : List Nat} {x : Nat} (hf : ∀ i, i < es.length → f i = es[i]?) : ∀ i, i < (es ++ [x]).length → va_up f es.length (some x) i = (es ++ [x])[i]? := by
  intro i hi
  rw [List.length_append] at hi
  have hi : i < es.length + 1 := hi
  by_cases e : i = es.length
  · subst e
    rw [show va_up f es.length (some x) es.length = some x from by simp [va_up]]
    rw [List.getElem?_append_right (Nat.le_refl _), Nat.sub_self]
    rfl
  · rw [List.getElem?_append_left (by omega), ← hf i (by omega)]
    simp [va_up, e]
theorem jEnd1 {G : zG} {H H1 H2 H3 : Heap} {S : Nat → Prop} {a x n : Nat} {m : Int32} {es : List Nat} {f : Nat → Option Nat} (hSa : S a) (haB : (zHB G).size ≤ a) (hEl : ∀ e ∈ es, zEl G H e) (hx : zEl G H x) (hxa : x ≠ a) (hB : zB G H) (hl1 : a < H1.size) (hl : a < H.size)
    (hz : H1.size = H.size + 1) (hq : ∀ q : Nat, q < H.size → q ≠ a → H1[q]? = H[q]?) (hz2 : H2.size = H1.size) (hq2 : ∀ q : Nat, q ≠ H.size → H2[q]? = H1[q]?) (hz3 : H3.size = H2.size) (hq3 : ∀ q : Nat, q ≠ a → H3[q]? = H2[q]?)
    (hO : zO G H3 a 6 [.int m, .ref H.size, .int (nI es.length + 1)]) (hA : zR G H2 H.size n (va_up f es.length (some x))) (hn1 : 10 ≤ n) (hn2 : es.length + 1 ≤ n) (hn3 : n ≤ 10 + 2 * es.length) (hf : ∀ i, i < es.length → f i = es[i]?) (hES : ∀ e ∈ es ++ [x], ¬ S e) : jAdd G H S a x es H3 := by
  have hold : ∀ q : Nat, q < H.size → q ≠ a → H3[q]? = H[q]? := fun q h1 h2 => (hq3 q h2).trans ((hq2 q (by omega)).trans (hq q h1 h2))
  refine ⟨⟨Or.inl hSa, haB, fun e he => ?_, m, H.size, by rw [List.length_append]; exact (nI_1 es.length) ▸ hO, Or.inr ⟨Or.inr (Nat.le_refl _), by omega, hB.1, n, _, hA.kept (hq3 _ (by omega)), hn1, by rw [List.length_append]; exact hn2, by rw [List.length_append]; show n ≤ 10 + 2 * (es.length + 1); omega, jUp hf⟩⟩, by omega, fun q h1 h2 => hold q h1 (fun e9 => h2 (e9 ▸ hSa))⟩
  have hk : zEl G H e := jEls hEl hx e he
  exact hk.kept (hold e hk.lt (fun e9 => hES e he (e9 ▸ hSa)))
theorem jEnd2 {G : zG} {H H2 H3 : Heap} {S : Nat → Prop} {a d x n : Nat} {m : Int32} {es : List Nat} {f : Nat → Option Nat} (hSa : S a) (haB : (zHB G).size ≤ a) (hEl : ∀ e ∈ es, zEl G H e) (hx : zEl G H x) (hxa : x ≠ a) (hd1 : S d) (hd2 : d ≠ a) (hd3 : (zHB G).size ≤ d) (hl : a < H.size) (hdl : d < H.size)
    (hz2 : H2.size = H.size) (hq2 : ∀ q : Nat, q ≠ d → H2[q]? = H[q]?) (hz3 : H3.size = H2.size) (hq3 : ∀ q : Nat, q ≠ a → H3[q]? = H2[q]?)
    (hO : zO G H3 a 6 [.int m, .ref d, .int (nI es.length + 1)]) (hA : zR G H2 d n (va_up f es.length (some x))) (hn1 : 10 ≤ n) (hn2 : es.length < n) (hn3 : n ≤ 10 + 2 * es.length) (hf : ∀ i, i < es.length → f i = es[i]?) (hES : ∀ e ∈ es ++ [x], ¬ S e) : jAdd G H S a x es H3 := by
  have hold : ∀ q : Nat, q ≠ d → q ≠ a → H3[q]? = H[q]? := fun q h1 h2 => (hq3 q h2).trans (hq2 q h1)
  refine ⟨⟨Or.inl hSa, haB, fun e he => ?_, m, d, by rw [List.length_append]; exact (nI_1 es.length) ▸ hO, Or.inr ⟨Or.inl hd1, hd2, hd3, n, _, hA.kept (hq3 _ hd2), hn1, by rw [List.length_append]; exact hn2, by rw [List.length_append]; show n ≤ 10 + 2 * (es.length + 1); omega, jUp hf⟩⟩, by omega, fun q h1 h2 => hold q (fun e9 => h2 (e9 ▸ hd1)) (fun e9 => h2 (e9 ▸ hSa))⟩
  have hk : zEl G H e := jEls hEl hx e he
  exact hk.kept (hold e (fun e9 => hES e he (e9 ▸ hd1)) (fun e9 => hES e he (e9 ▸ hSa)))
theorem z_aastN9 {G : zG} {p : Program} {l : Launch} {e : Env} {R : Room} {s : State} {m : MethodId} {args : Array Value} {below : List Frame} {meth : Method} {c : Code} {H : Heap} {locs : List Loc} {cells slots : Nat} {Q : State → Prop} {own : String} {cc : ByteArray} {nL pc : Nat} {ls : Array Slot} {rest : List Value} (Z : zC G p s m args meth c own cc nL) {a n v : Nat} {f : Nat → Option Nat} (h : zR G H a n f) (hv : va_Any "java/lang/Object" s H v) {k : Nat} (hk : k < n) (hn : n < 2 ^ 31) (hL : zL G locs) (ha : (zHB G).size ≤ a) (hdg : decode cc pc = .ok (.aastore, 1))
    (kk : ∀ (H1 : Heap) (locs1 : List Loc), zL G locs1 → zR G H1 a n (va_up f k (some v)) → H1.size = H.size → (∀ q : Nat, q ≠ a → H1[q]? = H[q]?) → W p l e R s m args below meth c H1 locs1 cells slots Q (F0 m (pc + 1) ls rest)) : W p l e R s m args below meth c H locs cells slots Q (F0 m pc ls (.ref v :: .int (nI k) :: .ref a :: rest)) := by
  refine z_aast Z h hv (vp_in_nI hk hn) hL ha hdg (fun H1 locs1 g1 g2 g3 g4 => ?_)
  rw [nI_clamp (n := k) (by omega)] at g2
  exact kk H1 locs1 g1 g2 g3 g4
set_option maxHeartbeats 4000000 in
set_option maxRecDepth 100000 in
theorem j_add2 (G : zG) (l : Launch) (H : Heap) (S : Nat → Prop) (a x : Nat) (m9 : Int32) (d : Nat) (es : List Nat) (hB9 : zB G H) (h64 : es.length ≤ 64) (hSa : S a) (haB : (zHB G).size ≤ a) (hEl : ∀ e ∈ es, zEl G H e) (hO : zO G H a 6 [.int m9, .ref d, .int (nI es.length)]) (hAr : zArr G H S a d es) (hx : zEl G H x) (hES : ∀ e ∈ es ++ [x], ¬ S e) : zMg0 G l yJ2_add_2 cJ2_add_2 4 none 6 1 160 [.ref a, .ref x, .ref d, .int (nI es.length)] H (fun H1 => jAdd G H S a x es H1) := by
  refine zM.of (by decide +kernel) (Nat.le_of_ble_eq_true rfl) ?_
  intro p0 e0 s0 m0 args0 below0 meth0 c0 Z hr hH hn0 ls hl
  have Z : zC G p0 s0 m0 args0 meth0 c0 RJ2 cJ2_add_2 4 := Z
  have hl : lv_has ls 4 [(0, .ref a), (1, .ref x), (2, .ref d), (3, .int (nI es.length))] := hl
  have hL : zL G [] := zL.nil
  have hxne : x ≠ a := fun e9 => hES x (List.mem_append_right _ (List.mem_singleton.mpr rfl)) (e9 ▸ hSa)
  have full : jFull G H a m9 d es → ∀ ls : Array Slot, lv_has ls 4 [(0, .ref a), (1, .ref x), (2, .ref d), (3, .int (nI es.length))] → W p0 l e0 (zr 6 1 160) s0 m0 args0 below0 meth0 c0 H [] 0 0 (MQ below0 (zQ (fun r H1 => r = none ∧ jAdd G H S a x es H1)) args0 s0 1 160 (zA G)) (F0 m0 6 ls []) := by
    intro hJ ls hl
    refine lv_aload_n Z.hx Z.hb dJ2_add_2_6 rfl (lv_at hl 0 rfl) ?_
    -- java/util/ArrayList.grow
    refine z_gcallV (rest := []) (As := []) Z (j_grow G l H a m9 d es hB9 h64 hJ) gw_J2_129 gd_J2_129 rfl hJ.1 rfl hl.1 (Nat.le_of_ble_eq_true rfl) rfl dJ2_add_2_7 ⟨⟨Nat.le_of_ble_eq_true rfl, Nat.le_of_ble_eq_true rfl⟩, Nat.le_of_ble_eq_true rfl, Nat.le_of_ble_eq_true rfl⟩ hL (fun H_1 locs hL hP_ => ?_)
    obtain ⟨hO1_, ⟨n9, f9, hA_, hn1, hn2, hn3, hf⟩, hz_, hq_⟩ := hP_
    have hxa : x ≠ a := hxne
    refine lv_astore_n (lv' := [(2, .ref H.size), (0, .ref a), (1, .ref x), (3, .int (nI es.length))]) Z.hx Z.hb dJ2_add_2_10 rfl hl (by decide) rfl (fun ls hl => ?_)
    refine lv_aload_n Z.hx Z.hb dJ2_add_2_11 rfl (lv_at hl 0 rfl) ?_
    refine lv_iload_n Z.hx Z.hb dJ2_add_2_12 rfl (lv_at hl 3 rfl) ?_
    refine lv_aload_n Z.hx Z.hb dJ2_add_2_13 rfl (lv_at hl 2 rfl) ?_
    refine z_aast Z hA_ (zEl.any Z.K (hx.kept (hq_ _ hx.lt hxa))) (vp_in_nI (n := es.length) (by omega) (by omega)) hL hB9.1 dJ2_add_2_14 (fun H_2 locs hL hA2_ hz2_ hq2_ => ?_)
    rw [nI_clamp (n := es.length) (by omega)] at hA2_
    refine lv_aload_n Z.hx Z.hb dJ2_add_2_15 rfl (lv_at hl 1 rfl) ?_
    refine lv_iload_n Z.hx Z.hb dJ2_add_2_16 rfl (lv_at hl 3 rfl) ?_
    refine lv_iconst (v := 1) Z.hx Z.hb dJ2_add_2_17 (by decide) ?_
    refine lv_iadd Z.hx Z.hb dJ2_add_2_18 ?_
    refine pf_J2_48 Z (hO1_.kept (hq2_ _ (Nat.ne_of_lt hO.lt))) (Nat.le_of_ble_eq_true rfl) hL haB dJ2_add_2_19 (fun H_3 locs hL hO3_ hz3_ hq3_ => ?_)
    exact z_vret Z hr hL (⟨rfl, jEnd1 hSa haB hEl hx hxa hB9 hO1_.lt hO.lt hz_ hq_ hz2_ hq2_ hz3_ hq3_ hO3_ hA2_ hn1 hn2 hn3 hf hES⟩) (Nat.le_of_ble_eq_true rfl) (Nat.le_of_ble_eq_true rfl) dJ2_add_2_22
  rcases hAr with ⟨hd, he⟩ | ⟨hd1, hd2, hd3, n9, f9, hR, hn1, hn2, hn3, hf⟩
  · subst hd he
    refine lv_iload_n Z.hx Z.hb dJ2_add_2_0 rfl (lv_at hl 3 rfl) ?_
    refine lv_aload_n Z.hx Z.hb dJ2_add_2_1 rfl (lv_at hl 2 rfl) ?_
    refine z_alenE Z hB9 dJ2_add_2_2 ?_
    refine lv_icmp_ne (tgt := 11) Z.hx Z.hb dJ2_add_2_3 (by decide) (fun c3 => ?_) (fun c3 => ?_)
    · exact absurd rfl c3
    · skip
      exact full ⟨hO, haB, hEl, Or.inl ⟨rfl, rfl⟩⟩ ls hl
  · rcases Nat.lt_or_ge es.length n9 with hlt | hge
    · skip
      refine lv_iload_n Z.hx Z.hb dJ2_add_2_0 rfl (lv_at hl 3 rfl) ?_
      refine lv_aload_n Z.hx Z.hb dJ2_add_2_1 rfl (lv_at hl 2 rfl) ?_
      refine z_alenR Z hR dJ2_add_2_2 ?_
      refine lv_icmp_ne (tgt := 11) Z.hx Z.hb dJ2_add_2_3 (by decide) (fun c3 => ?_) (fun c3 => ?_)
      · skip
        refine lv_aload_n Z.hx Z.hb dJ2_add_2_11 rfl (lv_at hl 2 rfl) ?_
        refine lv_iload_n Z.hx Z.hb dJ2_add_2_12 rfl (lv_at hl 3 rfl) ?_
        refine lv_aload_n Z.hx Z.hb dJ2_add_2_13 rfl (lv_at hl 1 rfl) ?_
        refine z_aastN9 Z hR (zEl.any Z.K hx) (k := es.length) hlt (by omega) hL hd3 dJ2_add_2_14 (fun H_2 locs hL hA2_ hz2_ hq2_ => ?_)
        refine lv_aload_n Z.hx Z.hb dJ2_add_2_15 rfl (lv_at hl 0 rfl) ?_
        refine lv_iload_n Z.hx Z.hb dJ2_add_2_16 rfl (lv_at hl 3 rfl) ?_
        refine lv_iconst (v := 1) Z.hx Z.hb dJ2_add_2_17 (by decide) ?_
        refine lv_iadd Z.hx Z.hb dJ2_add_2_18 ?_
        refine pf_J2_48 Z (hO.kept (hq2_ _ (Ne.symm hd2))) (Nat.le_of_ble_eq_true rfl) hL haB dJ2_add_2_19 (fun H_3 locs hL hO3_ hz3_ hq3_ => ?_)
        exact z_vret Z hr hL (⟨rfl, jEnd2 hSa haB hEl hx hxne hd1 hd2 hd3 hO.lt hR.lt hz2_ hq2_ hz3_ hq3_ hO3_ hA2_ hn1 hlt hn3 hf hES⟩) (Nat.le_of_ble_eq_true rfl) (Nat.le_of_ble_eq_true rfl) dJ2_add_2_22
      · exact absurd ((nI_eq (by omega) (by omega)).mp c3) (by omega)
    · have e9 : es.length = n9 := Nat.le_antisymm hn2 hge
      refine lv_iload_n Z.hx Z.hb dJ2_add_2_0 rfl (lv_at hl 3 rfl) ?_
      refine lv_aload_n Z.hx Z.hb dJ2_add_2_1 rfl (lv_at hl 2 rfl) ?_
      refine z_alenR Z hR dJ2_add_2_2 ?_
      refine lv_icmp_ne (tgt := 11) Z.hx Z.hb dJ2_add_2_3 (by decide) (fun c3 => ?_) (fun c3 => ?_)
      · exact absurd (congrArg nI e9) c3
      · skip
        exact full ⟨hO, haB, hEl, Or.inr ⟨by omega, f9, by rw [e9]; exact hR, hf⟩⟩ ls hl
set_option maxHeartbeats 4000000 in
set_option maxRecDepth 100000 in
theorem j_add (G : zG) (l : Launch) (H : Heap) (S : Nat → Prop) (a x : Nat) (es : List Nat) (hA : zLs G H S a es) (hx : zEl G H x) (hES : ∀ e ∈ es ++ [x], ¬ S e) (h64 : es.length ≤ 64) : zMg G l yJ2_add cJ2_add 2 (Option.some Jvm.ClassFile.FieldType.boolean) 7 1 160 [.ref a, .ref x] H (.int 1) (fun H1 => jAdd G H S a x es H1) := by
  refine zM.of (by decide +kernel) (Nat.le_of_ble_eq_true rfl) ?_
  intro p0 e0 s0 m0 args0 below0 meth0 c0 Z hr hH hn0 ls hl
  have Z : zC G p0 s0 m0 args0 meth0 c0 RJ2 cJ2_add 2 := Z
  have hl : lv_has ls 2 [(0, .ref a), (1, .ref x)] := hl
  have hL : zL G [] := zL.nil
  obtain ⟨hSa, haB, hEl, m9, d, hO, hAr⟩ := hA
  have hax : ∀ e ∈ es ++ [x], e ≠ a := fun e he e9 => hES e he (e9 ▸ hSa)
  refine lv_aload_n Z.hx Z.hb dJ2_add_0 rfl (lv_at hl 0 rfl) ?_
  refine lv_dup Z.hx Z.hb dJ2_add_1 rfl ?_
  refine gf_J2_63 Z hO (v := .int m9) rfl dJ2_add_2 ?_
  refine lv_iconst (v := 1) Z.hx Z.hb dJ2_add_5 (by decide) ?_
  refine lv_iadd Z.hx Z.hb dJ2_add_6 ?_
  refine pf_J2_63 Z hO (Nat.le_of_ble_eq_true rfl) hL haB dJ2_add_7 (fun H_1 locs hL hO1_ hz1_ hq1_ => ?_)
  have hEl1 : ∀ e ∈ es, zEl G H_1 e := fun e he => (hEl e he).kept (hq1_ e (hax e (List.mem_append_left _ he)))
  have hx1 : zEl G H_1 x := hx.kept (hq1_ x (hax x (List.mem_append_right _ (List.mem_singleton.mpr rfl))))
  have hAr1 : zArr G H_1 S a d es := by
    rcases hAr with h9 | ⟨g1, g2, g3, n9, f9, g4, g5⟩
    · exact Or.inl h9
    · exact Or.inr ⟨g1, g2, g3, n9, f9, g4.kept (hq1_ d g2), g5⟩
  refine z_base Z hL (fun hB1 => ?_)
  refine lv_aload_n Z.hx Z.hb dJ2_add_10 rfl (lv_at hl 0 rfl) ?_
  refine lv_aload_n Z.hx Z.hb dJ2_add_11 rfl (lv_at hl 1 rfl) ?_
  refine lv_aload_n Z.hx Z.hb dJ2_add_12 rfl (lv_at hl 0 rfl) ?_
  refine gf_J2_9 Z hO1_ (v := .ref d) rfl dJ2_add_13 ?_
  refine lv_aload_n Z.hx Z.hb dJ2_add_16 rfl (lv_at hl 0 rfl) ?_
  refine gf_J2_48 Z hO1_ (v := .int (nI es.length)) rfl dJ2_add_17 ?_
  -- java/util/ArrayList.add
  refine z_gcallV0 (rest := []) (As := [.ref x, .ref d, .int (nI es.length)]) Z (j_add2 G l H_1 S a x _ d es hB1 h64 hSa haB hEl1 hO1_ hAr1 hx1 hES) gw_J2_131 gd_J2_131 rfl hO1_ rfl hl.1 (Nat.le_of_ble_eq_true rfl) rfl dJ2_add_20 ⟨⟨Nat.le_of_ble_eq_true rfl, Nat.le_of_ble_eq_true rfl⟩, Nat.le_of_ble_eq_true rfl, Nat.le_of_ble_eq_true rfl⟩ hL (fun H_2 locs hL hP_ => ?_)
  refine lv_iconst (v := 1) Z.hx Z.hb dJ2_add_23 (by decide) ?_
  exact z_zret Z hr hL (by decide) (⟨rfl, by have hP2 := hP_; obtain ⟨g1, g2, g3⟩ := hP2; rw [hz1_] at g1 g2 g3; exact ⟨g1, g2, fun q h1 h2 => (g3 q h1 h2).trans (hq1_ q (fun e9 => h2 (e9 ▸ hSa)))⟩⟩) (Nat.le_of_ble_eq_true rfl) (Nat.le_of_ble_eq_true rfl) dJ2_add_24
set_option maxHeartbeats 4000000 in
set_option maxRecDepth 100000 in
theorem j_init0 (G : zG) (l : Launch) (H : Heap) (a : Nat) : zMp0 G l yJ0_init cJ0_init 1 none 1 [.ref a] H := by
  refine zM.of (by decide +kernel) (Nat.le_of_ble_eq_true rfl) ?_
  intro p0 e0 s0 m0 args0 below0 meth0 c0 Z hr hH hn0 ls hl
  have Z : zC G p0 s0 m0 args0 meth0 c0 RJ0 cJ0_init 1 := Z
  have hl : lv_has ls 1 [(0, .ref a)] := hl
  have hL : zL G [] := zL.nil
  have hin2 : meth0.name = "<init>" := hn0 rfl
  refine lv_aload_n Z.hx Z.hb dJ0_init_0 rfl (lv_at hl 0 rfl) ?_
  refine z_obj Z q72 q59 q60 hl.1 dJ0_init_1 (Nat.le_of_ble_eq_true rfl) (Nat.le_of_ble_eq_true rfl) ?_
  exact z_vret Z hr hL (⟨rfl, rfl⟩) (Nat.le_of_ble_eq_true rfl) (Nat.le_of_ble_eq_true rfl) dJ0_init_4
set_option maxHeartbeats 4000000 in
set_option maxRecDepth 100000 in
theorem j_init1 (G : zG) (l : Launch) (H : Heap) (a : Nat) (haB : (zHB G).size ≤ a) (hO : zO G H a 6 [.int 0, .null, .int 0]) : zMg0 G l yJ1_init cJ1_init 1 none 2 0 0 [.ref a] H (fun H1 => zO G H1 a 6 [.int 0, .null, .int 0] ∧ H1.size = H.size ∧ ∀ q : Nat, q ≠ a → H1[q]? = H[q]?) := by
  refine zM.of (by decide +kernel) (Nat.le_of_ble_eq_true rfl) ?_
  intro p0 e0 s0 m0 args0 below0 meth0 c0 Z hr hH hn0 ls hl
  have Z : zC G p0 s0 m0 args0 meth0 c0 RJ1 cJ1_init 1 := Z
  have hl : lv_has ls 1 [(0, .ref a)] := hl
  have hL : zL G [] := zL.nil
  have hin2 : meth0.name = "<init>" := hn0 rfl
  refine lv_aload_n Z.hx Z.hb dJ1_init_0 rfl (lv_at hl 0 rfl) ?_
  -- java/util/AbstractCollection.<init>
  refine z_pcallI (rest := []) (As := []) Z (j_init0 G l H a) gw_J1_1 q30 q69 q70 rfl gd_J1_1 rfl hl.1 (Nat.le_of_ble_eq_true rfl) rfl dJ1_init_1 ⟨⟨Nat.le_of_ble_eq_true rfl, Nat.le_of_ble_eq_true rfl⟩, Nat.le_of_ble_eq_true rfl, Nat.le_of_ble_eq_true rfl⟩ hL (fun locs hL => ?_)
  refine lv_aload_n Z.hx Z.hb dJ1_init_4 rfl (lv_at hl 0 rfl) ?_
  refine lv_iconst (v := 0) Z.hx Z.hb dJ1_init_5 (by decide) ?_
  refine pf_J1_7 Z hO (Nat.le_of_ble_eq_true rfl) hL haB dJ1_init_6 (fun H_1 locs hL hO1_ hz1_ hq1_ => ?_)
  exact z_vret Z hr hL (⟨rfl, hO1_, hz1_, hq1_⟩) (Nat.le_of_ble_eq_true rfl) (Nat.le_of_ble_eq_true rfl) dJ1_init_9
set_option maxHeartbeats 4000000 in
set_option maxRecDepth 100000 in
theorem j_init (G : zG) (l : Launch) (H : Heap) (a : Nat) (haB : (zHB G).size ≤ a) (hO : zO G H a 6 [.int 0, .null, .int 0]) : zMg0 G l yJ2_init cJ2_init 1 none 3 0 0 [.ref a] H (fun H1 => zO G H1 a 6 [.int 0, .ref (zdE G), .int 0] ∧ H1.size = H.size ∧ ∀ q : Nat, q ≠ a → H1[q]? = H[q]?) := by
  refine zM.of (by decide +kernel) (Nat.le_of_ble_eq_true rfl) ?_
  intro p0 e0 s0 m0 args0 below0 meth0 c0 Z hr hH hn0 ls hl
  have Z : zC G p0 s0 m0 args0 meth0 c0 RJ2 cJ2_init 1 := Z
  have hl : lv_has ls 1 [(0, .ref a)] := hl
  have hL : zL G [] := zL.nil
  have hin2 : meth0.name = "<init>" := hn0 rfl
  refine lv_aload_n Z.hx Z.hb dJ2_init_0 rfl (lv_at hl 0 rfl) ?_
  -- java/util/AbstractList.<init>
  refine z_gcallI (rest := []) (As := []) Z (j_init1 G l H a haB hO) gw_J2_1 q31 q66 q67 rfl gd_J2_1 rfl hl.1 (Nat.le_of_ble_eq_true rfl) rfl dJ2_init_1 ⟨⟨Nat.le_of_ble_eq_true rfl, Nat.le_of_ble_eq_true rfl⟩, Nat.le_of_ble_eq_true rfl, Nat.le_of_ble_eq_true rfl⟩ hL (fun H_1 locs hL hP_ => ?_)
  obtain ⟨hO1, hz1, hq1⟩ := hP_
  refine lv_aload_n Z.hx Z.hb dJ2_init_4 rfl (lv_at hl 0 rfl) ?_
  refine z_getsE Z hL q73 dJ2_init_5 ?_
  refine pf_J2_9 Z hO1 (Nat.le_of_ble_eq_true rfl) hL haB dJ2_init_8 (fun H_2 locs hL hO2_ hz2_ hq2_ => ?_)
  exact z_vret Z hr hL (⟨rfl, hO2_, hz2_.trans hz1, fun q hq => (hq2_ q hq).trans (hq1 q hq)⟩) (Nat.le_of_ble_eq_true rfl) (Nat.le_of_ble_eq_true rfl) dJ2_init_11
