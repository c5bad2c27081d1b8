/-! rows over one heap: what an instruction reads, and what it leaves unchanged -/
section ZV
variable {G : zG} {p : Program} {l : Launch} {e : Env} {R : Room} {s : State} {m : MethodId} {args : Array Value} {below : List Frame} {meth : Method} {c : Code} {H : Heap} {locs : List Loc} {cells slots : Nat} {Q : State → Prop} {own : String} {cc : ByteArray} {nL pc : Nat} {ls : Array Slot} {rest : List Value}
theorem z_get (Z : zC G p s m args meth c own cc nL) {ref C : String} {T : u_T} {N ci index : Nat} (hc : zCl[ci]? = some (C, T, N)) (hin : ∀ w ∈ u_ws C T N, w ∈ lw_all) (k : Nat) (hk : k < N) (hlink : Cond.fieldLink own index ref (T k).2.1 (T k).2.2.1 ∈ lw_all)
    (hsame : ∀ x, s.fieldFound? (T k).1 (T k).2.1 (T k).2.2.1 = some x → s.fieldFound? ref (T k).2.1 (T k).2.2.1 = some x) {a : Nat} {fs : List Value} {v : Value} (hO : zO G H a ci fs) (hv : fs[k]? = some v) (hdg : decode cc pc = .ok (.getfield index, 3))
    (kk : W p l e R s m args below meth c H locs cells slots Q (F0 m (pc + 3) ls (v :: rest))) : W p l e R s m args below meth c H locs cells slots Q (F0 m pc ls (.ref a :: rest)) :=
  va_get Z.hx Z.hb Z.hts hin Z.hown Z.vk hO.P 0 rfl hc k hk (Z.hts _ hlink) hsame hv hdg kk
theorem z_getN (Z : zC G p s m args meth c own cc nL) {ref C host : String} {T : u_T} {N ci index : Nat} (hc : zCl[ci]? = some (C, T, N)) (hin : ∀ w ∈ u_ws C T N, w ∈ lw_all) (k : Nat) (hk : k < N) (hlink : Cond.fieldLinkNest own index ref (T k).2.1 (T k).2.2.1 host ∈ lw_tbl)
    (hsame : ∀ x, s.fieldFound? (T k).1 (T k).2.1 (T k).2.2.1 = some x → s.fieldFound? ref (T k).2.1 (T k).2.2.1 = some x) {a : Nat} {fs : List Value} {v : Value} (hO : zO G H a ci fs) (hv : fs[k]? = some v) (hdg : decode cc pc = .ok (.getfield index, 3))
    (kk : W p l e R s m args below meth c H locs cells slots Q (F0 m (pc + 3) ls (v :: rest))) : W p l e R s m args below meth c H locs cells slots Q (F0 m pc ls (.ref a :: rest)) :=
  va_getN Z.hx Z.hb Z.hts hin Z.hown Z.vk hO.P 0 rfl hc k hk (va_Nw.use rfl (Z.nw hlink rfl)) hsame hv hdg kk
theorem z_put (Z : zC G p s m args meth c own cc nL) {ref C : String} {T : u_T} {N ci index : Nat} (hc : zCl[ci]? = some (C, T, N)) (hin : ∀ w ∈ u_ws C T N, w ∈ lw_all) (ty0 : Nat → FieldType) (hty : ∀ k, k < N → parseFieldDescriptor (T k).2.2.1 = some (ty0 k)) (hnm : ∀ a, a < N → ∀ b, b < N → a ≠ b → (T a).2.1 ≠ (T b).2.1)
    (k : Nat) (hk : k < N) (hlink : Cond.fieldLink own index ref (T k).2.1 (T k).2.2.1 ∈ lw_all) (hsame : ∀ x, s.fieldFound? (T k).1 (T k).2.1 (T k).2.2.1 = some x → s.fieldFound? ref (T k).2.1 (T k).2.2.1 = some x) (hfin : (T k).2.2.2 = false) {ty : FieldType} {v : Value} (hd : parseFieldDescriptor (T k).2.2.1 = some ty) (hn : narrow ty v = v) (hfit : fits ty v = true)
    {a : Nat} {fs : List Value} (hO : zO G H a ci fs) (hl : k < fs.length) (hL : zL G locs) (ha : (zHB G).size ≤ a) (hdg : decode cc pc = .ok (.putfield index, 3))
    (kk : ∀ (H1 : Heap) (locs1 : List Loc), zL G locs1 → zO G H1 a ci (fs.set k v) → H1.size = H.size → (∀ q : Nat, q ≠ a → H1[q]? = H[q]?) → W p l e R s m args below meth c H1 locs1 cells slots Q (F0 m (pc + 3) ls rest)) : W p l e R s m args below meth c H locs cells slots Q (F0 m pc ls (v :: .ref a :: rest)) := by
  have hap := va_apart (own := own) Z.hts hin ty0 hty hnm Z.vk hc
  obtain ⟨r, h1, cell, q1, q2, q3, q4⟩ := hO
  have hr : r = (C, T, N) := Option.some.inj (h1.symm.trans hc)
  subst hr
  obtain ⟨hS, hfc, kC, hkC, hkind⟩ := Z.vk.1 ci _ hc
  obtain ⟨cf, kf, fi, f, hi, hsl⟩ := hS k hk
  have hlay := Z.hts _ (hin _ (u_in_lay hk))
  unfold u_lay at hlay
  rw [if_neg (by rw [hfin]; decide)] at hlay
  have hst := (u_facts hfc hkC (u_lays Z.hts hin hk) hi).1
  have h6 := u_store hfc hkC hkind hlay hi hd hn hfit
  refine W.putK Z.hx Z.hb (f := f) ⟨Z.hown, Z.hts _ hlink, ⟨_, _, _, hsame _ hi⟩, hst⟩ (by rw [q2]; exact h6) q1 q3 (by rw [hsl]; exact k2_hasslot (q4 k hk)) rfl rfl hdg fun H' e1 e2 e3 => ?_
  rw [hsl] at e1 ⊢
  exact kk H' _ (hL.one ha) ⟨_, hc, t_OB.to (V := updV (vp_V fs) k v) ⟨_, e1, q2, q3, t_set q4 hap hk v⟩ (fun j _ => vp_updV_set hl v j)⟩ e2 e3
theorem z_putF (Z : zC G p s m args meth c own cc nL) {ref C : String} {T : u_T} {N ci index : Nat} (hc : zCl[ci]? = some (C, T, N)) (hin : ∀ w ∈ u_ws C T N, w ∈ lw_all) (ty0 : Nat → FieldType) (hty : ∀ k, k < N → parseFieldDescriptor (T k).2.2.1 = some (ty0 k)) (hnm : ∀ a, a < N → ∀ b, b < N → a ≠ b → (T a).2.1 ≠ (T b).2.1)
    (k : Nat) (hk : k < N) (hlink : Cond.fieldLink own index ref (T k).2.1 (T k).2.2.1 ∈ lw_all) (hsame : ∀ x, s.fieldFound? (T k).1 (T k).2.1 (T k).2.2.1 = some x → s.fieldFound? ref (T k).2.1 (T k).2.2.1 = some x) (hfin : (T k).2.2.2 = true) (hin2 : meth.name = "<init>") (hdecl : (T k).1 = own) {ty : FieldType} {v : Value} (hd : parseFieldDescriptor (T k).2.2.1 = some ty) (hn : narrow ty v = v) (hfit : fits ty v = true)
    {a : Nat} {fs : List Value} (hO : zO G H a ci fs) (hl : k < fs.length) (hL : zL G locs) (ha : (zHB G).size ≤ a) (hdg : decode cc pc = .ok (.putfield index, 3))
    (kk : ∀ (H1 : Heap) (locs1 : List Loc), zL G locs1 → zO G H1 a ci (fs.set k v) → H1.size = H.size → (∀ q : Nat, q ≠ a → H1[q]? = H[q]?) → W p l e R s m args below meth c H1 locs1 cells slots Q (F0 m (pc + 3) ls rest)) : W p l e R s m args below meth c H locs cells slots Q (F0 m pc ls (v :: .ref a :: rest)) := by
  have hap := va_apart (own := own) Z.hts hin ty0 hty hnm Z.vk hc
  obtain ⟨r, h1, cell, q1, q2, q3, q4⟩ := hO
  have hr : r = (C, T, N) := Option.some.inj (h1.symm.trans hc)
  subst hr
  obtain ⟨hS, hfc, kC, hkC, hkind⟩ := Z.vk.1 ci _ hc
  obtain ⟨cf, kf, fi, f, hi, hsl⟩ := hS k hk
  have hlay := Z.hts _ (hin _ (u_in_lay hk))
  unfold u_lay at hlay
  rw [if_pos hfin] at hlay
  have hst := (u_facts hfc hkC (u_lays Z.hts hin hk) hi).1
  have hcf : m.cls = cf := by
    obtain ⟨_, _, c', _, _, _, -, -, hf', -, -, -, hown2, -⟩ := Cond.laysFinal_spec hlay
    have e1 : c' = cf := by have := hi.symm.trans hf'; simp at this; exact this.1.symm
    rw [hdecl] at hown2
    rw [← e1]; exact Option.some.inj (Z.hown.symm.trans hown2)
  have h6 := u_fits hfc hkC hkind (Or.inr hlay) hi hd hn hfit
  refine W.putFinK Z.hx Z.hb Z.hown (Z.hts _ hlink) (hsame _ hi) hst hcf hin2 (by rw [q2]; exact h6) q1 q3 (by rw [hsl]; exact k2_hasslot (q4 k hk)) rfl rfl hdg fun H' e1 e2 e3 => ?_
  rw [hsl] at e1 ⊢
  exact kk H' _ (hL.one ha) ⟨_, hc, t_OB.to (V := updV (vp_V fs) k v) ⟨_, e1, q2, q3, t_set q4 hap hk v⟩ (fun j _ => vp_updV_set hl v j)⟩ e2 e3
theorem z_alenI (Z : zC G p s m args meth c own cc nL) {a n : Nat} {f : Nat → Int32} (h : zI G H a n f) (hdg : decode cc pc = .ok (.arraylength, 1))
    (kk : W p l e R s m args below meth c H locs cells slots Q (F0 m (pc + 1) ls (.int (Int32.ofNat n) :: rest))) : W p l e R s m args below meth c H locs cells slots Q (F0 m pc ls (.ref a :: rest)) := va_alen Z.hx Z.hb Z.vk h.P 0 0 rfl rfl rfl hdg kk
theorem z_alenR (Z : zC G p s m args meth c own cc nL) {a n : Nat} {f : Nat → Option Nat} (h : zR G H a n f) (hdg : decode cc pc = .ok (.arraylength, 1))
    (kk : W p l e R s m args below meth c H locs cells slots Q (F0 m (pc + 1) ls (.int (Int32.ofNat n) :: rest))) : W p l e R s m args below meth c H locs cells slots Q (F0 m pc ls (.ref a :: rest)) := va_alen Z.hx Z.hb Z.vk h.P 0 3 rfl rfl rfl hdg kk
theorem z_alenE (Z : zC G p s m args meth c own cc nL) (hB : zB G H) (hdg : decode cc pc = .ok (.arraylength, 1))
    (kk : W p l e R s m args below meth c H locs cells slots Q (F0 m (pc + 1) ls (.int 0 :: rest))) : W p l e R s m args below meth c H locs cells slots Q (F0 m pc ls (.ref (zdE G) :: rest)) := by
  obtain ⟨cell, h1, h2, h3⟩ := Z.K.2.2.2.1.2.2
  exact W.alen (n := 0) Z.hx Z.hb (by rw [hB.2 _ (Array.getElem?_eq_some_iff.mp h1).1]; exact h1) h2 (by rw [h3]; rfl) rfl rfl hdg kk
theorem z_iald (Z : zC G p s m args meth c own cc nL) {a n : Nat} {f : Nat → Int32} (h : zI G H a n f) {i : Int32} (hin : vp_in i n) (hdg : decode cc pc = .ok (.iaload, 1))
    (kk : W p l e R s m args below meth c H locs cells slots Q (F0 m (pc + 1) ls (.int (f i.toNatClampNeg) :: rest))) : W p l e R s m args below meth c H locs cells slots Q (F0 m pc ls (.int i :: .ref a :: rest)) := va_iald Z.hx Z.hb Z.vk h.P 0 0 rfl rfl hin hdg kk
theorem z_zald (Z : zC G p s m args meth c own cc nL) {a n : Nat} {f : Nat → Int32} (h : zZ G H a n f) {i : Int32} (hin : vp_in i n) (hdg : decode cc pc = .ok (.baload, 1))
    (kk : W p l e R s m args below meth c H locs cells slots Q (F0 m (pc + 1) ls (.int (f i.toNatClampNeg) :: rest))) : W p l e R s m args below meth c H locs cells slots Q (F0 m pc ls (.int i :: .ref a :: rest)) := va_zald Z.hx Z.hb Z.vk h.P 0 1 rfl rfl hin hdg kk
theorem z_lald (Z : zC G p s m args meth c own cc nL) {a n : Nat} {f : Nat → Int64} (h : zJ G H a n f) {i : Int32} (hin : vp_in i n) (hdg : decode cc pc = .ok (.laload, 1))
    (kk : W p l e R s m args below meth c H locs cells slots Q (F0 m (pc + 1) ls (.long (f i.toNatClampNeg) :: rest))) : W p l e R s m args below meth c H locs cells slots Q (F0 m pc ls (.int i :: .ref a :: rest)) := va_lald Z.hx Z.hb Z.vk h.P 0 2 rfl rfl hin hdg kk
theorem z_aald (Z : zC G p s m args meth c own cc nL) {a n : Nat} {f : Nat → Option Nat} (h : zR G H a n f) {i : Int32} (hin : vp_in i n) {y : Nat} (hy : f i.toNatClampNeg = some y) (hdg : decode cc pc = .ok (.aaload, 1))
    (kk : W p l e R s m args below meth c H locs cells slots Q (F0 m (pc + 1) ls (.ref y :: rest))) : W p l e R s m args below meth c H locs cells slots Q (F0 m pc ls (.int i :: .ref a :: rest)) := by
  have hlt : i.toNatClampNeg < n := Nat.not_le.mp fun q => hin (Or.inr q)
  exact W.aald (v := .ref y) (ty := .object "java/lang/Object") Z.hx Z.hb h ((Z.vk.2 3 _ rfl).1 n (fun j => va_rf (f j))) rfl (fun q => by cases q) (by show ¬ (i < 0 ∨ (arrV _ _ _).slots.size ≤ _); rw [arrV_size]; exact hin) (by show (arrV _ _ _).slots[_]? = _; rw [arrV_read _ _ hlt, hy]; rfl) rfl rfl hdg kk
theorem z_iast (Z : zC G p s m args meth c own cc nL) {a n : Nat} {f : Nat → Int32} (h : zI G H a n f) {i x : Int32} (hin : vp_in i n) (hL : zL G locs) (ha : (zHB G).size ≤ a) (hdg : decode cc pc = .ok (.iastore, 1))
    (kk : ∀ (H1 : Heap) (locs1 : List Loc), zL G locs1 → zI G H1 a n (upd f i.toNatClampNeg x) → H1.size = H.size → (∀ q : Nat, q ≠ a → H1[q]? = H[q]?) → W p l e R s m args below meth c H1 locs1 cells slots Q (F0 m (pc + 1) ls rest)) : W p l e R s m args below meth c H locs cells slots Q (F0 m pc ls (.int x :: .int i :: .ref a :: rest)) := by
  refine W.iast Z.hx Z.hb h ((Z.vk.2 0 _ rfl).1 n (fun j => .int (f j))) (fun q => by cases q) (by show ¬ (i < 0 ∨ (arrV _ _ _).slots.size ≤ _); rw [arrV_size]; exact hin) rfl rfl hdg fun H1 e1 z oq => ?_
  refine kk H1 _ (hL.one ha) ?_ z oq
  show H1[a]? = some (vp_cell _ _)
  rw [e1]
  rw [vp_cell_i, vp_cell_i, arrV_store]
  congr 2
  funext q
  by_cases hq : q = i.toNatClampNeg
  · subst hq
    simp [updV, upd]
  · simp [updV, upd, hq]
theorem z_zast (Z : zC G p s m args meth c own cc nL) {a n : Nat} {f : Nat → Int32} (h : zZ G H a n f) {i x : Int32} (hx : vp_nar .boolean x = x) (hin : vp_in i n) (hL : zL G locs) (ha : (zHB G).size ≤ a) (hdg : decode cc pc = .ok (.bastore, 1))
    (kk : ∀ (H1 : Heap) (locs1 : List Loc), zL G locs1 → zZ G H1 a n (upd f i.toNatClampNeg x) → H1.size = H.size → (∀ q : Nat, q ≠ a → H1[q]? = H[q]?) → W p l e R s m args below meth c H1 locs1 cells slots Q (F0 m (pc + 1) ls rest)) : W p l e R s m args below meth c H locs cells slots Q (F0 m pc ls (.int x :: .int i :: .ref a :: rest)) := by
  refine W.zast Z.hx Z.hb h ((Z.vk.2 1 _ rfl).1 n (fun j => .int (f j))) (fun q => by cases q) (by show ¬ (i < 0 ∨ (arrV _ _ _).slots.size ≤ _); rw [arrV_size]; exact hin) rfl rfl hdg fun H1 e1 z oq => ?_
  refine kk H1 _ (hL.one ha) ?_ z oq
  show H1[a]? = some (vp_cell _ _)
  have hn : narrow .boolean (.int x) = .int x := by
    have h9 : narrow .boolean (.int x) = .int (vp_nar .boolean x) := by
      simp [vp_nar]
      try rfl
    rw [h9, hx]
  rw [e1, hn]
  rw [vp_cell_i, vp_cell_i, arrV_store]
  congr 2
  funext q
  by_cases hq : q = i.toNatClampNeg
  · subst hq
    simp [updV, upd]
  · simp [updV, upd, hq]
theorem z_last (Z : zC G p s m args meth c own cc nL) {a n : Nat} {f : Nat → Int64} (h : zJ G H a n f) {i : Int32} {x : Int64} (hin : vp_in i n) (hL : zL G locs) (ha : (zHB G).size ≤ a) (hdg : decode cc pc = .ok (.lastore, 1))
    (kk : ∀ (H1 : Heap) (locs1 : List Loc), zL G locs1 → zJ G H1 a n (vp_updL f i.toNatClampNeg x) → H1.size = H.size → (∀ q : Nat, q ≠ a → H1[q]? = H[q]?) → W p l e R s m args below meth c H1 locs1 cells slots Q (F0 m (pc + 1) ls rest)) : W p l e R s m args below meth c H locs cells slots Q (F0 m pc ls (.long x :: .int i :: .ref a :: rest)) := by
  refine W.last Z.hx Z.hb h ((Z.vk.2 2 _ rfl).1 n (fun j => .long (f j))) (fun q => by cases q) (by show ¬ (i < 0 ∨ (arrV _ _ _).slots.size ≤ _); rw [arrV_size]; exact hin) rfl rfl hdg fun H1 e1 z oq => ?_
  refine kk H1 _ (hL.one ha) ?_ z oq
  show H1[a]? = some (vp_cell _ _)
  rw [e1]
  rw [vp_cell_l, vp_cell_l, arrV_store]
  congr 2
  funext q
  by_cases hq : q = i.toNatClampNeg
  · subst hq
    simp [updV, vp_updL]
  · simp [updV, vp_updL, hq]
theorem z_aast (Z : zC G p s m args meth c own cc nL) {a n v : Nat} {f : Nat → Option Nat} (h : zR G H a n f) (hv : va_Any "java/lang/Object" s H v) {i : Int32} (hin : vp_in i n) (hL : zL G locs) (ha : (zHB G).size ≤ a) (hdg : decode cc pc = .ok (.aastore, 1))
    (kk : ∀ (H1 : Heap) (locs1 : List Loc), zL G locs1 → zR G H1 a n (va_up f i.toNatClampNeg (some v)) → H1.size = H.size → (∀ q : Nat, q ≠ a → H1[q]? = H[q]?) → W p l e R s m args below meth c H1 locs1 cells slots Q (F0 m (pc + 1) ls rest)) : W p l e R s m args below meth c H locs cells slots Q (F0 m pc ls (.ref v :: .int i :: .ref a :: rest)) := by
  have hlt : i.toNatClampNeg < n := Nat.not_le.mp fun q => hin (Or.inr q)
  have h0 : ¬ i < 0 := fun q => hin (Or.inl q)
  obtain ⟨cellV, g1, g3, ⟨kC, hkC⟩, hasg⟩ := hv
  obtain ⟨kA, comp, k1, k2, k3, -⟩ := (Z.vk.2 3 _ rfl).2
  obtain ⟨kE, hkE, -⟩ := Vm.findClass_spec k3
  refine W.aast Z.hx Z.hb h (fun q h => by cases h) (fun h => by cases h) k1 k2 rfl hkE ⟨h0, by show _ < (arrV _ _ _).slots.size; rw [arrV_size]; exact hlt⟩ g1 (fun q h => by rw [h] at g3; cases g3) hkC (hasg _ k3) rfl rfl hdg fun H1 e1 z oq => ?_
  refine kk H1 _ (hL.one ha) ?_ z oq
  show H1[a]? = some (vp_cell _ _)
  rw [e1]
  rw [vp_cell_q, vp_cell_q, arrV_store]
  congr 2
  funext q
  by_cases hq : q = i.toNatClampNeg
  · subst hq
    simp [updV, va_up, va_rf]
  · simp [updV, va_up, hq]
/-- the array class that the tables name is the one of G -/
theorem z_cls {s : State} (hK : zK G s) {k : Nat} {cA : ClassId} {ty : FieldType} (hk : (zTy G.2.1)[k]? = some (cA, ty)) (ht : va_RA s cA ty = (s.vm.findClass ("[" ++ ty.toString) = some cA)) {c2 : ClassId} (h2 : s.vm.findClass ("[" ++ ty.toString) = some c2) : c2 = cA := by
  have h1 := (hK.1.2 k _ hk).2
  rw [ht] at h1
  exact Option.some.inj (h2.symm.trans h1)
theorem z_newI (Z : zC G p s m args meth c own cc nL) (harr : Cond.arrayClass FieldType.int ∈ lw_all) {n : Int32} {N : Nat} (hn : ¬ n < 0) (hN : n.toNatClampNeg = N) (hbytes : N * 4 ≤ 536870912) (hcells : cells + 1 ≤ R.cells) (hslots : slots + N ≤ R.slots) (hdg : decode cc pc = .ok (.newarray .int, 2))
    (kk : ∀ H1 : Heap, zI G H1 H.size N (fun _ => 0) → H1.size = H.size + 1 → (∀ q : Nat, q < H.size → H1[q]? = H[q]?) → W p l e R s m args below meth c H1 locs (cells + 1) (slots + N) Q (F0 m (pc + 2) ls (.ref H.size :: rest))) : W p l e R s m args below meth c H locs cells slots Q (F0 m pc ls (.int n :: rest)) := by
  refine va_newaK Z.hx Z.hb (atype := .int) (Z.hts _ harr) rfl hdg rfl hn hN hbytes hcells hslots rfl fun H1 cA e1 z1 o1 hAr hNm => ?_
  cases z_cls Z.K (k := 0) rfl rfl hNm
  exact kk H1 e1 z1 o1
theorem z_newZ (Z : zC G p s m args meth c own cc nL) (harr : Cond.arrayClass FieldType.boolean ∈ lw_all) {n : Int32} {N : Nat} (hn : ¬ n < 0) (hN : n.toNatClampNeg = N) (hbytes : N * 1 ≤ 536870912) (hcells : cells + 1 ≤ R.cells) (hslots : slots + N ≤ R.slots) (hdg : decode cc pc = .ok (.newarray .boolean, 2))
    (kk : ∀ H1 : Heap, zZ G H1 H.size N (fun _ => 0) → H1.size = H.size + 1 → (∀ q : Nat, q < H.size → H1[q]? = H[q]?) → W p l e R s m args below meth c H1 locs (cells + 1) (slots + N) Q (F0 m (pc + 2) ls (.ref H.size :: rest))) : W p l e R s m args below meth c H locs cells slots Q (F0 m pc ls (.int n :: rest)) := by
  refine va_newaK Z.hx Z.hb (atype := .boolean) (Z.hts _ harr) rfl hdg rfl hn hN hbytes hcells hslots rfl fun H1 cA e1 z1 o1 hAr hNm => ?_
  cases z_cls Z.K (k := 1) rfl rfl hNm
  exact kk H1 e1 z1 o1
theorem z_newJ (Z : zC G p s m args meth c own cc nL) (harr : Cond.arrayClass FieldType.long ∈ lw_all) {n : Int32} {N : Nat} (hn : ¬ n < 0) (hN : n.toNatClampNeg = N) (hbytes : N * 8 ≤ 536870912) (hcells : cells + 1 ≤ R.cells) (hslots : slots + N ≤ R.slots) (hdg : decode cc pc = .ok (.newarray .long, 2))
    (kk : ∀ H1 : Heap, zJ G H1 H.size N (fun _ => 0) → H1.size = H.size + 1 → (∀ q : Nat, q < H.size → H1[q]? = H[q]?) → W p l e R s m args below meth c H1 locs (cells + 1) (slots + N) Q (F0 m (pc + 2) ls (.ref H.size :: rest))) : W p l e R s m args below meth c H locs cells slots Q (F0 m pc ls (.int n :: rest)) := by
  refine va_newaK Z.hx Z.hb (atype := .long) (Z.hts _ harr) rfl hdg rfl hn hN hbytes hcells hslots rfl fun H1 cA e1 z1 o1 hAr hNm => ?_
  cases z_cls Z.K (k := 2) rfl rfl hNm
  exact kk H1 e1 z1 o1
theorem z_newR (Z : zC G p s m args meth c own cc nL) {index : Nat} (hclink : Cond.classLink own index "java/lang/Object" ∈ lw_all) {n : Int32} {N : Nat} (hn : ¬ n < 0) (hN : n.toNatClampNeg = N) (hbytes : N * 4 ≤ 536870912) (hcells : cells + 1 ≤ R.cells) (hslots : slots + N ≤ R.slots) (hdg : decode cc pc = .ok (.anewarray index, 3))
    (kk : ∀ H1 : Heap, zR G H1 H.size N (fun _ => none) → H1.size = H.size + 1 → (∀ q : Nat, q < H.size → H1[q]? = H[q]?) → W p l e R s m args below meth c H1 locs (cells + 1) (slots + N) Q (F0 m (pc + 3) ls (.ref H.size :: rest))) : W p l e R s m args below meth c H locs cells slots Q (F0 m pc ls (.int n :: rest)) := by
  subst hN
  refine W.anew Z.hx Z.hb Z.hown (Z.hts _ hclink) (va_AO.use Z.K.2.2.2.1.1) rfl hdg rfl hn hbytes hcells hslots fun cA kA comp f1 f2 f3 f4 => ?_
  obtain ⟨kA2, comp2, g1, g2, g3, g4⟩ := (Z.vk.2 3 _ rfl).2
  have hcA : cA = G.2.1 3 := Option.some.inj (f1.symm.trans g4)
  subst hcA
  generalize hH1 : H.push ({ cls := G.2.1 3, slots := Array.replicate n.toNatClampNeg .null, vm := .none } : Cell) = H1
  refine kk H1 ?_ (by rw [← hH1, Array.size_push]) (fun q hq => by rw [← hH1, Array.getElem?_push, if_neg (Nat.ne_of_lt hq)])
  show H1[H.size]? = some (vp_cell _ _)
  rw [← hH1, Array.getElem?_push_size, vp_cell_q, ← arrV_new]
  rfl
theorem z_new (Z : zC G p s m args meth c own cc nL) {C : String} {T : u_T} {N ci index : Nat} (hc : zCl[ci]? = some (C, T, N)) (hin : ∀ w ∈ u_ws C T N, w ∈ lw_all) (ty : Nat → FieldType) (hty : ∀ k, k < N → parseFieldDescriptor (T k).2.2.1 = some (ty k)) (hcl : Cond.classLink own index C ∈ lw_all) (hinst : Cond.instantiable C N ∈ lw_all) (hini : Cond.initialized C ∈ lw_all)
    {fs : List Value} (hfs : ∀ j, j < N → defaultValue (ty j) = vp_V fs j) (hcells : cells + 1 ≤ R.cells) (hslots : slots + N ≤ R.slots) (hdg : decode cc pc = .ok (.new index, 3))
    (kk : ∀ H1 : Heap, zO G H1 H.size ci fs → H1.size = H.size + 1 → (∀ q : Nat, q < H.size → H1[q]? = H[q]?) → W p l e R s m args below meth c H1 locs (cells + 1) (slots + N) Q (F0 m (pc + 3) ls (.ref H.size :: rest))) : W p l e R s m args below meth c H locs cells slots Q (F0 m pc ls rest) := by
  have hKn := Z.vk.1 ci _ hc
  refine W.newcK Z.hx Z.hb Z.hown (Z.hts _ hcl) (Z.hts _ hinst) (Z.hts _ hini) rfl hdg hcells hslots hKn.2.1 rfl fun H1 kC hkC e1 z1 o1 => ?_
  exact kk H1 ⟨_, hc, (u_born ty Z.hts hin hKn hkC e1 hty).to hfs⟩ z1 o1
theorem z_obj (Z : zC G p s m args meth c own cc nL) {idx : Nat} (hlink : Cond.methodLink own idx objectInit ∈ lw_all) (hinst : Cond.instanceMethod objectInit ∈ lw_all) (hcode : Cond.code objectInit ⟨#[0xb1]⟩ 1 none ∈ lw_all) (hsize : ls.size = nL) {a : Nat} (hd : decode cc pc = .ok (.invokespecial idx, 3)) (hframes : 1 ≤ R.frames) (hlocals : (rest.map fun v => v.category).sum + 12 ≤ R.locals)
    (kk : W p l e R s m args below meth c H locs cells slots Q (F0 m (pc + 3) ls rest)) : W p l e R s m args below meth c H locs cells slots Q (F0 m pc ls (.ref a :: rest)) :=
  W.objInit Z.hx Z.hb Z.hown (Z.hts _ hlink) (Z.hts _ hinst) (Z.hts _ hcode) rfl (by rw [Z.hml]; exact hsize) rfl hd hframes (by show 2 * 0 + _ + _ ≤ _; omega) kk
/-- the receiver, or a cell to be cast -/
theorem z_recv (hK : zK G s) {b ci : Nat} {fs : List Value} {q : vw_C} (hc : zCl[ci]? = some q) (hO : zO G H b ci fs) : ∃ cell : Cell, H[b]? = some cell ∧ cell.vm.isStatics = false ∧ s.vm.findClass q.1 = some cell.cls := va_recv hK.1 hO.P hc (q0 := 0) rfl
theorem z_any (hK : zK G s) {b ci : Nat} {fs : List Value} {q : vw_C} (hc : zCl[ci]? = some q) (hca : Cond.castable q.1 "java/lang/Object" ∈ lw_tbl) (hO : zO G H b ci fs) : va_Any "java/lang/Object" s H b := by
  refine va_rAny hK.1 hO.P (q0 := 0) rfl hc (fun comp c0 h1 h2 => ?_)
  obtain ⟨c3, t3, f1, f2, f3⟩ := Cond.castable_spec (va_Nw.use (A := #[]) rfl (hK.2.1 _ hca rfl))
  cases f1.symm.trans h2
  cases f2.symm.trans h1
  exact f3
theorem z_castS (Z : zC G p s m args meth c own cc nL) {nm : String} {T : u_T} {N ci index : Nat} (hc : zCl[ci]? = some (nm, T, N)) (hlink : Cond.classLink own index nm ∈ lw_all) {a : Nat} {fs : List Value} (hO : zO G H a ci fs) (hdg : decode cc pc = .ok (.checkcast index, 3))
    (kk : W p l e R s m args below meth c H locs cells slots Q (F0 m (pc + 3) ls (.ref a :: rest))) : W p l e R s m args below meth c H locs cells slots Q (F0 m pc ls (.ref a :: rest)) :=
  va_castS Z.hx Z.hb Z.hown (Z.hts _ hlink) (Z.vk.1 ci _ hc).2 (z_recv Z.K hc hO) hdg kk
theorem z_castY (Z : zC G p s m args meth c own cc nL) {C nm : String} {T : u_T} {N ci index : Nat} (hc : zCl[ci]? = some (C, T, N)) (hlink : Cond.classLink own index nm ∈ lw_all) (hca : Cond.castable C nm ∈ lw_tbl) {a : Nat} {fs : List Value} (hO : zO G H a ci fs) (hdg : decode cc pc = .ok (.checkcast index, 3))
    (kk : W p l e R s m args below meth c H locs cells slots Q (F0 m (pc + 3) ls (.ref a :: rest))) : W p l e R s m args below meth c H locs cells slots Q (F0 m pc ls (.ref a :: rest)) :=
  va_castY Z.hx Z.hb Z.hown (Z.hts _ hlink) (Z.nw hca rfl) (z_recv Z.K hc hO) hdg kk
theorem z_getsE (Z : zC G p s m args meth c own cc nL) (hL : zL G locs) {index : Nat} (hlink : Cond.fieldLink own index "java/util/ArrayList" "DEFAULTCAPACITY_EMPTY_ELEMENTDATA" "[Ljava/lang/Object;" ∈ lw_all) (hdg : decode cc pc = .ok (.getstatic index, 3))
    (kk : W p l e R s m args below meth c H locs cells slots Q (F0 m (pc + 3) ls (.ref (zdE G) :: rest))) : W p l e R s m args below meth c H locs cells slots Q (F0 m pc ls rest) := by
  intro T hT X
  refine va_gets Z.hx Z.hb (A := zA G) (v := .ref (zdE G)) ?_ (Z.S hT hL X) Z.hown (Z.hts _ hlink) (fun _ h => h) hdg kk T hT X
  exact Z.K.2.2.2.2.1.kept (fun a ha _ => Z.B0.2 a ha)
theorem z_ne (hK : zK G s) {a b ci n : Nat} {fs : List Value} {f : Nat → Option Nat} {q : vw_C} (hc : zCl[ci]? = some q) (hO : zO G H a ci fs) (hR : zR G H b n f) : a ≠ b := by
  intro e9
  subst e9
  obtain ⟨r, h1, cell, q1, q2, q3, q4⟩ := hO
  obtain ⟨-, -, kC, hkC, hkind⟩ := hK.1.1 ci _ hc
  obtain ⟨kA, comp, k1, k2, -, -⟩ := (hK.1.2 3 _ rfl).2
  have e1 : cell = vp_cell (G.2.1 3) (n, .inr (.inr (.inr (.inr f)))) := Option.some.inj (q1.symm.trans hR)
  rw [e1] at q2
  have e2 : G.2.1 3 = G.1.1 ci := q2
  rw [e2] at k1
  cases k1.symm.trans hkC
  rw [k2] at hkind
  cases hkind
end ZV
