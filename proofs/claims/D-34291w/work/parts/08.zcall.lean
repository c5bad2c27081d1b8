/-! calls, returns, exceptions, over one heap -/
section ZE
variable {G : zG} {p : Program} {l : Launch} {e : Env} {R : Room} {s : State} {m : MethodId} {args : Array Value} {below : List Frame} {meth : Method} {c : Code} {H : Heap} {locs : List Loc} {cells slots : Nat} {Q : State → Prop} {own : String} {cc : ByteArray} {nL pc : Nat} {ls : Array Slot} {rest st : List Value}
variable {y : MethodName} {bytes : ByteArray} {maxL mc ms n index d : Nat} {ret : Option FieldType} {As : List Value} {P : Option Value → Heap → Prop} {X : String → Heap → Prop}
theorem z_ofRun {a : Array Value} (hL : zL G locs) (hr : va_Run p l e R s m args below meth c H locs cells slots mc ms (F0 m pc ls st) rest (zQ P a) (zA G))
    (kk : ∀ (r : Option Value) (H1 : Heap) (locs1 : List Loc), zL G locs1 → P r H1 → W p l e R s m args below meth c H1 locs1 (cells + mc) (slots + ms) Q (F0 m (pc + 3) ls (r.toList ++ rest))) : W p l e R s m args below meth c H locs cells slots Q (F0 m pc ls st) := by
  intro T hT X
  obtain ⟨v, st₀, t, T', L, h0, X', hLL, e1, e2, ⟨r, hv, hp⟩, sx⟩ := hr T hT X
  cases hv
  obtain ⟨t2, a1, b1⟩ := kk v T'.heap (locs ++ L) (hL.app hLL) (by rw [e1]; exact hp) T' rfl X'
  exact ⟨t2, sx t2 a1, b1⟩
theorem z_ofRun5 {a : Array Value} (hL : zL G locs) (hr : va_Run5 p l e R s m args below meth c H locs cells slots mc ms (F0 m pc ls st) rest (zQ P a) (zA G))
    (kk : ∀ (r : Option Value) (H1 : Heap) (locs1 : List Loc), zL G locs1 → P r H1 → W p l e R s m args below meth c H1 locs1 (cells + mc) (slots + ms) Q (F0 m (pc + 5) ls (r.toList ++ rest))) : W p l e R s m args below meth c H locs cells slots Q (F0 m pc ls st) := by
  intro T hT X
  obtain ⟨v, st₀, t, T', L, h0, X', hLL, e1, e2, ⟨r, hv, hp⟩, sx⟩ := hr T hT X
  cases hv
  obtain ⟨t2, a1, b1⟩ := kk v T'.heap (locs ++ L) (hL.app hLL) (by rw [e1]; exact hp) T' rfl X'
  exact ⟨t2, sx t2 a1, b1⟩
abbrev zfit (R : Room) (cells slots maxL d mc ms : Nat) : Prop := (d + 1 ≤ R.frames ∧ 8 + (maxL + 11) + 64 * d ≤ R.locals) ∧ cells + mc ≤ R.cells ∧ slots + ms ≤ R.slots
abbrev zhd (y : MethodName) (n : Nat) : Prop := y.cls ≠ "java/lang/invoke/MethodHandle" ∧ y.cls ≠ "java/lang/invoke/VarHandle" ∧ (parseMethodDescriptor y.desc).map (fun d => d.parameters.length) = some n
theorem zPre (Z : zC G p s m args meth c own cc nL) (hB : zB G H) {av : List Value} : ∀ U : State, U.heap = H → s.WarmedH U.vm → zPc G av H av.toArray U := fun _ hU hW => ⟨rfl, hU, zK.moved hW Z.K, hB⟩
theorem z_callV (Z : zC G p s m args meth c own cc nL) {C : String} {b ci : Nat} {fs : List Value} {T : u_T} {N : Nat} (hM : zM G l y bytes maxL ret d mc ms (.ref b :: As) H P) (hw : GoodIn lw_all (wsV own index C y (ws_ y bytes maxL ret))) (hd : y.cls = C ∧ zhd y n)
    (hc : zCl[ci]? = some (C, T, N)) (hO : zO G H b ci fs) (hn : As.length = n) (hsize : ls.size = nL) (hrest : (rest.map fun v => v.category).sum ≤ 8) (hst : st = As.reverse ++ .ref b :: rest) (hdg : decode cc pc = .ok (.invokevirtual index, 3)) (hf : zfit R cells slots maxL d mc ms) (hL : zL G locs)
    (kk : ∀ (r : Option Value) (H1 : Heap) (locs1 : List Loc), zL G locs1 → P r H1 → W p l e R s m args below meth c H1 locs1 (cells + mc) (slots + ms) Q (F0 m (pc + 3) ls (r.toList ++ rest))) : W p l e R s m args below meth c H locs cells slots Q (F0 m pc ls st) :=
  z_base Z hL fun hB => z_ofRun hL (va_runV (As := As) (rest := rest) Z.1 hM (cwV n Z.hts hw rfl rfl rfl hd hf.1) ⟨zPc_blind, z_recv Z.K hc hO, zPre Z hB⟩ rfl hn hsize hst (lv_room hrest) hdg hf.2) kk
theorem z_callS (Z : zC G p s m args meth c own cc nL) (hM : zM G l y bytes maxL ret d mc ms As H P) (hw : GoodIn lw_all (va_wsS own index y (ws_ y bytes maxL ret))) (hd : zhd y n)
    (hn : As.length = n) (hsize : ls.size = nL) (hrest : (rest.map fun v => v.category).sum ≤ 8) (hst : st = As.reverse ++ rest) (hdg : decode cc pc = .ok (.invokestatic index, 3)) (hf : zfit R cells slots maxL d mc ms) (hL : zL G locs)
    (kk : ∀ (r : Option Value) (H1 : Heap) (locs1 : List Loc), zL G locs1 → P r H1 → W p l e R s m args below meth c H1 locs1 (cells + mc) (slots + ms) Q (F0 m (pc + 3) ls (r.toList ++ rest))) : W p l e R s m args below meth c H locs cells slots Q (F0 m pc ls st) :=
  z_base Z hL fun hB => z_ofRun hL (va_runS (As := As) (rest := rest) Z.1 hM (va_cwS n Z.hts hw rfl rfl rfl hd hf.1) ⟨zPc_blind, zPre Z hB⟩ rfl hn hsize hst (lv_room hrest) hdg hf.2) kk
theorem z_callSW (Z : zC G p s m args meth c own cc nL) {hh : List (Nat × Nat × Nat × Nat)} (hM : zMW G l y bytes maxL ret hh d mc ms As H P) (hw : GoodIn lw_all (va_wsS own index y (wsW_ y bytes maxL ret hh))) (hd : zhd y n)
    (hn : As.length = n) (hsize : ls.size = nL) (hrest : (rest.map fun v => v.category).sum ≤ 8) (hst : st = As.reverse ++ rest) (hdg : decode cc pc = .ok (.invokestatic index, 3)) (hf : zfit R cells slots maxL d mc ms) (hL : zL G locs)
    (kk : ∀ (r : Option Value) (H1 : Heap) (locs1 : List Loc), zL G locs1 → P r H1 → W p l e R s m args below meth c H1 locs1 (cells + mc) (slots + ms) Q (F0 m (pc + 3) ls (r.toList ++ rest))) : W p l e R s m args below meth c H locs cells slots Q (F0 m pc ls st) :=
  z_base Z hL fun hB => z_ofRun hL (vx_runSW (As := As) (rest := rest) Z.1 hM (vx_cwSW n Z.hts hw rfl rfl rfl hd hf.1) ⟨zPc_blind, zPre Z hB⟩ rfl hn hsize hst (lv_room hrest) hdg hf.2) kk
theorem z_callI (Z : zC G p s m args meth c own cc nL) {b : Nat} (hM : zM G l y bytes maxL none d mc ms (.ref b :: As) H P) (hw : GoodIn lw_all (ws_ y bytes maxL none)) (hini : Cond.initialized y.cls ∈ lw_all) (hlk : Cond.methodLink own index y ∈ lw_all) (him : Cond.instanceMethod y ∈ lw_all) (hy : y.name = "<init>") (hd : zhd y n)
    (hn : As.length = n) (hsize : ls.size = nL) (hrest : (rest.map fun v => v.category).sum ≤ 8) (hst : st = As.reverse ++ .ref b :: rest) (hdg : decode cc pc = .ok (.invokespecial index, 3)) (hf : zfit R cells slots maxL d mc ms) (hL : zL G locs)
    (kk : ∀ (r : Option Value) (H1 : Heap) (locs1 : List Loc), zL G locs1 → P r H1 → W p l e R s m args below meth c H1 locs1 (cells + mc) (slots + ms) Q (F0 m (pc + 3) ls (r.toList ++ rest))) : W p l e R s m args below meth c H locs cells slots Q (F0 m pc ls st) :=
  z_base Z hL fun hB => z_ofRun hL (va_runI (As := As) (rest := rest) Z.1 hM (cwI n Z.hts hw rfl rfl rfl (Z.hts _ hini) (Z.hts _ hlk) (Z.hts _ him) hy hd hf.1) ⟨zPc_blind, zPre Z hB⟩ rfl hn hsize hst (lv_room hrest) hdg hf.2) kk
theorem z_callIN (Z : zC G p s m args meth c own cc nL) {b : Nat} {host : String} (hM : zM G l y bytes maxL none d mc ms (.ref b :: As) H P) (hw : GoodIn lw_all (ws_ y bytes maxL none)) (hini : Cond.initialized y.cls ∈ lw_all) (hlk : Cond.methodLinkNest own index y host ∈ lw_tbl) (him : Cond.instanceMethod y ∈ lw_all) (hy : y.name = "<init>") (hd : zhd y n)
    (hn : As.length = n) (hsize : ls.size = nL) (hrest : (rest.map fun v => v.category).sum ≤ 8) (hst : st = As.reverse ++ .ref b :: rest) (hdg : decode cc pc = .ok (.invokespecial index, 3)) (hf : zfit R cells slots maxL d mc ms) (hL : zL G locs)
    (kk : ∀ (r : Option Value) (H1 : Heap) (locs1 : List Loc), zL G locs1 → P r H1 → W p l e R s m args below meth c H1 locs1 (cells + mc) (slots + ms) Q (F0 m (pc + 3) ls (r.toList ++ rest))) : W p l e R s m args below meth c H locs cells slots Q (F0 m pc ls st) :=
  z_base Z hL fun hB => z_ofRun hL (va_runIN (As := As) (rest := rest) Z.1 hM ⟨va_cnB n Z.hts hw rfl rfl rfl (Z.nw hlk rfl) (Z.hts _ hini) hd hf.1, hy, Z.hts _ him⟩ ⟨zPc_blind, zPre Z hB⟩ rfl hn hsize hst (lv_room hrest) hdg hf.2) kk
/-- by the interface List, on an ArrayList -/
theorem z_callF (Z : zC G p s m args meth c own cc nL) {x : MethodName} {b count : Nat} {fs : List Value} (hM : zM G l y bytes maxL ret d mc ms (.ref b :: As) H P) (hw : GoodIn lw_all (va_wsF own index RJ2 x y (ws_ y bytes maxL ret))) (hF : va_Fw RJ2 x y s) (hd : zhd x n)
    (hO : zO G H b 6 fs) (hn : As.length = n) (hsize : ls.size = nL) (hrest : (rest.map fun v => v.category).sum ≤ 8) (hst : st = As.reverse ++ .ref b :: rest) (hdg : decode cc pc = .ok (.invokeinterface index count, 5)) (hf : zfit R cells slots maxL d mc ms) (hL : zL G locs)
    (kk : ∀ (r : Option Value) (H1 : Heap) (locs1 : List Loc), zL G locs1 → P r H1 → W p l e R s m args below meth c H1 locs1 (cells + mc) (slots + ms) Q (F0 m (pc + 5) ls (r.toList ++ rest))) : W p l e R s m args below meth c H locs cells slots Q (F0 m pc ls st) :=
  z_base Z hL fun hB => z_ofRun5 hL (va_runF (As := As) (rest := rest) (Z.vk.1 6 _ rfl).2 Z.1 hM (va_cwF n Z.hts hw rfl rfl rfl hF hd hf.1) ⟨zPc_blind, z_recv Z.K (ci := 6) rfl hO, zPre Z hB⟩ rfl hn hsize hst (lv_room hrest) hdg hf.2) kk
/-- returns -/
theorem z_iret (Z : zC G p s m args meth c own cc nL) (hr : meth.sig.returnType = some .int) (hL : zL G locs) {v : Int32} (hp : P (some (.int v)) H) (hc : cells ≤ mc) (hs : slots ≤ ms) (hdg : decode cc pc = .ok (.ireturn, 1)) : W p l e R s m args below meth c H locs cells slots (MQ below (zQ P) args s mc ms (zA G)) (F0 m pc ls [.int v]) :=
  W.widen hc hs (W.iret Z.hx Z.hb hr (fun t ht _ => ⟨_, rfl, by rw [ht]; exact hp⟩) hL hdg Z.lk)
theorem z_zret (Z : zC G p s m args meth c own cc nL) (hr : meth.sig.returnType = some .boolean) (hL : zL G locs) {v : Int32} (hv : v = 0 ∨ v = 1) (hp : P (some (.int v)) H) (hc : cells ≤ mc) (hs : slots ≤ ms) (hdg : decode cc pc = .ok (.ireturn, 1)) : W p l e R s m args below meth c H locs cells slots (MQ below (zQ P) args s mc ms (zA G)) (F0 m pc ls [.int v]) :=
  W.widen hc hs (W.zret Z.hx Z.hb hr (by rcases hv with rfl | rfl <;> rfl) (fun t ht _ => ⟨_, rfl, by rw [ht]; exact hp⟩) hL hdg Z.lk)
theorem z_vret (Z : zC G p s m args meth c own cc nL) (hr : meth.sig.returnType = none) (hL : zL G locs) (hp : P none H) (hc : cells ≤ mc) (hs : slots ≤ ms) (hdg : decode cc pc = .ok (.return_, 1)) : W p l e R s m args below meth c H locs cells slots (MQ below (zQ P) args s mc ms (zA G)) (F0 m pc ls []) :=
  W.widen hc hs (W.vret Z.hx Z.hb hr (fun t ht _ => ⟨_, rfl, by rw [ht]; exact hp⟩) hL hdg Z.lk)
theorem z_aret (Z : zC G p s m args meth c own cc nL) {rt : FieldType} (hr : meth.sig.returnType = some rt) (hrt : (∃ n, rt = .object n) ∨ ∃ t, rt = .array t) (hL : zL G locs) {v : Value} (hv : v = .null ∨ ∃ a, v = .ref a) (hp : P (some v) H) (hc : cells ≤ mc) (hs : slots ≤ ms) (hdg : decode cc pc = .ok (.areturn, 1)) : W p l e R s m args below meth c H locs cells slots (MQ below (zQ P) args s mc ms (zA G)) (F0 m pc ls [v]) :=
  W.widen hc hs (W.aret Z.hx Z.hb hr hrt hv (fun t ht _ => ⟨_, rfl, by rw [ht]; exact hp⟩) hL hdg Z.lk)
theorem zx_iret (Z : zC G p s m args meth c own cc nL) (hr : meth.sig.returnType = some .int) (hL : zL G locs) {v : Int32} (hp : P (some (.int v)) H) (hc : cells ≤ mc) (hs : slots ≤ ms) (hdg : decode cc pc = .ok (.ireturn, 1)) : W p l e R s m args below meth c H locs cells slots (vx_MQ below (zQ P) (zXc X) args s mc ms (zA G)) (F0 m pc ls [.int v]) := vx_ret (z_iret Z hr hL hp hc hs hdg)
theorem zx_zret (Z : zC G p s m args meth c own cc nL) (hr : meth.sig.returnType = some .boolean) (hL : zL G locs) {v : Int32} (hv : v = 0 ∨ v = 1) (hp : P (some (.int v)) H) (hc : cells ≤ mc) (hs : slots ≤ ms) (hdg : decode cc pc = .ok (.ireturn, 1)) : W p l e R s m args below meth c H locs cells slots (vx_MQ below (zQ P) (zXc X) args s mc ms (zA G)) (F0 m pc ls [.int v]) := vx_ret (z_zret Z hr hL hv hp hc hs hdg)
theorem zx_vret (Z : zC G p s m args meth c own cc nL) (hr : meth.sig.returnType = none) (hL : zL G locs) (hp : P none H) (hc : cells ≤ mc) (hs : slots ≤ ms) (hdg : decode cc pc = .ok (.return_, 1)) : W p l e R s m args below meth c H locs cells slots (vx_MQ below (zQ P) (zXc X) args s mc ms (zA G)) (F0 m pc ls []) := vx_ret (z_vret Z hr hL hp hc hs hdg)
theorem zx_aret (Z : zC G p s m args meth c own cc nL) {rt : FieldType} (hr : meth.sig.returnType = some rt) (hrt : (∃ n, rt = .object n) ∨ ∃ t, rt = .array t) (hL : zL G locs) {v : Value} (hv : v = .null ∨ ∃ a, v = .ref a) (hp : P (some v) H) (hc : cells ≤ mc) (hs : slots ≤ ms) (hdg : decode cc pc = .ok (.areturn, 1)) : W p l e R s m args below meth c H locs cells slots (vx_MQ below (zQ P) (zXc X) args s mc ms (zA G)) (F0 m pc ls [v]) := vx_ret (z_aret Z hr hrt hL hv hp hc hs hdg)
/-- calls of what may throw -/
theorem z_ofRunX {a : Array Value} (hL : zL G locs) (hr : vx_Run p l e R s m args below meth c H locs cells slots mc ms (F0 m pc ls st) rest (zQ P a) (zXc X) (zA G))
    (kx : ∀ (E : String) (ce : Cell) (q : Addr) (H1 : Heap) (locs1 : List Loc), zL G locs1 → X E H1 → H1[q]? = some ce → ce.vm = .none → s.vm.findClass E = some ce.cls → vx_W p l e R s m args below meth c H1 locs1 (cells + mc) (slots + ms) Q (F0 m pc ls rest) q)
    (kk : ∀ (r : Option Value) (H1 : Heap) (locs1 : List Loc), zL G locs1 → P r H1 → W p l e R s m args below meth c H1 locs1 (cells + mc) (slots + ms) Q (F0 m (pc + 3) ls (r.toList ++ rest))) : W p l e R s m args below meth c H locs cells slots Q (F0 m pc ls st) := by
  intro T hT X9
  rcases hr T hT X9 with ⟨v, st₀, t, T', L, h0, X', hLL, e1, e2, ⟨r, hv, hp⟩, sx⟩ | ⟨q, st₀, t, T', L, E, ce, h0, X', hLL, e1, e2, hX, hce, hcv, hcl, sx⟩
  · cases hv
    obtain ⟨t2, a1, b1⟩ := kk v T'.heap (locs ++ L) (hL.app hLL) (by rw [e1]; exact hp) T' rfl X'
    exact ⟨t2, sx t2 a1, b1⟩
  · obtain ⟨t2, a1, b1⟩ := kx E ce q T'.heap (locs ++ L) (hL.app hLL) (by rw [e1]; exact hX) (by rw [e1]; exact hce) hcv hcl T' rfl X'
    exact ⟨t2, sx.trans a1, b1⟩
theorem z_xcallV (Z : zC G p s m args meth c own cc nL) {C : String} {b ci : Nat} {fs : List Value} {T : u_T} {N : Nat} (hM : zX G l y bytes maxL ret d mc ms (.ref b :: As) H P X) (hw : GoodIn lw_all (wsV own index C y (ws_ y bytes maxL ret))) (hd : y.cls = C ∧ zhd y n)
    (hc : zCl[ci]? = some (C, T, N)) (hO : zO G H b ci fs) (hn : As.length = n) (hsize : ls.size = nL) (hrest : (rest.map fun v => v.category).sum ≤ 8) (hst : st = As.reverse ++ .ref b :: rest) (hdg : decode cc pc = .ok (.invokevirtual index, 3)) (hf : zfit R cells slots maxL d mc ms) (hL : zL G locs)
    (kx : ∀ (E : String) (ce : Cell) (q : Addr) (H1 : Heap) (locs1 : List Loc), zL G locs1 → X E H1 → H1[q]? = some ce → ce.vm = .none → s.vm.findClass E = some ce.cls → vx_W p l e R s m args below meth c H1 locs1 (cells + mc) (slots + ms) Q (F0 m pc ls rest) q)
    (kk : ∀ (r : Option Value) (H1 : Heap) (locs1 : List Loc), zL G locs1 → P r H1 → W p l e R s m args below meth c H1 locs1 (cells + mc) (slots + ms) Q (F0 m (pc + 3) ls (r.toList ++ rest))) : W p l e R s m args below meth c H locs cells slots Q (F0 m pc ls st) :=
  z_base Z hL fun hB => z_ofRunX hL (vx_runV (As := As) (rest := rest) Z.1 hM (cwV n Z.hts hw rfl rfl rfl hd hf.1) ⟨zPc_blind, z_recv Z.K hc hO, zPre Z hB⟩ rfl hn hsize hst (lv_room hrest) hdg hf.2) kx kk
theorem z_xcallS (Z : zC G p s m args meth c own cc nL) (hM : zX G l y bytes maxL ret d mc ms As H P X) (hw : GoodIn lw_all (va_wsS own index y (ws_ y bytes maxL ret))) (hd : zhd y n)
    (hn : As.length = n) (hsize : ls.size = nL) (hrest : (rest.map fun v => v.category).sum ≤ 8) (hst : st = As.reverse ++ rest) (hdg : decode cc pc = .ok (.invokestatic index, 3)) (hf : zfit R cells slots maxL d mc ms) (hL : zL G locs)
    (kx : ∀ (E : String) (ce : Cell) (q : Addr) (H1 : Heap) (locs1 : List Loc), zL G locs1 → X E H1 → H1[q]? = some ce → ce.vm = .none → s.vm.findClass E = some ce.cls → vx_W p l e R s m args below meth c H1 locs1 (cells + mc) (slots + ms) Q (F0 m pc ls rest) q)
    (kk : ∀ (r : Option Value) (H1 : Heap) (locs1 : List Loc), zL G locs1 → P r H1 → W p l e R s m args below meth c H1 locs1 (cells + mc) (slots + ms) Q (F0 m (pc + 3) ls (r.toList ++ rest))) : W p l e R s m args below meth c H locs cells slots Q (F0 m pc ls st) :=
  z_base Z hL fun hB => z_ofRunX hL (vx_runS (As := As) (rest := rest) Z.1 hM (va_cwS n Z.hts hw rfl rfl rfl hd hf.1) ⟨zPc_blind, zPre Z hB⟩ rfl hn hsize hst (lv_room hrest) hdg hf.2) kx kk
/-- a method without handlers lets it through -/
theorem z_out (Z : zC G p s m args meth c own cc nL) (hxt : ∀ x ∈ c.exceptionTable.toList, False) {E : String} {ce : Cell} {q : Addr} (hL : zL G locs) (hX : X E H) (hce : H[q]? = some ce) (hcv : ce.vm = .none) (hcl : s.vm.findClass E = some ce.cls) (hc : cells ≤ mc) (hs : slots ≤ ms) :
    vx_W p l e R s m args below meth c H locs cells slots (vx_MQ below (zQ P) (zXc X) args s mc ms (zA G)) (F0 m pc ls rest) q :=
  vx_out (fun x hx => (hxt x hx).elim) Z.lk hce hcv hcl (fun t ht _ => by show X E t.heap; rw [ht]; exact hX) hL hc hs
/-- the words of a throw, by their places -/
theorem z_hat (Z : zC G p s m args meth c own cc nL) (L : List Cond) (ps : List Nat) (hp : L = ps.filterMap (fun i => lw_tbl[i]?)) (hg : L.all (fun w => goodWord w || zWk w) = true) : ∀ w ∈ L, w.before args s = true := by
  intro w hw
  have h1 := List.all_eq_true.mp hg w hw
  have hm : w ∈ lw_tbl := by
    rw [hp] at hw
    obtain ⟨i, -, hi⟩ := List.mem_filterMap.mp hw
    exact List.mem_of_getElem? hi
  rcases Bool.or_eq_true_iff.mp h1 with h | h
  · exact Z.hts w (lw_g hm h)
  · have h2 := Z.nw hm h
    refine va_Nw.use ?_ h2
    revert h
    cases w <;> simp [zWk, Cond.onTables]
/-- 'new E()' for one of the JDK's exceptions -/
theorem z_make0 (Z : zC G p s m args meth c own cc nL) (hl : l.stackTraces = false) {cls : String} {names : List String} {ik ic ci : Nat} {T0 : u_T}
    (hcls : Bundle.fit cls = true) (hnames : ∀ n ∈ names, Bundle.fit n = true)
    (hk : Cond.classLink own ik cls ∈ lw_all) (hini : Cond.initialized cls ∈ lw_all) (hat : ∀ w ∈ vx_at0 own ic cls names, w.before args s = true)
    (hgood : ∀ w ∈ Cond.classLink own ik cls :: Cond.initialized cls :: vx_at0 own ic cls names, vx_ot w = true)
    (hL : zL G locs) (hsize : ls.size = nL) (d0 : decode cc pc = .ok (.new ik, 3)) (d3 : decode cc (pc + 3) = .ok (.dup, 1)) (d4 : decode cc (pc + 4) = .ok (.invokespecial ic, 3)) (hc : zCl[ci]? = some (cls, T0, 0))
    (hRframes : names.length + 3 < R.frames) (hRlocals : (rest.map fun v => v.category).sum + (13 * (names.length + 1) + 42) ≤ R.locals) (hRcells : cells + 1 ≤ R.cells) (hRslots : slots + 6 ≤ R.slots)
    (kk : ∀ (ce : Cell) (q : Nat) (H1 : Heap), H1[q]? = some ce → ce.vm = .none → s.vm.findClass cls = some ce.cls → H.size ≤ H1.size → (∀ x : Nat, x < H.size → H1[x]? = H[x]?) → W p l e R s m args below meth c H1 locs (cells + 1) (slots + 6) Q (F0 m (pc + 7) ls (.ref q :: rest))) :
    W p l e R s m args below meth c H locs cells slots Q (F0 m pc ls rest) := by
  intro T hT X
  have hSS := Z.S hT hL X
  subst hT
  have htr : e.platform.stackTraces = false := (show e.platform.stackTraces = l.stackTraces by rw [X.admits.platform]).trans hl
  have Y := vx_rebase X (R' := { frames := R.frames, locals := R.locals, cells := 1, slots := 6 }) (Nat.le_refl _) (Nat.le_refl _) hRcells hRslots
  obtain ⟨s', hA'⟩ : ∃ z, z = (T.setVm s.vm).setFrames (.invoking m args :: below) := ⟨_, rfl⟩
  rw [← hA'] at Y
  have hvm : s'.vm = s.vm := by rw [hA']; rfl
  have hhp : s'.heap = T.heap := by rw [hA']; rfl
  have hW0 : s.WarmedH s'.vm := by rw [hvm]; exact State.WarmedH.refl s
  have hat' : ∀ w ∈ vx_at0 own ic cls names, w.before args s' = true := fun w hw => vx_ot_at hW0 hvm.symm (hgood w (List.mem_cons_of_mem _ (List.mem_cons_of_mem _ hw))) (hat w hw)
  have hk' : (Cond.classLink own ik cls).before args s' = true := vx_ot_at hW0 hvm.symm (hgood _ List.mem_cons_self) (Z.hts _ hk)
  have hini' : (Cond.initialized cls).before args s' = true := vx_ot_at hW0 hvm.symm (hgood _ (List.mem_cons_of_mem _ List.mem_cons_self)) (Z.hts _ hini)
  have hU : vx_Zq Bundle.tN "UNASSIGNED_STACK" Bundle.steD (zA G) s s.heap := Z.K.2.2.2.2.2.1.1.kept (fun a ha _ => Z.B0.2 a ha)
  have hN : vx_Zq Bundle.tN "SUPPRESSED_SENTINEL" Bundle.listD (zA G) s s.heap := Z.K.2.2.2.2.2.1.2.kept (fun a ha _ => Z.B0.2 a ha)
  have hU' : vx_Zq Bundle.tN "UNASSIGNED_STACK" Bundle.steD (zA G) s' s'.heap := by rw [hhp]; exact vx_Zq.moved hW0.alike (hU.kept hSS.2.1)
  have hN' : vx_Zq Bundle.tN "SUPPRESSED_SENTINEL" Bundle.listD (zA G) s' s'.heap := by rw [hhp]; exact vx_Zq.moved hW0.alike (hN.kept hSS.2.1)
  have h : ∀ w ∈ Bundle.ownAtoms0 own ic cls names, w.before args s' = true := vx_own hat' (vx_isRefq hU'.1) (vx_isRefq hN'.1) hU'.2.word hN'.2.word
  have hown' : s'.vm.findClass own = some m.cls := by rw [hvm]; exact Z.hown
  have hins : (Cond.instantiable cls 6).before args s' = true := h _ (by simp [Bundle.ownAtoms0])
  obtain ⟨vm₁, cX, kX, hfX, hkX, -, -, X₁, st1⟩ := Y.newCold Z.hx (own := own) (C := cls) (index := ik) (n := 6) hown' hk' hins hini'
    (g := F0 m pc ls rest) rfl (by rw [Z.hb]; exact d0) (Nat.le_refl _) (Nat.le_refl _)
  generalize hT1 : (T.setVm vm₁).pushCell { cls := cX, slots := kX.instanceTypes.map defaultValue, vm := .none } = T1 at X₁ st1
  have hcat : (Value.ref T.heap.size).category = 1 := rfl
  have hcellA : T1.heap[T.heap.size]? = some (freshCell cX kX) := by rw [← hT1]; exact State.heap_pushCell_size _ _
  have d3' : decode c.code (pc + 3) = .ok (.dup, 1) := by rw [Z.hb]; exact d3
  obtain ⟨V, ce, L, Z5, hL5, hlt, hcl9, hvm9, sx⟩ := vx_ctorMade0 X₁ Z.hx htr (own := own) (cls := cls) (names := names) (ic := ic) hown' hcls hnames h (fun x hx => nomatch hx) hfX hkX hcellA (by rw [hhp]; exact Nat.le_refl _)
    (g := { method := m, pc := pc + 4, locals := ls, stack := .ref T.heap.size :: .ref T.heap.size :: rest, locked := none }) rfl (hsize.trans Z.hml.symm) (rest := rest) rfl
    (by rw [Z.hb]; exact d4) hRframes (by simp only [List.map_cons, List.sum_cons, hcat]; omega)
  have Z0 := Stand.forget (locs := []) Z5 (fun y hy => by rw [hL5 y hy, hhp]; exact Nat.le_refl _)
  obtain ⟨f1, f2⟩ := vx_frame Z0.same
  rw [hhp] at f1 f2
  have hh : (V.setCell T.heap.size ce).heap[T.heap.size]? = some ce := heapAt_setCell_self (s := V) ce hlt
  rw [hvm] at hfX
  subst hA'
  have X5 := vx_back9 X Y Z0
  have X6 : Stand p l e R s m args below meth c (V.setCell T.heap.size ce) locs (cells + 1) (slots + 6) := { X5 with same := X5.same.mono (by omega) (by omega) }
  obtain ⟨t, a1, b1⟩ := kk ce T.heap.size (V.setCell T.heap.size ce).heap hh hvm9 (by rw [hcl9]; exact hfX) f1 (fun x hx => f2 x hx (fun z hz => nomatch hz)) _ rfl X6
  refine ⟨t, st1 _ ?_, b1⟩
  show Steps p.tables e below (T1.setTop { method := m, pc := pc + 3, locals := ls, stack := .ref T.heap.size :: rest, locked := none }) _
  jvm_step X₁.here [X₁.here.top, Z.hx, d3', Value.category]
  exact sx _ a1
end ZE
