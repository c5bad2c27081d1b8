/-! the three throws of the component: their words -/
abbrev xNm : List String := ["java/lang/RuntimeException", "java/lang/Exception"]
theorem hw_6 : (vx_at0 RX1 21 RJ6 xNm).all (fun w => decide (w ∈ lw_tbl) && (goodWord w || zWk w) && vx_ot w) = true := by decide +kernel
theorem hw_7 : (vx_at0 RX1 24 RJ7 xNm).all (fun w => decide (w ∈ lw_tbl) && (goodWord w || zWk w) && vx_ot w) = true := by decide +kernel
theorem hw_12 : (vx_at0 RX1 27 RJ12 xNm).all (fun w => decide (w ∈ lw_tbl) && (goodWord w || zWk w) && vx_ot w) = true := by decide +kernel
section XT
variable {G : zG} {p : Program} {l : Launch} {e : Env} {R : Room} {s : State} {m : MethodId} {args : Array Value} {below : List Frame} {meth : Method} {c : Code} {H : Heap} {locs : List Loc} {cells slots : Nat} {cc : ByteArray} {nL pc mc ms : Nat} {ls : Array Slot} {rest : List Value} {P : Option Value → Heap → Prop} {X : String → Heap → Prop}
theorem x_throw (Z : zC G p s m args meth c RX1 cc nL) (hl : l.stackTraces = false) (hxt : ∀ x ∈ c.exceptionTable.toList, False) {cls : String} {ik ic ci : Nat}
    (hw : (vx_at0 RX1 ic cls xNm).all (fun w => decide (w ∈ lw_tbl) && (goodWord w || zWk w) && vx_ot w) = true) (hcls : Bundle.fit cls = true)
    (hk : Cond.classLink RX1 ik cls ∈ lw_all) (hini : Cond.initialized cls ∈ lw_all) (hL : zL G locs) (hsize : ls.size = nL) (d0 : decode cc pc = .ok (.new ik, 3)) (d3 : decode cc (pc + 3) = .ok (.dup, 1)) (d4 : decode cc (pc + 4) = .ok (.invokespecial ic, 3)) (d7 : decode cc (pc + 7) = .ok (.athrow, 1)) (hc : zCl[ci]? = some (cls, zT0, 0))
    (hfr : 5 < R.frames) (hlo : (rest.map fun v => v.category).sum + 81 ≤ R.locals) (hRc : cells + 1 ≤ R.cells) (hRs : slots + 6 ≤ R.slots) (hcm : cells + 1 ≤ mc) (hsm : slots + 6 ≤ ms) (hX : ∀ H1 : Heap, zKeep H H1 → X cls H1) :
    W p l e R s m args below meth c H locs cells slots (vx_MQ below (zQ P) (zXc X) args s mc ms (zA G)) (F0 m pc ls rest) := by
  have hal : ∀ w ∈ vx_at0 RX1 ic cls xNm, (w ∈ lw_tbl ∧ (goodWord w || zWk w) = true) ∧ vx_ot w = true := by
    intro w hm
    have h := List.all_eq_true.mp hw w hm
    simp only [Bool.and_eq_true, decide_eq_true_eq] at h
    exact h
  have hat : ∀ w ∈ vx_at0 RX1 ic cls xNm, w.before args s = true := by
    intro w hm
    obtain ⟨⟨h1, h2⟩, -⟩ := hal w hm
    rcases Bool.or_eq_true_iff.mp h2 with h | h
    · exact Z.hts w (lw_g h1 h)
    · have h3 := Z.nw h1 h
      refine va_Nw.use ?_ h3
      revert h
      cases w <;> simp [zWk, Cond.onTables]
  refine z_make0 Z hl (cls := cls) (names := xNm) (ik := ik) (ic := ic) (ci := ci) hcls (fun n hn => ?_) hk hini hat (fun w hm => ?_) hL hsize d0 d3 d4 hc (by show 2 + 3 < R.frames; omega) (by show (rest.map fun v => v.category).sum + (13 * (2 + 1) + 42) ≤ R.locals; omega) hRc hRs (fun ce q H1 h1 h2 h3 h4 h5 => ?_)
  · simp only [xNm, List.mem_cons, List.not_mem_nil, or_false] at hn
    rcases hn with rfl | rfl <;> decide +kernel
  · rcases List.mem_cons.mp hm with h | h
    · rw [h]; rfl
    · rcases List.mem_cons.mp h with h | h
      · rw [h]; rfl
      · exact (hal w h).2
  · exact vx_athrow Z.hx Z.hb d7 (z_out Z hxt hL (hX H1 ⟨h4, h5⟩) h1 h2 h3 hcm hsm)
end XT
/-- the resolver, opened -/
def xOp (G : zG) (H : Heap) (R : xRo) (σ : zS) (n o tl pl : Nat) (ts ps : List Nat) : Prop := R o = (1, 0, 0) ∧ (zHB G).size ≤ o ∧ zO G H o 0 [.ref tl, .ref pl, .int (sT σ)] ∧
  (zLs G H (fun a => R a = (2, 0, 0)) tl ts ∧ ts.length = sN σ ∧ ∀ i y, ts[i]? = some y → R y = (9, 0, 0) ∧ zO G H y 1 [.int (sA σ 0 i), .int (sA σ 1 i)]) ∧
  (zLs G H (fun a => R a = (7, 0, 0)) pl ps ∧ ps.length = sP σ ∧ ∀ j y, ps[j]? = some y → xPk G H R σ n j y)
theorem xRep.op {G : zG} {H : Heap} {R : xRo} {σ : zS} {n o : Nat} (h : xRep G H R σ n o) : ∃ tl pl ts ps, xOp G H R σ n o tl pl ts ps := by
  obtain ⟨tl, pl, h1, h2, h3, ⟨ts, h4⟩, ⟨ps, h5⟩⟩ := h
  exact ⟨tl, pl, ts, ps, h1, h2, h3, h4, h5⟩
theorem xOp.rep {G : zG} {H : Heap} {R : xRo} {σ : zS} {n o tl pl : Nat} {ts ps : List Nat} (h : xOp G H R σ n o tl pl ts ps) : xRep G H R σ n o := by
  obtain ⟨h1, h2, h3, h4, h5⟩ := h
  exact ⟨tl, pl, h1, h2, h3, ⟨ts, h4⟩, ⟨ps, h5⟩⟩
section XO
variable {G : zG} {H : Heap} {R : xRo} {σ : zS} {n o tl pl : Nat} {ts ps : List Nat}
theorem xOp.ob (h : xOp G H R σ n o tl pl ts ps) : zO G H o 0 [.ref tl, .ref pl, .int (sT σ)] := h.2.2.1
theorem xOp.tO (h : xOp G H R σ n o tl pl ts ps) : ∃ m d, zO G H tl 6 [.int m, .ref d, .int (nI ts.length)] := by
  obtain ⟨m, d, g, -⟩ := h.2.2.2.1.1.2.2.2
  exact ⟨m, d, g⟩
theorem xOp.pO (h : xOp G H R σ n o tl pl ts ps) : ∃ m d, zO G H pl 6 [.int m, .ref d, .int (nI ps.length)] := by
  obtain ⟨m, d, g, -⟩ := h.2.2.2.2.1.2.2.2
  exact ⟨m, d, g⟩
theorem xOp.ty (h : xOp G H R σ n o tl pl ts ps) {t : Nat} (ht : t < sN σ) : ∃ y, ts[t]? = some y := ⟨_, List.getElem?_eq_getElem (by rw [h.2.2.2.1.2.1]; exact ht)⟩
theorem xOp.py (h : xOp G H R σ n o tl pl ts ps) {j : Nat} (hj : j < sP σ) : ∃ y, ps[j]? = some y := ⟨_, List.getElem?_eq_getElem (by rw [h.2.2.2.2.2.1]; exact hj)⟩
end XO
set_option maxHeartbeats 4000000 in
set_option maxRecDepth 100000 in
theorem x_check (G : zG) (l : Launch) (hl0 : l.stackTraces = false) (H : Heap) (v a b : Int32) : zXp0 G l yX1_check cX1_check 3 none 6 1 6 [.int v, .int a, .int b] H (mBt v a b = true) (fun E => E = RJ6 ∧ mBt v a b = false) := by
  refine zX.of (by decide +kernel) (Nat.le_of_ble_eq_true rfl) ?_
  intro p0 e0 s0 m0 args0 below0 meth0 c0 Z hr hxt hH ls hl
  have Z : zC G p0 s0 m0 args0 meth0 c0 RX1 cX1_check 3 := Z
  have hl : lv_has ls 3 [(0, .int v), (1, .int a), (2, .int b)] := hl
  have hL : zL G [] := zL.nil
  refine lv_iload_n Z.hx Z.hb dX1_check_0 rfl (lv_at hl 0 rfl) ?_
  refine lv_iload_n Z.hx Z.hb dX1_check_1 rfl (lv_at hl 1 rfl) ?_
  refine lv_icmp_lt (tgt := 10) Z.hx Z.hb dX1_check_2 (by decide) (fun c2 => ?_) (fun c2 => ?_)
  · skip
    exact x_throw Z hl0 hxt hw_6 (by decide +kernel) q113 q37 hL hl.1 dX1_check_10 dX1_check_13 dX1_check_14 dX1_check_17 (ci := 7) rfl (Nat.le_of_ble_eq_true rfl) (Nat.le_of_ble_eq_true rfl) (Nat.le_of_ble_eq_true rfl) (Nat.le_of_ble_eq_true rfl) (Nat.le_of_ble_eq_true rfl) (Nat.le_of_ble_eq_true rfl) (fun H_9 hk9 => ⟨hk9, rfl, by simp [mBt, c2]⟩)
  · skip
    refine lv_iload_n Z.hx Z.hb dX1_check_5 rfl (lv_at hl 0 rfl) ?_
    refine lv_iload_n Z.hx Z.hb dX1_check_6 rfl (lv_at hl 2 rfl) ?_
    refine lv_icmp_le (tgt := 18) Z.hx Z.hb dX1_check_7 (by decide) (fun c7 => ?_) (fun c7 => ?_)
    · skip
      exact zx_vret Z hr hL (⟨rfl, rfl, by simp [mBt, c2, Int32.not_lt.mpr c7]⟩) (Nat.le_of_ble_eq_true rfl) (Nat.le_of_ble_eq_true rfl) dX1_check_18
    · skip
      exact x_throw Z hl0 hxt hw_6 (by decide +kernel) q113 q37 hL hl.1 dX1_check_10 dX1_check_13 dX1_check_14 dX1_check_17 (ci := 7) rfl (Nat.le_of_ble_eq_true rfl) (Nat.le_of_ble_eq_true rfl) (Nat.le_of_ble_eq_true rfl) (Nat.le_of_ble_eq_true rfl) (Nat.le_of_ble_eq_true rfl) (Nat.le_of_ble_eq_true rfl) (fun H_9 hk9 => ⟨hk9, rfl, by simp [mBt, Int32.not_le.mp c7]⟩)
set_option maxHeartbeats 4000000 in
set_option maxRecDepth 100000 in
theorem x_state (G : zG) (l : Launch) (hl0 : l.stackTraces = false) (H : Heap) (b : Bool) : zXp0 G l yX1_checkState cX1_checkState 1 none 6 1 6 [.int (zb b)] H (b = true) (fun E => E = RJ7 ∧ b = false) := by
  refine zX.of (by decide +kernel) (Nat.le_of_ble_eq_true rfl) ?_
  intro p0 e0 s0 m0 args0 below0 meth0 c0 Z hr hxt hH ls hl
  have Z : zC G p0 s0 m0 args0 meth0 c0 RX1 cX1_checkState 1 := Z
  have hl : lv_has ls 1 [(0, .int (zb b))] := hl
  have hL : zL G [] := zL.nil
  refine lv_iload_n Z.hx Z.hb dX1_checkState_0 rfl (lv_at hl 0 rfl) ?_
  refine lv_if_ne (tgt := 12) Z.hx Z.hb dX1_checkState_1 (by decide) (fun c1 => ?_) (fun c1 => ?_)
  · skip
    have c1 : b = true := zb_n.mp c1
    exact zx_vret Z hr hL (⟨rfl, rfl, c1⟩) (Nat.le_of_ble_eq_true rfl) (Nat.le_of_ble_eq_true rfl) dX1_checkState_12
  · skip
    have c1 : b = false := zb_0.mp c1
    exact x_throw Z hl0 hxt hw_7 (by decide +kernel) q191 q38 hL hl.1 dX1_checkState_4 dX1_checkState_7 dX1_checkState_8 dX1_checkState_11 (ci := 8) rfl (Nat.le_of_ble_eq_true rfl) (Nat.le_of_ble_eq_true rfl) (Nat.le_of_ble_eq_true rfl) (Nat.le_of_ble_eq_true rfl) (Nat.le_of_ble_eq_true rfl) (Nat.le_of_ble_eq_true rfl) (fun H_9 hk9 => ⟨hk9, rfl, c1⟩)
set_option maxHeartbeats 4000000 in
set_option maxRecDepth 100000 in
theorem x_index (G : zG) (l : Launch) (hl0 : l.stackTraces = false) (H : Heap) (i s : Int32) : zXp0 G l yX1_checkIndex cX1_checkIndex 2 none 6 1 6 [.int i, .int s] H (mIs i s = true) (fun E => E = RJ12 ∧ mIs i s = false) := by
  refine zX.of (by decide +kernel) (Nat.le_of_ble_eq_true rfl) ?_
  intro p0 e0 s0 m0 args0 below0 meth0 c0 Z hr hxt hH ls hl
  have Z : zC G p0 s0 m0 args0 meth0 c0 RX1 cX1_checkIndex 2 := Z
  have hl : lv_has ls 2 [(0, .int i), (1, .int s)] := hl
  have hL : zL G [] := zL.nil
  refine lv_iload_n Z.hx Z.hb dX1_checkIndex_0 rfl (lv_at hl 0 rfl) ?_
  refine lv_if_lt (tgt := 9) Z.hx Z.hb dX1_checkIndex_1 (by decide) (fun c1 => ?_) (fun c1 => ?_)
  · skip
    exact x_throw Z hl0 hxt hw_12 (by decide +kernel) q332 q45 hL hl.1 dX1_checkIndex_9 dX1_checkIndex_12 dX1_checkIndex_13 dX1_checkIndex_16 (ci := 9) rfl (Nat.le_of_ble_eq_true rfl) (Nat.le_of_ble_eq_true rfl) (Nat.le_of_ble_eq_true rfl) (Nat.le_of_ble_eq_true rfl) (Nat.le_of_ble_eq_true rfl) (Nat.le_of_ble_eq_true rfl) (fun H_9 hk9 => ⟨hk9, rfl, by simp [mIs, c1]⟩)
  · skip
    refine lv_iload_n Z.hx Z.hb dX1_checkIndex_4 rfl (lv_at hl 0 rfl) ?_
    refine lv_iload_n Z.hx Z.hb dX1_checkIndex_5 rfl (lv_at hl 1 rfl) ?_
    refine lv_icmp_lt (tgt := 17) Z.hx Z.hb dX1_checkIndex_6 (by decide) (fun c6 => ?_) (fun c6 => ?_)
    · skip
      exact zx_vret Z hr hL (⟨rfl, rfl, by simp [mIs, c1, Int32.not_le.mpr c6]⟩) (Nat.le_of_ble_eq_true rfl) (Nat.le_of_ble_eq_true rfl) dX1_checkIndex_17
    · skip
      exact x_throw Z hl0 hxt hw_12 (by decide +kernel) q332 q45 hL hl.1 dX1_checkIndex_9 dX1_checkIndex_12 dX1_checkIndex_13 dX1_checkIndex_16 (ci := 9) rfl (Nat.le_of_ble_eq_true rfl) (Nat.le_of_ble_eq_true rfl) (Nat.le_of_ble_eq_true rfl) (Nat.le_of_ble_eq_true rfl) (Nat.le_of_ble_eq_true rfl) (Nat.le_of_ble_eq_true rfl) (fun H_9 hk9 => ⟨hk9, rfl, by simp [mIs, Int32.not_lt.mp c6]⟩)
set_option maxHeartbeats 4000000 in
set_option maxRecDepth 100000 in
theorem x_title (G : zG) (l : Launch) (hl0 : l.stackTraces = false) (H : Heap) (R : xRo) (σ : zS) (n o tl pl : Nat) (ts ps : List Nat) (hX : xOp G H R σ n o tl pl ts ps) (hn29 : n < 2 ^ 29) (hW : sWf σ) (j y : Nat) (hy : ts[j]? = some y) : zXp G l yX1_title cX1_title 2 (Option.some (Jvm.ClassFile.FieldType.object "LinkResolver$Title")) 7 1 6 [.ref o, .int (nI j)] H (.ref y) True (fun _ => False) := by
  obtain ⟨mt9, dt9, hOt⟩ := hX.tO
  obtain ⟨mp9, dp9, hOp⟩ := hX.pO
  have hO := hX.ob
  have htl : ts.length = sN σ := hX.2.2.2.1.2.1
  have hpl : ps.length = sP σ := hX.2.2.2.2.2.1
  have hN20 : sN σ ≤ 20 := hW.2.1
  have hP10 : sP σ ≤ 10 := hW.2.2.1
  have hjl : j < ts.length := (List.getElem?_eq_some_iff.mp hy).1
  refine zX.of (by decide +kernel) (Nat.le_of_ble_eq_true rfl) ?_
  intro p0 e0 s0 m0 args0 below0 meth0 c0 Z hr hxt hH ls hl
  have Z : zC G p0 s0 m0 args0 meth0 c0 RX1 cX1_title 2 := Z
  have hl : lv_has ls 2 [(0, .ref o), (1, .int (nI j))] := hl
  have hL : zL G [] := zL.nil
  refine lv_iload_n Z.hx Z.hb dX1_title_0 rfl (lv_at hl 1 rfl) ?_
  refine lv_aload_n Z.hx Z.hb dX1_title_1 rfl (lv_at hl 0 rfl) ?_
  refine gf_X1_12 Z hO (v := .ref tl) rfl dX1_title_2 ?_
  -- java/util/List.size
  refine z_pcallF (rest := [.int (nI j)]) (As := []) Z (j_size G l H _ tl ts hX.2.2.2.1.1) gw_X1_28 Z.K.2.2.1.1 gd_L_size hOt rfl hl.1 (Nat.le_of_ble_eq_true rfl) rfl dX1_title_5 ⟨⟨Nat.le_of_ble_eq_true rfl, Nat.le_of_ble_eq_true rfl⟩, Nat.le_of_ble_eq_true rfl, Nat.le_of_ble_eq_true rfl⟩ hL (fun locs hL => ?_)
  -- LinkResolver.checkIndex
  refine z_xpcallS0 (rest := []) (As := [.int (nI j), .int (nI ts.length)]) Z (x_index G l hl0 H (nI j) (nI ts.length)) gw_X1_34 gd_X1_34 rfl hl.1 (Nat.le_of_ble_eq_true rfl) rfl dX1_title_10 ⟨⟨Nat.le_of_ble_eq_true rfl, Nat.le_of_ble_eq_true rfl⟩, Nat.le_of_ble_eq_true rfl, Nat.le_of_ble_eq_true rfl⟩ hL (fun E_ ce_ q_ H_ locs hL hk_ hx_ h1_ h2_ h3_ => z_out Z hxt hL ⟨hk_, by rw [nI_is hjl (by omega)] at hx_; exact absurd hx_.2 (by decide)⟩ h1_ h2_ h3_ (Nat.le_of_ble_eq_true rfl) (Nat.le_of_ble_eq_true rfl)) (fun locs hL c10 => ?_)
  refine lv_aload_n Z.hx Z.hb dX1_title_13 rfl (lv_at hl 0 rfl) ?_
  refine gf_X1_12 Z hO (v := .ref tl) rfl dX1_title_14 ?_
  refine lv_iload_n Z.hx Z.hb dX1_title_17 rfl (lv_at hl 1 rfl) ?_
  -- java/util/List.get
  refine z_pcallF (rest := []) (As := [.int (nI j)]) Z (j_get G l H _ tl ts hX.2.2.2.1.1 j y hjl (by omega) hy) gw_X1_38 Z.K.2.2.1.2.2 gd_L_get hOt rfl hl.1 (Nat.le_of_ble_eq_true rfl) rfl dX1_title_18 ⟨⟨Nat.le_of_ble_eq_true rfl, Nat.le_of_ble_eq_true rfl⟩, Nat.le_of_ble_eq_true rfl, Nat.le_of_ble_eq_true rfl⟩ hL (fun locs hL => ?_)
  refine z_castS Z (ci := 1) rfl q206 (hX.2.2.2.1.2.2 j y hy).2 dX1_title_23 ?_
  exact zx_aret Z hr (Or.inl ⟨_, rfl⟩) hL (Or.inr ⟨_, rfl⟩) (⟨rfl, rfl, trivial⟩) (Nat.le_of_ble_eq_true rfl) (Nat.le_of_ble_eq_true rfl) dX1_title_26
set_option maxHeartbeats 4000000 in
set_option maxRecDepth 100000 in
theorem x_title_no (G : zG) (l : Launch) (hl0 : l.stackTraces = false) (H : Heap) (R : xRo) (σ : zS) (n o tl pl : Nat) (ts ps : List Nat) (hX : xOp G H R σ n o tl pl ts ps) (hn29 : n < 2 ^ 29) (hW : sWf σ) (t : Int32) (hno : mIs t (nI (sN σ)) = false) : zXp G l yX1_title cX1_title 2 (Option.some (Jvm.ClassFile.FieldType.object "LinkResolver$Title")) 7 1 6 [.ref o, .int t] H .null False (fun E => E = RJ12) := by
  obtain ⟨mt9, dt9, hOt⟩ := hX.tO
  obtain ⟨mp9, dp9, hOp⟩ := hX.pO
  have hO := hX.ob
  have htl : ts.length = sN σ := hX.2.2.2.1.2.1
  have hpl : ps.length = sP σ := hX.2.2.2.2.2.1
  have hN20 : sN σ ≤ 20 := hW.2.1
  have hP10 : sP σ ≤ 10 := hW.2.2.1
  refine zX.of (by decide +kernel) (Nat.le_of_ble_eq_true rfl) ?_
  intro p0 e0 s0 m0 args0 below0 meth0 c0 Z hr hxt hH ls hl
  have Z : zC G p0 s0 m0 args0 meth0 c0 RX1 cX1_title 2 := Z
  have hl : lv_has ls 2 [(0, .ref o), (1, .int t)] := hl
  have hL : zL G [] := zL.nil
  refine lv_iload_n Z.hx Z.hb dX1_title_0 rfl (lv_at hl 1 rfl) ?_
  refine lv_aload_n Z.hx Z.hb dX1_title_1 rfl (lv_at hl 0 rfl) ?_
  refine gf_X1_12 Z hO (v := .ref tl) rfl dX1_title_2 ?_
  -- java/util/List.size
  refine z_pcallF (rest := [.int t]) (As := []) Z (j_size G l H _ tl ts hX.2.2.2.1.1) gw_X1_28 Z.K.2.2.1.1 gd_L_size hOt rfl hl.1 (Nat.le_of_ble_eq_true rfl) rfl dX1_title_5 ⟨⟨Nat.le_of_ble_eq_true rfl, Nat.le_of_ble_eq_true rfl⟩, Nat.le_of_ble_eq_true rfl, Nat.le_of_ble_eq_true rfl⟩ hL (fun locs hL => ?_)
  -- LinkResolver.checkIndex
  refine z_xpcallS0 (rest := []) (As := [.int t, .int (nI ts.length)]) Z (x_index G l hl0 H t (nI ts.length)) gw_X1_34 gd_X1_34 rfl hl.1 (Nat.le_of_ble_eq_true rfl) rfl dX1_title_10 ⟨⟨Nat.le_of_ble_eq_true rfl, Nat.le_of_ble_eq_true rfl⟩, Nat.le_of_ble_eq_true rfl, Nat.le_of_ble_eq_true rfl⟩ hL (fun E_ ce_ q_ H_ locs hL hk_ hx_ h1_ h2_ h3_ => z_out Z hxt hL ⟨hk_, hx_.1⟩ h1_ h2_ h3_ (Nat.le_of_ble_eq_true rfl) (Nat.le_of_ble_eq_true rfl)) (fun locs hL c10 => ?_)
  exact absurd (hno.symm.trans (htl ▸ c10)) (by decide)
set_option maxHeartbeats 4000000 in
set_option maxRecDepth 100000 in
theorem x_pack (G : zG) (l : Launch) (hl0 : l.stackTraces = false) (H : Heap) (R : xRo) (σ : zS) (n o tl pl : Nat) (ts ps : List Nat) (hX : xOp G H R σ n o tl pl ts ps) (hn29 : n < 2 ^ 29) (hW : sWf σ) (j y : Nat) (hy : ps[j]? = some y) : zXp G l yX1_pack cX1_pack 2 (Option.some (Jvm.ClassFile.FieldType.object "LinkResolver$Package")) 7 1 6 [.ref o, .int (nI j)] H (.ref y) True (fun _ => False) := by
  obtain ⟨mt9, dt9, hOt⟩ := hX.tO
  obtain ⟨mp9, dp9, hOp⟩ := hX.pO
  have hO := hX.ob
  have htl : ts.length = sN σ := hX.2.2.2.1.2.1
  have hpl : ps.length = sP σ := hX.2.2.2.2.2.1
  have hN20 : sN σ ≤ 20 := hW.2.1
  have hP10 : sP σ ≤ 10 := hW.2.2.1
  obtain ⟨sl9, hl9, br9, -, hyO, -⟩ := hX.2.2.2.2.2.2 j y hy
  have hjl : j < ps.length := (List.getElem?_eq_some_iff.mp hy).1
  refine zX.of (by decide +kernel) (Nat.le_of_ble_eq_true rfl) ?_
  intro p0 e0 s0 m0 args0 below0 meth0 c0 Z hr hxt hH ls hl
  have Z : zC G p0 s0 m0 args0 meth0 c0 RX1 cX1_pack 2 := Z
  have hl : lv_has ls 2 [(0, .ref o), (1, .int (nI j))] := hl
  have hL : zL G [] := zL.nil
  refine lv_iload_n Z.hx Z.hb dX1_pack_0 rfl (lv_at hl 1 rfl) ?_
  refine lv_aload_n Z.hx Z.hb dX1_pack_1 rfl (lv_at hl 0 rfl) ?_
  refine gf_X1_16 Z hO (v := .ref pl) rfl dX1_pack_2 ?_
  -- java/util/List.size
  refine z_pcallF (rest := [.int (nI j)]) (As := []) Z (j_size G l H _ pl ps hX.2.2.2.2.1) gw_X1_28 Z.K.2.2.1.1 gd_L_size hOp rfl hl.1 (Nat.le_of_ble_eq_true rfl) rfl dX1_pack_5 ⟨⟨Nat.le_of_ble_eq_true rfl, Nat.le_of_ble_eq_true rfl⟩, Nat.le_of_ble_eq_true rfl, Nat.le_of_ble_eq_true rfl⟩ hL (fun locs hL => ?_)
  -- LinkResolver.checkIndex
  refine z_xpcallS0 (rest := []) (As := [.int (nI j), .int (nI ps.length)]) Z (x_index G l hl0 H (nI j) (nI ps.length)) gw_X1_34 gd_X1_34 rfl hl.1 (Nat.le_of_ble_eq_true rfl) rfl dX1_pack_10 ⟨⟨Nat.le_of_ble_eq_true rfl, Nat.le_of_ble_eq_true rfl⟩, Nat.le_of_ble_eq_true rfl, Nat.le_of_ble_eq_true rfl⟩ hL (fun E_ ce_ q_ H_ locs hL hk_ hx_ h1_ h2_ h3_ => z_out Z hxt hL ⟨hk_, by rw [nI_is hjl (by omega)] at hx_; exact absurd hx_.2 (by decide)⟩ h1_ h2_ h3_ (Nat.le_of_ble_eq_true rfl) (Nat.le_of_ble_eq_true rfl)) (fun locs hL c10 => ?_)
  refine lv_aload_n Z.hx Z.hb dX1_pack_13 rfl (lv_at hl 0 rfl) ?_
  refine gf_X1_16 Z hO (v := .ref pl) rfl dX1_pack_14 ?_
  refine lv_iload_n Z.hx Z.hb dX1_pack_17 rfl (lv_at hl 1 rfl) ?_
  -- java/util/List.get
  refine z_pcallF (rest := []) (As := [.int (nI j)]) Z (j_get G l H _ pl ps hX.2.2.2.2.1 j y hjl (by omega) hy) gw_X1_38 Z.K.2.2.1.2.2 gd_L_get hOp rfl hl.1 (Nat.le_of_ble_eq_true rfl) rfl dX1_pack_18 ⟨⟨Nat.le_of_ble_eq_true rfl, Nat.le_of_ble_eq_true rfl⟩, Nat.le_of_ble_eq_true rfl, Nat.le_of_ble_eq_true rfl⟩ hL (fun locs hL => ?_)
  refine z_castS Z (ci := 2) rfl q388 hyO dX1_pack_23 ?_
  exact zx_aret Z hr (Or.inl ⟨_, rfl⟩) hL (Or.inr ⟨_, rfl⟩) (⟨rfl, rfl, trivial⟩) (Nat.le_of_ble_eq_true rfl) (Nat.le_of_ble_eq_true rfl) dX1_pack_26
set_option maxHeartbeats 4000000 in
set_option maxRecDepth 100000 in
theorem x_pack_no (G : zG) (l : Launch) (hl0 : l.stackTraces = false) (H : Heap) (R : xRo) (σ : zS) (n o tl pl : Nat) (ts ps : List Nat) (hX : xOp G H R σ n o tl pl ts ps) (hn29 : n < 2 ^ 29) (hW : sWf σ) (t : Int32) (hno : mIs t (nI (sP σ)) = false) : zXp G l yX1_pack cX1_pack 2 (Option.some (Jvm.ClassFile.FieldType.object "LinkResolver$Package")) 7 1 6 [.ref o, .int t] H .null False (fun E => E = RJ12) := by
  obtain ⟨mt9, dt9, hOt⟩ := hX.tO
  obtain ⟨mp9, dp9, hOp⟩ := hX.pO
  have hO := hX.ob
  have htl : ts.length = sN σ := hX.2.2.2.1.2.1
  have hpl : ps.length = sP σ := hX.2.2.2.2.2.1
  have hN20 : sN σ ≤ 20 := hW.2.1
  have hP10 : sP σ ≤ 10 := hW.2.2.1
  refine zX.of (by decide +kernel) (Nat.le_of_ble_eq_true rfl) ?_
  intro p0 e0 s0 m0 args0 below0 meth0 c0 Z hr hxt hH ls hl
  have Z : zC G p0 s0 m0 args0 meth0 c0 RX1 cX1_pack 2 := Z
  have hl : lv_has ls 2 [(0, .ref o), (1, .int t)] := hl
  have hL : zL G [] := zL.nil
  refine lv_iload_n Z.hx Z.hb dX1_pack_0 rfl (lv_at hl 1 rfl) ?_
  refine lv_aload_n Z.hx Z.hb dX1_pack_1 rfl (lv_at hl 0 rfl) ?_
  refine gf_X1_16 Z hO (v := .ref pl) rfl dX1_pack_2 ?_
  -- java/util/List.size
  refine z_pcallF (rest := [.int t]) (As := []) Z (j_size G l H _ pl ps hX.2.2.2.2.1) gw_X1_28 Z.K.2.2.1.1 gd_L_size hOp rfl hl.1 (Nat.le_of_ble_eq_true rfl) rfl dX1_pack_5 ⟨⟨Nat.le_of_ble_eq_true rfl, Nat.le_of_ble_eq_true rfl⟩, Nat.le_of_ble_eq_true rfl, Nat.le_of_ble_eq_true rfl⟩ hL (fun locs hL => ?_)
  -- LinkResolver.checkIndex
  refine z_xpcallS0 (rest := []) (As := [.int t, .int (nI ps.length)]) Z (x_index G l hl0 H t (nI ps.length)) gw_X1_34 gd_X1_34 rfl hl.1 (Nat.le_of_ble_eq_true rfl) rfl dX1_pack_10 ⟨⟨Nat.le_of_ble_eq_true rfl, Nat.le_of_ble_eq_true rfl⟩, Nat.le_of_ble_eq_true rfl, Nat.le_of_ble_eq_true rfl⟩ hL (fun E_ ce_ q_ H_ locs hL hk_ hx_ h1_ h2_ h3_ => z_out Z hxt hL ⟨hk_, hx_.1⟩ h1_ h2_ h3_ (Nat.le_of_ble_eq_true rfl) (Nat.le_of_ble_eq_true rfl)) (fun locs hL c10 => ?_)
  exact absurd (hno.symm.trans (hpl ▸ c10)) (by decide)
set_option maxHeartbeats 4000000 in
set_option maxRecDepth 100000 in
theorem x_pw (G : zG) (l : Launch) (hl0 : l.stackTraces = false) (H : Heap) (R : xRo) (σ : zS) (n o tl pl : Nat) (ts ps : List Nat) (hX : xOp G H R σ n o tl pl ts ps) (hn29 : n < 2 ^ 29) (hW : sWf σ) (j y : Nat) (hy : ps[j]? = some y) (t yt : Nat) (hyt : ts[t]? = some yt) : zXp G l yX1_packWith cX1_packWith 4 (Option.some (Jvm.ClassFile.FieldType.object "LinkResolver$Package")) 8 2 12 [.ref o, .int (nI j), .int (nI t)] H (.ref y) True (fun _ => False) := by
  obtain ⟨mt9, dt9, hOt⟩ := hX.tO
  obtain ⟨mp9, dp9, hOp⟩ := hX.pO
  have hO := hX.ob
  have htl : ts.length = sN σ := hX.2.2.2.1.2.1
  have hpl : ps.length = sP σ := hX.2.2.2.2.2.1
  have hN20 : sN σ ≤ 20 := hW.2.1
  have hP10 : sP σ ≤ 10 := hW.2.2.1
  refine zX.of (by decide +kernel) (Nat.le_of_ble_eq_true rfl) ?_
  intro p0 e0 s0 m0 args0 below0 meth0 c0 Z hr hxt hH ls hl
  have Z : zC G p0 s0 m0 args0 meth0 c0 RX1 cX1_packWith 4 := Z
  have hl : lv_has ls 4 [(0, .ref o), (1, .int (nI j)), (2, .int (nI t))] := hl
  have hL : zL G [] := zL.nil
  refine lv_aload_n Z.hx Z.hb dX1_packWith_0 rfl (lv_at hl 0 rfl) ?_
  refine lv_iload_n Z.hx Z.hb dX1_packWith_1 rfl (lv_at hl 1 rfl) ?_
  -- LinkResolver.pack
  refine z_xpcallV (rest := []) (As := [.int (nI j)]) Z (x_pack G l hl0 H R σ n o tl pl ts ps hX hn29 hW j y hy) gw_X1_46 gd_X1_46 rfl hO rfl hl.1 (Nat.le_of_ble_eq_true rfl) rfl dX1_packWith_2 ⟨⟨Nat.le_of_ble_eq_true rfl, Nat.le_of_ble_eq_true rfl⟩, Nat.le_of_ble_eq_true rfl, Nat.le_of_ble_eq_true rfl⟩ hL (fun E_ ce_ q_ H_ locs hL hk_ hx_ h1_ h2_ h3_ => hx_.elim) (fun locs hL c2 => ?_)
  refine lv_astore_n (lv' := [(3, .ref y), (0, .ref o), (1, .int (nI j)), (2, .int (nI t))]) Z.hx Z.hb dX1_packWith_5 rfl hl (by decide) rfl (fun ls hl => ?_)
  refine lv_aload_n Z.hx Z.hb dX1_packWith_6 rfl (lv_at hl 1 rfl) ?_
  refine lv_iload_n Z.hx Z.hb dX1_packWith_7 rfl (lv_at hl 3 rfl) ?_
  -- LinkResolver.title
  refine z_xpcallV (rest := []) (As := [.int (nI t)]) Z (x_title G l hl0 H R σ n o tl pl ts ps hX hn29 hW t yt hyt) gw_X1_50 gd_X1_50 rfl hO rfl hl.1 (Nat.le_of_ble_eq_true rfl) rfl dX1_packWith_8 ⟨⟨Nat.le_of_ble_eq_true rfl, Nat.le_of_ble_eq_true rfl⟩, Nat.le_of_ble_eq_true rfl, Nat.le_of_ble_eq_true rfl⟩ hL (fun E_ ce_ q_ H_ locs hL hk_ hx_ h1_ h2_ h3_ => hx_.elim) (fun locs hL c8 => ?_)
  refine lv_pop Z.hx Z.hb dX1_packWith_11 rfl ?_
  refine lv_aload_n Z.hx Z.hb dX1_packWith_12 rfl (lv_at hl 0 rfl) ?_
  exact zx_aret Z hr (Or.inl ⟨_, rfl⟩) hL (Or.inr ⟨_, rfl⟩) (⟨rfl, rfl, trivial⟩) (Nat.le_of_ble_eq_true rfl) (Nat.le_of_ble_eq_true rfl) dX1_packWith_13
set_option maxHeartbeats 4000000 in
set_option maxRecDepth 100000 in
theorem x_pw_no (G : zG) (l : Launch) (hl0 : l.stackTraces = false) (H : Heap) (R : xRo) (σ : zS) (n o tl pl : Nat) (ts ps : List Nat) (hX : xOp G H R σ n o tl pl ts ps) (hn29 : n < 2 ^ 29) (hW : sWf σ) (p t : Int32) (hno : kPT σ p t = false) : zXp G l yX1_packWith cX1_packWith 4 (Option.some (Jvm.ClassFile.FieldType.object "LinkResolver$Package")) 8 2 12 [.ref o, .int p, .int t] H .null False (fun E => E = RJ12) := by
  obtain ⟨mt9, dt9, hOt⟩ := hX.tO
  obtain ⟨mp9, dp9, hOp⟩ := hX.pO
  have hO := hX.ob
  have htl : ts.length = sN σ := hX.2.2.2.1.2.1
  have hpl : ps.length = sP σ := hX.2.2.2.2.2.1
  have hN20 : sN σ ≤ 20 := hW.2.1
  have hP10 : sP σ ≤ 10 := hW.2.2.1
  refine zX.of (by decide +kernel) (Nat.le_of_ble_eq_true rfl) ?_
  intro p0 e0 s0 m0 args0 below0 meth0 c0 Z hr hxt hH ls hl
  have Z : zC G p0 s0 m0 args0 meth0 c0 RX1 cX1_packWith 4 := Z
  have hl : lv_has ls 4 [(0, .ref o), (1, .int p), (2, .int t)] := hl
  have hL : zL G [] := zL.nil
  rcases hc9 : mIs p (nI (sP σ)) with _ | _
  · skip
    refine lv_aload_n Z.hx Z.hb dX1_packWith_0 rfl (lv_at hl 0 rfl) ?_
    refine lv_iload_n Z.hx Z.hb dX1_packWith_1 rfl (lv_at hl 1 rfl) ?_
    -- LinkResolver.pack
    refine z_xpcallV (rest := []) (As := [.int p]) Z (x_pack_no G l hl0 H R σ n o tl pl ts ps hX hn29 hW p hc9) gw_X1_46 gd_X1_46 rfl hO rfl hl.1 (Nat.le_of_ble_eq_true rfl) rfl dX1_packWith_2 ⟨⟨Nat.le_of_ble_eq_true rfl, Nat.le_of_ble_eq_true rfl⟩, Nat.le_of_ble_eq_true rfl, Nat.le_of_ble_eq_true rfl⟩ hL (fun E_ ce_ q_ H_ locs hL hk_ hx_ h1_ h2_ h3_ => z_out Z hxt hL ⟨hk_, hx_⟩ h1_ h2_ h3_ (Nat.le_of_ble_eq_true rfl) (Nat.le_of_ble_eq_true rfl)) (fun locs hL c2 => ?_)
    exact c2.elim
  · obtain ⟨j, hj, rfl⟩ := mIs_nI (by omega) hc9
    obtain ⟨y, hy⟩ := hX.py hj
    have hno2 : mIs t (nI (sN σ)) = false := by
      unfold kPT at hno
      rw [hc9] at hno
      exact hno
    refine lv_aload_n Z.hx Z.hb dX1_packWith_0 rfl (lv_at hl 0 rfl) ?_
    refine lv_iload_n Z.hx Z.hb dX1_packWith_1 rfl (lv_at hl 1 rfl) ?_
    -- LinkResolver.pack
    refine z_xpcallV (rest := []) (As := [.int (nI j)]) Z (x_pack G l hl0 H R σ n o tl pl ts ps hX hn29 hW j y hy) gw_X1_46 gd_X1_46 rfl hO rfl hl.1 (Nat.le_of_ble_eq_true rfl) rfl dX1_packWith_2 ⟨⟨Nat.le_of_ble_eq_true rfl, Nat.le_of_ble_eq_true rfl⟩, Nat.le_of_ble_eq_true rfl, Nat.le_of_ble_eq_true rfl⟩ hL (fun E_ ce_ q_ H_ locs hL hk_ hx_ h1_ h2_ h3_ => hx_.elim) (fun locs hL c2 => ?_)
    refine lv_astore_n (lv' := [(3, .ref y), (0, .ref o), (1, .int (nI j)), (2, .int t)]) Z.hx Z.hb dX1_packWith_5 rfl hl (by decide) rfl (fun ls hl => ?_)
    refine lv_aload_n Z.hx Z.hb dX1_packWith_6 rfl (lv_at hl 1 rfl) ?_
    refine lv_iload_n Z.hx Z.hb dX1_packWith_7 rfl (lv_at hl 3 rfl) ?_
    -- LinkResolver.title
    refine z_xpcallV (rest := []) (As := [.int t]) Z (x_title_no G l hl0 H R σ n o tl pl ts ps hX hn29 hW t hno2) gw_X1_50 gd_X1_50 rfl hO rfl hl.1 (Nat.le_of_ble_eq_true rfl) rfl dX1_packWith_8 ⟨⟨Nat.le_of_ble_eq_true rfl, Nat.le_of_ble_eq_true rfl⟩, Nat.le_of_ble_eq_true rfl, Nat.le_of_ble_eq_true rfl⟩ hL (fun E_ ce_ q_ H_ locs hL hk_ hx_ h1_ h2_ h3_ => z_out Z hxt hL ⟨hk_, hx_⟩ h1_ h2_ h3_ (Nat.le_of_ble_eq_true rfl) (Nat.le_of_ble_eq_true rfl)) (fun locs hL c8 => ?_)
    exact c8.elim
set_option maxHeartbeats 4000000 in
set_option maxRecDepth 100000 in
theorem x_group (G : zG) (l : Launch) (hl0 : l.stackTraces = false) (H : Heap) (g : Int32) : zXp0 G l yX1_checkGroup cX1_checkGroup 1 none 7 1 6 [.int g] H (mBt g 0 3 = true) (fun E => E = RJ6 ∧ mBt g 0 3 = false) := by
  refine zX.of (by decide +kernel) (Nat.le_of_ble_eq_true rfl) ?_
  intro p0 e0 s0 m0 args0 below0 meth0 c0 Z hr hxt hH ls hl
  have Z : zC G p0 s0 m0 args0 meth0 c0 RX1 cX1_checkGroup 1 := Z
  have hl : lv_has ls 1 [(0, .int g)] := hl
  have hL : zL G [] := zL.nil
  refine lv_iload_n Z.hx Z.hb dX1_checkGroup_0 rfl (lv_at hl 0 rfl) ?_
  refine lv_iconst (v := 0) Z.hx Z.hb dX1_checkGroup_1 (by decide) ?_
  refine lv_iconst (v := 3) Z.hx Z.hb dX1_checkGroup_2 (by decide) ?_
  -- LinkResolver.check
  refine z_xpcallS0 (rest := []) (As := [.int g, .int 0, .int 3]) Z (x_check G l hl0 H g 0 3) gw_X1_54 gd_X1_54 rfl hl.1 (Nat.le_of_ble_eq_true rfl) rfl dX1_checkGroup_3 ⟨⟨Nat.le_of_ble_eq_true rfl, Nat.le_of_ble_eq_true rfl⟩, Nat.le_of_ble_eq_true rfl, Nat.le_of_ble_eq_true rfl⟩ hL (fun E_ ce_ q_ H_ locs hL hk_ hx_ h1_ h2_ h3_ => z_out Z hxt hL ⟨hk_, hx_⟩ h1_ h2_ h3_ (Nat.le_of_ble_eq_true rfl) (Nat.le_of_ble_eq_true rfl)) (fun locs hL c3 => ?_)
  exact zx_vret Z hr hL (⟨rfl, rfl, c3⟩) (Nat.le_of_ble_eq_true rfl) (Nat.le_of_ble_eq_true rfl) dX1_checkGroup_6
set_option maxHeartbeats 4000000 in
set_option maxRecDepth 100000 in
theorem x_art (G : zG) (l : Launch) (hl0 : l.stackTraces = false) (H : Heap) (R : xRo) (σ : zS) (n o tl pl : Nat) (ts ps : List Nat) (hX : xOp G H R σ n o tl pl ts ps) (hn29 : n < 2 ^ 29) (hW : sWf σ) (y g d : Int32) : zXp0 G l yX1_checkArticle cX1_checkArticle 4 none 8 3 18 [.ref o, .int y, .int g, .int d] H (sAsk σ y g d = true) (fun E => E = RJ6 ∧ sAsk σ y g d = false) := by
  obtain ⟨mt9, dt9, hOt⟩ := hX.tO
  obtain ⟨mp9, dp9, hOp⟩ := hX.pO
  have hO := hX.ob
  have htl : ts.length = sN σ := hX.2.2.2.1.2.1
  have hpl : ps.length = sP σ := hX.2.2.2.2.2.1
  have hN20 : sN σ ≤ 20 := hW.2.1
  have hP10 : sP σ ≤ 10 := hW.2.2.1
  refine zX.of (by decide +kernel) (Nat.le_of_ble_eq_true rfl) ?_
  intro p0 e0 s0 m0 args0 below0 meth0 c0 Z hr hxt hH ls hl
  have Z : zC G p0 s0 m0 args0 meth0 c0 RX1 cX1_checkArticle 4 := Z
  have hl : lv_has ls 4 [(0, .ref o), (1, .int y), (2, .int g), (3, .int d)] := hl
  have hL : zL G [] := zL.nil
  refine lv_iload_n Z.hx Z.hb dX1_checkArticle_0 rfl (lv_at hl 1 rfl) ?_
  refine lv_iconst (v := 0) Z.hx Z.hb dX1_checkArticle_1 (by decide) ?_
  refine lv_bipush (v := 55) Z.hx Z.hb dX1_checkArticle_2 (by decide) ?_
  -- LinkResolver.check
  refine z_xpcallS0 (rest := []) (As := [.int y, .int 0, .int 55]) Z (x_check G l hl0 H y 0 55) gw_X1_54 gd_X1_54 rfl hl.1 (Nat.le_of_ble_eq_true rfl) rfl dX1_checkArticle_4 ⟨⟨Nat.le_of_ble_eq_true rfl, Nat.le_of_ble_eq_true rfl⟩, Nat.le_of_ble_eq_true rfl, Nat.le_of_ble_eq_true rfl⟩ hL (fun E_ ce_ q_ H_ locs hL hk_ hx_ h1_ h2_ h3_ => z_out Z hxt hL ⟨hk_, hx_.1, by simp [sAsk, hx_.2]⟩ h1_ h2_ h3_ (Nat.le_of_ble_eq_true rfl) (Nat.le_of_ble_eq_true rfl)) (fun locs hL c4 => ?_)
  refine lv_iload_n Z.hx Z.hb dX1_checkArticle_7 rfl (lv_at hl 2 rfl) ?_
  -- LinkResolver.checkGroup
  refine z_xpcallS0 (rest := []) (As := [.int g]) Z (x_group G l hl0 H g) gw_X1_58 gd_X1_58 rfl hl.1 (Nat.le_of_ble_eq_true rfl) rfl dX1_checkArticle_8 ⟨⟨Nat.le_of_ble_eq_true rfl, Nat.le_of_ble_eq_true rfl⟩, Nat.le_of_ble_eq_true rfl, Nat.le_of_ble_eq_true rfl⟩ hL (fun E_ ce_ q_ H_ locs hL hk_ hx_ h1_ h2_ h3_ => z_out Z hxt hL ⟨hk_, hx_.1, by simp [sAsk, c4, hx_.2]⟩ h1_ h2_ h3_ (Nat.le_of_ble_eq_true rfl) (Nat.le_of_ble_eq_true rfl)) (fun locs hL c8 => ?_)
  refine lv_iload_n Z.hx Z.hb dX1_checkArticle_11 rfl (lv_at hl 3 rfl) ?_
  refine lv_iconst (v := 0) Z.hx Z.hb dX1_checkArticle_12 (by decide) ?_
  refine lv_aload_n Z.hx Z.hb dX1_checkArticle_13 rfl (lv_at hl 0 rfl) ?_
  refine gf_X1_62 Z hO (v := .int (sT σ)) rfl dX1_checkArticle_14 ?_
  -- LinkResolver.check
  refine z_xpcallS0 (rest := []) (As := [.int d, .int 0, .int (sT σ)]) Z (x_check G l hl0 H d 0 (sT σ)) gw_X1_54 gd_X1_54 rfl hl.1 (Nat.le_of_ble_eq_true rfl) rfl dX1_checkArticle_17 ⟨⟨Nat.le_of_ble_eq_true rfl, Nat.le_of_ble_eq_true rfl⟩, Nat.le_of_ble_eq_true rfl, Nat.le_of_ble_eq_true rfl⟩ hL (fun E_ ce_ q_ H_ locs hL hk_ hx_ h1_ h2_ h3_ => z_out Z hxt hL ⟨hk_, hx_.1, by simp [sAsk, c4, c8, hx_.2]⟩ h1_ h2_ h3_ (Nat.le_of_ble_eq_true rfl) (Nat.le_of_ble_eq_true rfl)) (fun locs hL c17 => ?_)
  exact zx_vret Z hr hL (⟨rfl, rfl, by simp [sAsk, c4, c8, c17]⟩) (Nat.le_of_ble_eq_true rfl) (Nat.le_of_ble_eq_true rfl) dX1_checkArticle_20
