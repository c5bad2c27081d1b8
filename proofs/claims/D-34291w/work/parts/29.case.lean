/-! the law's loop: its cases -/
/-- both sides hold σ, n calls done -/
def lInv (G : zG) (H : Heap) (R : xRo) (A : Nat → Nat) (f : Nat → Nat → Int32) (fo : Nat → Int64) (σ : zS) (n N : Nat) (th : Int32) (o mo out : Nat) : Prop :=
  xRep G H R σ n o ∧ (mRep G H mo A (sV σ N th) f ∧ mAd G mo A ∧ mSim σ N (sV σ N th) f) ∧ sWf σ ∧ N ≤ n ∧ (zJ G H out 1 fo ∧ (zHB G).size ≤ out) ∧ (R out = (0, 0, 0) ∧ R mo = (0, 0, 0) ∧ ∀ k, mIx k = true → R (A k) = (0, 0, 0)) ∧ out ≠ mo ∧ ∀ k, mIx k = true → out ≠ A k
/-- .. the component has answered, the model not yet -/
def lMid (G : zG) (H1 : Heap) (R1 : xRo) (A : Nat → Nat) (f : Nat → Nat → Int32) (f1 : Nat → Int64) (σ σ' : zS) (n N : Nat) (th : Int32) (o mo out : Nat) : Prop :=
  xRep G H1 R1 σ' (n + 1) o ∧ mRep G H1 mo A (sV σ N th) f ∧ zJ G H1 out 1 f1 ∧ (R1 out = (0, 0, 0) ∧ R1 mo = (0, 0, 0) ∧ ∀ k, mIx k = true → R1 (A k) = (0, 0, 0))
abbrev wBody (G : zG) (H : Heap) (R : xRo) (σ' : zS) (n o out : Nat) (code v : Int32) (H1 : Heap) : Prop := ∃ R1, xRep G H1 R1 σ' (n + 1) o ∧ H.size ≤ H1.size ∧ (∀ q, q < H.size → R1 q = R q) ∧ (∀ q, q < H.size → q ≠ out → R q = (0, 0, 0) → H1[q]? = H[q]?) ∧ ∃ f1, zJ G H1 out 1 f1 ∧ (code = 0 → f1 0 = v.toInt64)
section LI
variable {G : zG} {H H1 H2 : Heap} {R R1 : xRo} {A : Nat → Nat} {f : Nat → Nat → Int32} {fo f1 : Nat → Int64} {σ σ' σ1 : zS} {n N o mo out : Nat} {th code v : Int32}
theorem lInv.w (hI : lInv G H R A f fo σ n N th o mo out) (hw : wBody G H R σ' n o out code v H1) : ∃ R1 f1, lMid G H1 R1 A f f1 σ σ' n N th o mo out ∧ (code = 0 → f1 0 = v.toInt64) := by
  obtain ⟨h1, ⟨h2, h3, h4⟩, h5, h6, ⟨h7, h8⟩, ⟨r1, r2, r3⟩, n1, n2⟩ := hI
  obtain ⟨R1, g1, g2, g3, g4, f1, g5, g6⟩ := hw
  exact ⟨R1, f1, ⟨g1, h2.kept (g4 mo h2.1.lt (Ne.symm n1) r2) (fun k hk => g4 (A k) (va_at.lt (h2.2 k hk)) (Ne.symm (n2 k hk)) (r3 k hk)), g5, (g3 out h7.lt).trans r1, (g3 mo h2.1.lt).trans r2, fun k hk => (g3 (A k) (va_at.lt (h2.2 k hk))).trans (r3 k hk)⟩, g6⟩
theorem lInv.w0 (hI : lInv G H R A f fo σ n N th o mo out) (hw : xNx G H R σ' (n + 1) o H1) : ∃ R1, lMid G H1 R1 A f fo σ σ' n N th o mo out := by
  obtain ⟨h1, ⟨h2, h3, h4⟩, h5, h6, ⟨h7, h8⟩, ⟨r1, r2, r3⟩, n1, n2⟩ := hI
  obtain ⟨R1, g1, g2, g3, g4⟩ := hw
  exact ⟨R1, g1, h2.kept (g4 mo h2.1.lt r2) (fun k hk => g4 (A k) (va_at.lt (h2.2 k hk)) (r3 k hk)), h7.kept (g4 out h7.lt r1), (g3 out h7.lt).trans r1, (g3 mo h2.1.lt).trans r2, fun k hk => (g3 (A k) (va_at.lt (h2.2 k hk))).trans (r3 k hk)⟩
theorem lInv.m (hI : lInv G H R A f fo σ n N th o mo out) {x : Int32} (hm : lMid G H1 R1 A f f1 σ (if code = 0 then σ1 else σ) n N th o mo out) (hp : mPost G H1 mo A N σ σ1 code v (some (.int x)) H2) (hW : sWf (if code = 0 then σ1 else σ)) :
    ∃ (v' : Nat → Int32) (f' : Nat → Nat → Int32) (N' : Nat), mRep G H2 mo A v' f' ∧ v' 0 = code ∧ (code = 0 → x = v) ∧ zJ G H2 out 1 f1 ∧ lInv G H2 R1 A f' f1 (if code = 0 then σ1 else σ) (n + 1) N' (v' 0) o mo out := by
  obtain ⟨h1, ⟨h2, h3, h4⟩, h5, h6, ⟨h7, h8⟩, -, n1, n2⟩ := hI
  obtain ⟨g1, g2, g3, r1, r2, r3⟩ := hm
  obtain ⟨x', N', v', f', e0, k1, k2, k3, k4, k5, k6⟩ := hp
  injection e0 with e0
  injection e0 with e0
  subst e0
  have hJ : zJ G H2 out 1 f1 := g3.kept (k2.2 out n1 n2)
  obtain ⟨c1, c2⟩ := k1.canon k5
  refine ⟨v', f', N', k1, k3, k6, hJ, xRep.ch ⟨by have := k2.1; omega, fun _ _ => rfl, fun q _ hq => k2.2 q (fun e => hq (by rw [e, r2])) (fun k hk e => hq (by rw [e, r3 k hk]))⟩ g1, ⟨c1, h3, c2⟩, hW, by omega, ⟨hJ, h8⟩, ⟨r1, r2, r3⟩, n1, n2⟩
end LI
section LR
variable {G : zG} {p : Program} {l : Launch} {e : Env} {R : Room} {s : State} {m : MethodId} {args : Array Value} {below : List Frame} {meth : Method} {c : Code} {H : Heap} {locs : List Loc} {cells slots : Nat} {Q : State → Prop} {own : String} {cc : ByteArray} {nL pc : Nat} {ls : Array Slot} {rest st : List Value}
variable {y : MethodName} {bytes : ByteArray} {maxL mc ms nn index d : Nat} {ret : Option FieldType} {As : List Value} {A : Nat → Nat} {Rr : xRo} {σ σ1 : zS} {n N o out : Nat} {code v : Int32}
theorem z_wcallSW (Z : zC G p s m args meth c own cc nL) {hh : List (Nat × Nat × Nat × Nat)} (hM : zMW G l y bytes maxL ret hh d mc ms As H (wPost G H Rr σ σ1 n o out code v)) (hw : GoodIn lw_all (va_wsS own index y (wsW_ y bytes maxL ret hh))) (hd : zhd y nn)
    (hn : As.length = nn) (hsize : ls.size = nL) (hrest : (rest.map fun v => v.category).sum ≤ 8) (hst : st = As.reverse ++ rest) (hdg : decode cc pc = .ok (.invokestatic index, 3)) (hf : zfit R cells slots maxL d mc ms) (hL : zL G locs)
    (kk : ∀ (H1 : Heap) (locs1 : List Loc), zL G locs1 → wBody G H Rr (if code = 0 then σ1 else σ) n o out code v H1 → W p l e R s m args below meth c H1 locs1 (cells + mc) (slots + ms) Q (F0 m (pc + 3) ls (.int code :: rest))) : W p l e R s m args below meth c H locs cells slots Q (F0 m pc ls st) :=
  z_callSW Z hM hw hd hn hsize hrest hst hdg hf hL (fun r H1 locs1 h hP => by
    obtain ⟨rfl, hP⟩ := hP
    exact kk H1 locs1 h hP)
theorem z_wcallSW0 (Z : zC G p s m args meth c own cc nL) {hh : List (Nat × Nat × Nat × Nat)} (hM : zMW G l y bytes maxL ret hh d mc ms As H (wPost0 G H Rr σ σ1 n o code)) (hw : GoodIn lw_all (va_wsS own index y (wsW_ y bytes maxL ret hh))) (hd : zhd y nn)
    (hn : As.length = nn) (hsize : ls.size = nL) (hrest : (rest.map fun v => v.category).sum ≤ 8) (hst : st = As.reverse ++ rest) (hdg : decode cc pc = .ok (.invokestatic index, 3)) (hf : zfit R cells slots maxL d mc ms) (hL : zL G locs)
    (kk : ∀ (H1 : Heap) (locs1 : List Loc), zL G locs1 → xNx G H Rr (if code = 0 then σ1 else σ) (n + 1) o H1 → W p l e R s m args below meth c H1 locs1 (cells + mc) (slots + ms) Q (F0 m (pc + 3) ls (.int code :: rest))) : W p l e R s m args below meth c H locs cells slots Q (F0 m pc ls st) :=
  z_callSW Z hM hw hd hn hsize hrest hst hdg hf hL (fun r H1 locs1 h hP => by
    obtain ⟨rfl, hP⟩ := hP
    exact kk H1 locs1 h hP)
theorem z_mcallV (Z : zC G p s m args meth c own cc nL) {C : String} {b ci : Nat} {fs : List Value} {T : u_T} {NN : Nat} (hM : zM G l y bytes maxL ret d mc ms (.ref b :: As) H (mPost G H o A N σ σ1 code v)) (hw : GoodIn lw_all (wsV own index C y (ws_ y bytes maxL ret))) (hd : y.cls = C ∧ zhd y nn)
    (hc : zCl[ci]? = some (C, T, NN)) (hO : zO G H b ci fs) (hn : As.length = nn) (hsize : ls.size = nL) (hrest : (rest.map fun v => v.category).sum ≤ 8) (hst : st = As.reverse ++ .ref b :: rest) (hdg : decode cc pc = .ok (.invokevirtual index, 3)) (hf : zfit R cells slots maxL d mc ms) (hL : zL G locs)
    (kk : ∀ (x : Int32) (H1 : Heap) (locs1 : List Loc), zL G locs1 → mPost G H o A N σ σ1 code v (some (.int x)) H1 → W p l e R s m args below meth c H1 locs1 (cells + mc) (slots + ms) Q (F0 m (pc + 3) ls (.int x :: rest))) : W p l e R s m args below meth c H locs cells slots Q (F0 m pc ls st) :=
  z_callV Z hM hw hd hc hO hn hsize hrest hst hdg hf hL (fun r H1 locs1 h hP => by
    obtain ⟨x, N', v', f', rfl, hP⟩ := hP
    exact kk x H1 locs1 h ⟨x, N', v', f', rfl, hP⟩)
theorem z_mcallV0 (Z : zC G p s m args meth c own cc nL) {C : String} {b ci : Nat} {fs : List Value} {T : u_T} {NN : Nat} (hM : zM G l y bytes maxL ret d mc ms (.ref b :: As) H (mPost0 G H o A N σ σ1 code)) (hw : GoodIn lw_all (wsV own index C y (ws_ y bytes maxL ret))) (hd : y.cls = C ∧ zhd y nn)
    (hc : zCl[ci]? = some (C, T, NN)) (hO : zO G H b ci fs) (hn : As.length = nn) (hsize : ls.size = nL) (hrest : (rest.map fun v => v.category).sum ≤ 8) (hst : st = As.reverse ++ .ref b :: rest) (hdg : decode cc pc = .ok (.invokevirtual index, 3)) (hf : zfit R cells slots maxL d mc ms) (hL : zL G locs)
    (kk : ∀ (H1 : Heap) (locs1 : List Loc), zL G locs1 → mPost G H o A N σ σ1 code 0 (some (.int 0)) H1 → W p l e R s m args below meth c H1 locs1 (cells + mc) (slots + ms) Q (F0 m (pc + 3) ls rest)) : W p l e R s m args below meth c H locs cells slots Q (F0 m pc ls st) :=
  z_callV Z hM hw hd hc hO hn hsize hrest hst hdg hf hL (fun r H1 locs1 h hP => by
    obtain ⟨rfl, hP⟩ := hP
    exact kk H1 locs1 h hP)
theorem z_lcmpE (Z : zC G p s m args meth c own cc nL) {x y : Int64} (h : x = y) (hdg : decode cc pc = .ok (.lcmp, 1)) (k : W p l e R s m args below meth c H locs cells slots Q (F0 m (pc + 1) ls (.int 0 :: rest))) : W p l e R s m args below meth c H locs cells slots Q (F0 m pc ls (.long y :: .long x :: rest)) := by
  subst h
  refine W.lcmp Z.hx Z.hb hdg ?_
  rw [show lg_cmp x x = 0 from by simp [lg_cmp]]
  exact k
theorem z_sldN (Z : zC G p s m args meth c own cc nL) (hL : zL G locs) {b L : Nat} {xs : Nat → Int32} (hX : va_X b L xs s s.heap) (hbl : b < s.heap.size) (hbA : ¬ zA G b) {k : Nat} (hk : k < L) (hL3 : L ≤ 384) (hdg : decode cc pc = .ok (.iaload, 1))
    (kk : W p l e R s m args below meth c H locs cells slots Q (F0 m (pc + 1) ls (.int (xs k) :: rest))) : W p l e R s m args below meth c H locs cells slots Q (F0 m pc ls (.int (nI k) :: .ref b :: rest)) := by
  intro T hT X
  refine va_sld Z.hx Z.hb hX hbl hbA (Z.S hT hL X) (vp_in_nI hk (by omega)) hdg ?_ T hT X
  rw [nI_clamp (n := k) (by omega)]
  exact kk
theorem z_slen (Z : zC G p s m args meth c own cc nL) (hL : zL G locs) {b L : Nat} {xs : Nat → Int32} (hX : va_X b L xs s s.heap) (hbl : b < s.heap.size) (hbA : ¬ zA G b) (hdg : decode cc pc = .ok (.arraylength, 1))
    (kk : W p l e R s m args below meth c H locs cells slots Q (F0 m (pc + 1) ls (.int (nI L) :: rest))) : W p l e R s m args below meth c H locs cells slots Q (F0 m pc ls (.ref b :: rest)) := fun T hT X => va_slen Z.hx Z.hb hX hbl hbA (Z.S hT hL X) hdg kk T hT X
theorem z_off (i k : Nat) : nI i + nI k = nI (i + k) := by rw [nI_add]
end LR
/-- what a call leaves is well formed, whichever way it ends -/
theorem lWf {σ σ1 : zS} {code : Int32} (h : sWf σ) (h1 : code = 0 → sWf σ1) : sWf (if code = 0 then σ1 else σ) := by
  split
  next g => exact h1 g
  next => exact h
theorem lWf_p {σ : zS} {p : Int32} {k : Int32} (hP : sP σ ≤ 10) (h : (mIs p (nI (sP σ))) = true) : p.toNatClampNeg < sP σ := by
  obtain ⟨j, hj, rfl⟩ := mIs_nI (by omega) h
  rw [nI_clamp (by omega)]
  exact hj
theorem lk_1 {c : Bool} {a : Int32} (h : kIf c a 1 = 0) : c = true := (kIf_0 (by decide) h).1
theorem lk_kpk {σ : zS} {p : Int32} (h : kPk σ p = 0) : mIs p (nI (sP σ)) = true := (kIf_0 (by decide) h).1
theorem lk_kpt {σ : zS} {p t : Int32} {a : Int32} (h : kIf (kPT σ p t) a 1 = 0) : mIs p (nI (sP σ)) = true := by
  have h9 := lk_1 h
  unfold kPT at h9
  rw [Bool.and_eq_true] at h9
  exact h9.1
set_option maxHeartbeats 4000000 in
set_option maxRecDepth 100000 in
theorem law_0 {G : zG} {p : Program} {l : Launch} {e : Env} {R : Room} {s : State} {m : MethodId} {args : Array Value} {below : List Frame} {meth : Method} {c : Code} {H : Heap} {locs : List Loc} {cells slots : Nat} {Q : State → Prop} {ls : Array Slot} {b L i : Nat} {xs : Nat → Int32} {Rr : xRo} {A : Nat → Nat} {f : Nat → Nat → Int32} {fo : Nat → Int64} {σ : zS} {n N o mo out : Nat} {th : Int32} (hl0 : l.stackTraces = false) (Z : zC G p s m args meth c RX0 cL_law 7) (hXs : va_X b L xs s s.heap) (hbl : b < s.heap.size) (hbA : ¬ zA G b) (hi6 : i + 6 ≤ L) (hL3 : L ≤ 384) (hI : lInv G H Rr A f fo σ n N th o mo out) (hn : n < 64) (hL : zL G locs) (hl : lv_has ls 7 [(4, .int (nI i)), (3, .ref out), (2, .ref mo), (1, .ref o), (0, .ref b)]) (hcR : cells + 64 ≤ R.cells) (hsR : slots + 4000 ≤ R.slots) (hfR : 22 ≤ R.frames) (hlR : 10936 ≤ R.locals)
    (kk : ∀ (R1 : xRo) (A1 : Nat → Nat) (f1 : Nat → Nat → Int32) (fo1 : Nat → Int64) (σ1 : zS) (N1 : Nat) (th1 : Int32) (H1 : Heap) (locs1 : List Loc) (ls1 : Array Slot), zL G locs1 → lInv G H1 R1 A1 f1 fo1 σ1 (n + 1) N1 th1 o mo out → lv_has ls1 7 [(4, .int (nI i)), (3, .ref out), (2, .ref mo), (1, .ref o), (0, .ref b)] → W p l e R s m args below meth c H1 locs1 (cells + 64) (slots + 4000) Q (F0 m 1551 ls1 [])) : W p l e R s m args below meth c H locs cells slots Q (F0 m 132 ls []) := by
  refine lv_aload_n Z.hx Z.hb dL_law_132 rfl (lv_at hl 3 rfl) ?_
  refine lv_aload_n Z.hx Z.hb dL_law_133 rfl (lv_at hl 4 rfl) ?_
  refine lv_iload Z.hx Z.hb dL_law_134 (lv_at hl 0 rfl) ?_
  refine lv_iconst (v := 1) Z.hx Z.hb dL_law_136 (by decide) ?_
  refine lv_iadd Z.hx Z.hb dL_law_137 ?_
  refine z_top (x' := nI (i + 1)) (z_off i 1) ?_
  refine z_sldN Z hL hXs hbl hbA (k := (i + 1)) (by omega) hL3 dL_law_138 ?_
  refine lv_aload_n Z.hx Z.hb dL_law_139 rfl (lv_at hl 4 rfl) ?_
  refine lv_iload Z.hx Z.hb dL_law_140 (lv_at hl 0 rfl) ?_
  refine lv_iconst (v := 2) Z.hx Z.hb dL_law_142 (by decide) ?_
  refine lv_iadd Z.hx Z.hb dL_law_143 ?_
  refine z_top (x' := nI (i + 2)) (z_off i 2) ?_
  refine z_sldN Z hL hXs hbl hbA (k := (i + 2)) (by omega) hL3 dL_law_144 ?_
  refine lv_aload_n Z.hx Z.hb dL_law_145 rfl (lv_at hl 1 rfl) ?_
  -- LinkResolverLaw.addTitle
  refine z_wcallSW (rest := []) (As := [.ref o, .int (xs (i + 1)), .int (xs (i + 2)), .ref out]) Z (w_addTitle G l hl0 H Rr σ n o hI.1 hn hI.2.2.1 out fo hI.2.2.2.2.1.1 hI.2.2.2.2.2.1.1 hI.2.2.2.2.1.2 (xs (i + 1)) (xs (i + 2))) gw_X0_83 gd_X0_83 rfl hl.1 (Nat.le_of_ble_eq_true rfl) rfl dL_law_146 ⟨⟨by omega, by omega⟩, by omega, by omega⟩ hL (fun H_1 locs hL hP_ => ?_)
  obtain ⟨R1_, f1_, hm_, hf1_⟩ := hI.w hP_
  refine lv_istore (lv' := [(5, .int (kAddT σ (xs (i + 1)) (xs (i + 2)))), (4, .int (nI i)), (3, .ref out), (2, .ref mo), (1, .ref o), (0, .ref b)]) Z.hx Z.hb dL_law_149 hl (by decide) rfl (fun ls hl => ?_)
  refine lv_aload_n Z.hx Z.hb dL_law_151 rfl (lv_at hl 3 rfl) ?_
  refine lv_aload_n Z.hx Z.hb dL_law_152 rfl (lv_at hl 5 rfl) ?_
  refine lv_iload Z.hx Z.hb dL_law_153 (lv_at hl 1 rfl) ?_
  refine lv_iconst (v := 1) Z.hx Z.hb dL_law_155 (by decide) ?_
  refine lv_iadd Z.hx Z.hb dL_law_156 ?_
  refine z_top (x' := nI (i + 1)) (z_off i 1) ?_
  refine z_sldN Z hL hXs hbl hbA (k := (i + 1)) (by omega) hL3 dL_law_157 ?_
  refine lv_aload_n Z.hx Z.hb dL_law_158 rfl (lv_at hl 5 rfl) ?_
  refine lv_iload Z.hx Z.hb dL_law_159 (lv_at hl 1 rfl) ?_
  refine lv_iconst (v := 2) Z.hx Z.hb dL_law_161 (by decide) ?_
  refine lv_iadd Z.hx Z.hb dL_law_162 ?_
  refine z_top (x' := nI (i + 2)) (z_off i 2) ?_
  refine z_sldN Z hL hXs hbl hbA (k := (i + 2)) (by omega) hL3 dL_law_163 ?_
  -- LinkResolverModel.addTitle
  refine z_mcallV (rest := []) (As := [.int (xs (i + 1)), .int (xs (i + 2))]) Z (m_addTitle G l H_1 mo A f hI.2.1.2.1 σ N th hm_.2.1 hI.2.1.2.2 hI.2.2.1 (Nat.lt_of_le_of_lt hI.2.2.2.1 (by omega)) (xs (i + 1)) (xs (i + 2))) gw_X0_88 gd_X0_88 rfl hm_.2.1.ob rfl hl.1 (Nat.le_of_ble_eq_true rfl) rfl dL_law_164 ⟨⟨by omega, by omega⟩, by omega, by omega⟩ hL (fun x_ H_2 locs hL hP_ => ?_)
  have hwf_ : sWf (if kAddT σ (xs (i + 1)) (xs (i + 2)) = 0 then sAddT σ (xs (i + 1)) (xs (i + 2)) else σ) := lWf hI.2.2.1 (fun hk => hI.2.2.1.addT hk)
  obtain ⟨v_, f2_, N2_, hM2_, hv2_, hx2_, hJ2_, hI2_⟩ := hI.m hm_ hP_ hwf_
  refine lv_istore (lv' := [(6, .int x_), (5, .int (kAddT σ (xs (i + 1)) (xs (i + 2)))), (4, .int (nI i)), (3, .ref out), (2, .ref mo), (1, .ref o), (0, .ref b)]) Z.hx Z.hb dL_law_167 hl (by decide) rfl (fun ls hl => ?_)
  refine lv_aload_n Z.hx Z.hb dL_law_169 rfl (lv_at hl 4 rfl) ?_
  -- LinkResolverModel.thrown
  refine z_pcallV (rest := []) (As := []) Z (m_thrown G l H_2 mo A v_ f2_ hM2_) gw_X0_89 gd_X0_89 rfl hM2_.ob rfl hl.1 (Nat.le_of_ble_eq_true rfl) rfl dL_law_170 ⟨⟨by omega, by omega⟩, by omega, by omega⟩ hL (fun locs hL => ?_)
  refine z_top (x' := kAddT σ (xs (i + 1)) (xs (i + 2))) hv2_ ?_
  refine lv_iload Z.hx Z.hb dL_law_173 (lv_at hl 1 rfl) ?_
  refine lv_icmp_eq (tgt := 180) Z.hx Z.hb dL_law_175 (by decide) (fun c175 => ?_) (fun c175 => ?_)
  · skip
    refine lv_iload Z.hx Z.hb dL_law_180 (lv_at hl 1 rfl) ?_
    refine lv_if_ne (tgt := 197) Z.hx Z.hb dL_law_182 (by decide) (fun c182 => ?_) (fun c182 => ?_)
    · skip
      refine lv_goto (tgt := 1551) Z.hx Z.hb dL_law_197 (by decide) ?_
      refine W.widen (k := cells + 64) (n := slots + 4000) (by omega) (by omega) ?_
      exact kk _ _ _ _ _ _ _ H_2 _ ls hL hI2_ (lv_sub hl [2, 3, 4, 5, 6] rfl)
    · skip
      have hk9_ : kAddT σ (xs (i + 1)) (xs (i + 2)) = 0 := c182
      refine lv_aload_n Z.hx Z.hb dL_law_185 rfl (lv_at hl 3 rfl) ?_
      refine lv_iconst (v := 0) Z.hx Z.hb dL_law_186 (by decide) ?_
      refine z_lald0 Z hJ2_ (by decide) dL_law_187 ?_
      refine lv_iload Z.hx Z.hb dL_law_188 (lv_at hl 0 rfl) ?_
      refine lv_i2l (v := x_.toInt64) Z.hx Z.hb dL_law_190 rfl ?_
      refine z_lcmpE Z ((hf1_ hk9_).trans (by rw [hx2_ hk9_])) dL_law_191 ?_
      refine lv_if_eq (tgt := 197) Z.hx Z.hb dL_law_192 (by decide) (fun c192 => ?_) (fun c192 => ?_)
      · skip
        refine lv_goto (tgt := 1551) Z.hx Z.hb dL_law_197 (by decide) ?_
        refine W.widen (k := cells + 64) (n := slots + 4000) (by omega) (by omega) ?_
        exact kk _ _ _ _ _ _ _ H_2 _ ls hL hI2_ (lv_sub hl [2, 3, 4, 5, 6] rfl)
      · exact absurd (by decide) c192
  · exact absurd rfl c175
set_option maxHeartbeats 4000000 in
set_option maxRecDepth 100000 in
theorem law_1 {G : zG} {p : Program} {l : Launch} {e : Env} {R : Room} {s : State} {m : MethodId} {args : Array Value} {below : List Frame} {meth : Method} {c : Code} {H : Heap} {locs : List Loc} {cells slots : Nat} {Q : State → Prop} {ls : Array Slot} {b L i : Nat} {xs : Nat → Int32} {Rr : xRo} {A : Nat → Nat} {f : Nat → Nat → Int32} {fo : Nat → Int64} {σ : zS} {n N o mo out : Nat} {th : Int32} (hl0 : l.stackTraces = false) (Z : zC G p s m args meth c RX0 cL_law 7) (hXs : va_X b L xs s s.heap) (hbl : b < s.heap.size) (hbA : ¬ zA G b) (hi6 : i + 6 ≤ L) (hL3 : L ≤ 384) (hI : lInv G H Rr A f fo σ n N th o mo out) (hn : n < 64) (hL : zL G locs) (hl : lv_has ls 7 [(4, .int (nI i)), (3, .ref out), (2, .ref mo), (1, .ref o), (0, .ref b)]) (hcR : cells + 64 ≤ R.cells) (hsR : slots + 4000 ≤ R.slots) (hfR : 22 ≤ R.frames) (hlR : 10936 ≤ R.locals)
    (kk : ∀ (R1 : xRo) (A1 : Nat → Nat) (f1 : Nat → Nat → Int32) (fo1 : Nat → Int64) (σ1 : zS) (N1 : Nat) (th1 : Int32) (H1 : Heap) (locs1 : List Loc) (ls1 : Array Slot), zL G locs1 → lInv G H1 R1 A1 f1 fo1 σ1 (n + 1) N1 th1 o mo out → lv_has ls1 7 [(4, .int (nI i)), (3, .ref out), (2, .ref mo), (1, .ref o), (0, .ref b)] → W p l e R s m args below meth c H1 locs1 (cells + 64) (slots + 4000) Q (F0 m 1551 ls1 [])) : W p l e R s m args below meth c H locs cells slots Q (F0 m 200 ls []) := by
  refine lv_aload_n Z.hx Z.hb dL_law_200 rfl (lv_at hl 3 rfl) ?_
  refine lv_aload_n Z.hx Z.hb dL_law_201 rfl (lv_at hl 4 rfl) ?_
  refine lv_iload Z.hx Z.hb dL_law_202 (lv_at hl 0 rfl) ?_
  refine lv_iconst (v := 1) Z.hx Z.hb dL_law_204 (by decide) ?_
  refine lv_iadd Z.hx Z.hb dL_law_205 ?_
  refine z_top (x' := nI (i + 1)) (z_off i 1) ?_
  refine z_sldN Z hL hXs hbl hbA (k := (i + 1)) (by omega) hL3 dL_law_206 ?_
  refine lv_aload_n Z.hx Z.hb dL_law_207 rfl (lv_at hl 4 rfl) ?_
  refine lv_iload Z.hx Z.hb dL_law_208 (lv_at hl 0 rfl) ?_
  refine lv_iconst (v := 2) Z.hx Z.hb dL_law_210 (by decide) ?_
  refine lv_iadd Z.hx Z.hb dL_law_211 ?_
  refine z_top (x' := nI (i + 2)) (z_off i 2) ?_
  refine z_sldN Z hL hXs hbl hbA (k := (i + 2)) (by omega) hL3 dL_law_212 ?_
  refine lv_aload_n Z.hx Z.hb dL_law_213 rfl (lv_at hl 1 rfl) ?_
  -- LinkResolverLaw.yearOf
  refine z_wcallSW (rest := []) (As := [.ref o, .int (xs (i + 1)), .int (xs (i + 2)), .ref out]) Z (w_yearOf G l hl0 H Rr σ n o hI.1 hn hI.2.2.1 out fo hI.2.2.2.2.1.1 hI.2.2.2.2.2.1.1 hI.2.2.2.2.1.2 (xs (i + 1)) (xs (i + 2))) gw_X0_93 gd_X0_93 rfl hl.1 (Nat.le_of_ble_eq_true rfl) rfl dL_law_214 ⟨⟨by omega, by omega⟩, by omega, by omega⟩ hL (fun H_1 locs hL hP_ => ?_)
  obtain ⟨R1_, f1_, hm_, hf1_⟩ := hI.w hP_
  refine lv_istore (lv' := [(5, .int (kYear σ (xs (i + 1)) (xs (i + 2)))), (4, .int (nI i)), (3, .ref out), (2, .ref mo), (1, .ref o), (0, .ref b)]) Z.hx Z.hb dL_law_217 hl (by decide) rfl (fun ls hl => ?_)
  refine lv_aload_n Z.hx Z.hb dL_law_219 rfl (lv_at hl 3 rfl) ?_
  refine lv_aload_n Z.hx Z.hb dL_law_220 rfl (lv_at hl 5 rfl) ?_
  refine lv_iload Z.hx Z.hb dL_law_221 (lv_at hl 1 rfl) ?_
  refine lv_iconst (v := 1) Z.hx Z.hb dL_law_223 (by decide) ?_
  refine lv_iadd Z.hx Z.hb dL_law_224 ?_
  refine z_top (x' := nI (i + 1)) (z_off i 1) ?_
  refine z_sldN Z hL hXs hbl hbA (k := (i + 1)) (by omega) hL3 dL_law_225 ?_
  refine lv_aload_n Z.hx Z.hb dL_law_226 rfl (lv_at hl 5 rfl) ?_
  refine lv_iload Z.hx Z.hb dL_law_227 (lv_at hl 1 rfl) ?_
  refine lv_iconst (v := 2) Z.hx Z.hb dL_law_229 (by decide) ?_
  refine lv_iadd Z.hx Z.hb dL_law_230 ?_
  refine z_top (x' := nI (i + 2)) (z_off i 2) ?_
  refine z_sldN Z hL hXs hbl hbA (k := (i + 2)) (by omega) hL3 dL_law_231 ?_
  -- LinkResolverModel.yearOf
  refine z_mcallV (rest := []) (As := [.int (xs (i + 1)), .int (xs (i + 2))]) Z (m_yearOf G l H_1 mo A f hI.2.1.2.1 σ N th hm_.2.1 hI.2.1.2.2 hI.2.2.1 (Nat.lt_of_le_of_lt hI.2.2.2.1 (by omega)) (xs (i + 1)) (xs (i + 2))) gw_X0_95 gd_X0_95 rfl hm_.2.1.ob rfl hl.1 (Nat.le_of_ble_eq_true rfl) rfl dL_law_232 ⟨⟨by omega, by omega⟩, by omega, by omega⟩ hL (fun x_ H_2 locs hL hP_ => ?_)
  have hwf_ : sWf (if kYear σ (xs (i + 1)) (xs (i + 2)) = 0 then σ else σ) := lWf hI.2.2.1 (fun hk => hI.2.2.1)
  obtain ⟨v_, f2_, N2_, hM2_, hv2_, hx2_, hJ2_, hI2_⟩ := hI.m hm_ hP_ hwf_
  refine lv_istore (lv' := [(6, .int x_), (5, .int (kYear σ (xs (i + 1)) (xs (i + 2)))), (4, .int (nI i)), (3, .ref out), (2, .ref mo), (1, .ref o), (0, .ref b)]) Z.hx Z.hb dL_law_235 hl (by decide) rfl (fun ls hl => ?_)
  refine lv_aload_n Z.hx Z.hb dL_law_237 rfl (lv_at hl 4 rfl) ?_
  -- LinkResolverModel.thrown
  refine z_pcallV (rest := []) (As := []) Z (m_thrown G l H_2 mo A v_ f2_ hM2_) gw_X0_89 gd_X0_89 rfl hM2_.ob rfl hl.1 (Nat.le_of_ble_eq_true rfl) rfl dL_law_238 ⟨⟨by omega, by omega⟩, by omega, by omega⟩ hL (fun locs hL => ?_)
  refine z_top (x' := kYear σ (xs (i + 1)) (xs (i + 2))) hv2_ ?_
  refine lv_iload Z.hx Z.hb dL_law_241 (lv_at hl 1 rfl) ?_
  refine lv_icmp_eq (tgt := 248) Z.hx Z.hb dL_law_243 (by decide) (fun c243 => ?_) (fun c243 => ?_)
  · skip
    refine lv_iload Z.hx Z.hb dL_law_248 (lv_at hl 1 rfl) ?_
    refine lv_if_ne (tgt := 265) Z.hx Z.hb dL_law_250 (by decide) (fun c250 => ?_) (fun c250 => ?_)
    · skip
      refine lv_goto (tgt := 1551) Z.hx Z.hb dL_law_265 (by decide) ?_
      refine W.widen (k := cells + 64) (n := slots + 4000) (by omega) (by omega) ?_
      exact kk _ _ _ _ _ _ _ H_2 _ ls hL hI2_ (lv_sub hl [2, 3, 4, 5, 6] rfl)
    · skip
      have hk9_ : kYear σ (xs (i + 1)) (xs (i + 2)) = 0 := c250
      refine lv_aload_n Z.hx Z.hb dL_law_253 rfl (lv_at hl 3 rfl) ?_
      refine lv_iconst (v := 0) Z.hx Z.hb dL_law_254 (by decide) ?_
      refine z_lald0 Z hJ2_ (by decide) dL_law_255 ?_
      refine lv_iload Z.hx Z.hb dL_law_256 (lv_at hl 0 rfl) ?_
      refine lv_i2l (v := x_.toInt64) Z.hx Z.hb dL_law_258 rfl ?_
      refine z_lcmpE Z ((hf1_ hk9_).trans (by rw [hx2_ hk9_])) dL_law_259 ?_
      refine lv_if_eq (tgt := 265) Z.hx Z.hb dL_law_260 (by decide) (fun c260 => ?_) (fun c260 => ?_)
      · skip
        refine lv_goto (tgt := 1551) Z.hx Z.hb dL_law_265 (by decide) ?_
        refine W.widen (k := cells + 64) (n := slots + 4000) (by omega) (by omega) ?_
        exact kk _ _ _ _ _ _ _ H_2 _ ls hL hI2_ (lv_sub hl [2, 3, 4, 5, 6] rfl)
      · exact absurd (by decide) c260
  · exact absurd rfl c243
set_option maxHeartbeats 4000000 in
set_option maxRecDepth 100000 in
theorem law_2 {G : zG} {p : Program} {l : Launch} {e : Env} {R : Room} {s : State} {m : MethodId} {args : Array Value} {below : List Frame} {meth : Method} {c : Code} {H : Heap} {locs : List Loc} {cells slots : Nat} {Q : State → Prop} {ls : Array Slot} {b L i : Nat} {xs : Nat → Int32} {Rr : xRo} {A : Nat → Nat} {f : Nat → Nat → Int32} {fo : Nat → Int64} {σ : zS} {n N o mo out : Nat} {th : Int32} (hl0 : l.stackTraces = false) (Z : zC G p s m args meth c RX0 cL_law 7) (hXs : va_X b L xs s s.heap) (hbl : b < s.heap.size) (hbA : ¬ zA G b) (hi6 : i + 6 ≤ L) (hL3 : L ≤ 384) (hI : lInv G H Rr A f fo σ n N th o mo out) (hn : n < 64) (hL : zL G locs) (hl : lv_has ls 7 [(4, .int (nI i)), (3, .ref out), (2, .ref mo), (1, .ref o), (0, .ref b)]) (hcR : cells + 64 ≤ R.cells) (hsR : slots + 4000 ≤ R.slots) (hfR : 22 ≤ R.frames) (hlR : 10936 ≤ R.locals)
    (kk : ∀ (R1 : xRo) (A1 : Nat → Nat) (f1 : Nat → Nat → Int32) (fo1 : Nat → Int64) (σ1 : zS) (N1 : Nat) (th1 : Int32) (H1 : Heap) (locs1 : List Loc) (ls1 : Array Slot), zL G locs1 → lInv G H1 R1 A1 f1 fo1 σ1 (n + 1) N1 th1 o mo out → lv_has ls1 7 [(4, .int (nI i)), (3, .ref out), (2, .ref mo), (1, .ref o), (0, .ref b)] → W p l e R s m args below meth c H1 locs1 (cells + 64) (slots + 4000) Q (F0 m 1551 ls1 [])) : W p l e R s m args below meth c H locs cells slots Q (F0 m 268 ls []) := by
  refine lv_aload_n Z.hx Z.hb dL_law_268 rfl (lv_at hl 3 rfl) ?_
  refine lv_aload_n Z.hx Z.hb dL_law_269 rfl (lv_at hl 4 rfl) ?_
  refine lv_iload Z.hx Z.hb dL_law_270 (lv_at hl 0 rfl) ?_
  refine lv_iconst (v := 1) Z.hx Z.hb dL_law_272 (by decide) ?_
  refine lv_iadd Z.hx Z.hb dL_law_273 ?_
  refine z_top (x' := nI (i + 1)) (z_off i 1) ?_
  refine z_sldN Z hL hXs hbl hbA (k := (i + 1)) (by omega) hL3 dL_law_274 ?_
  refine lv_aload_n Z.hx Z.hb dL_law_275 rfl (lv_at hl 4 rfl) ?_
  refine lv_iload Z.hx Z.hb dL_law_276 (lv_at hl 0 rfl) ?_
  refine lv_iconst (v := 2) Z.hx Z.hb dL_law_278 (by decide) ?_
  refine lv_iadd Z.hx Z.hb dL_law_279 ?_
  refine z_top (x' := nI (i + 2)) (z_off i 2) ?_
  refine z_sldN Z hL hXs hbl hbA (k := (i + 2)) (by omega) hL3 dL_law_280 ?_
  refine lv_aload_n Z.hx Z.hb dL_law_281 rfl (lv_at hl 1 rfl) ?_
  -- LinkResolverLaw.volumeOf
  refine z_wcallSW (rest := []) (As := [.ref o, .int (xs (i + 1)), .int (xs (i + 2)), .ref out]) Z (w_volumeOf G l hl0 H Rr σ n o hI.1 hn hI.2.2.1 out fo hI.2.2.2.2.1.1 hI.2.2.2.2.2.1.1 hI.2.2.2.2.1.2 (xs (i + 1)) (xs (i + 2))) gw_X0_96 gd_X0_96 rfl hl.1 (Nat.le_of_ble_eq_true rfl) rfl dL_law_282 ⟨⟨by omega, by omega⟩, by omega, by omega⟩ hL (fun H_1 locs hL hP_ => ?_)
  obtain ⟨R1_, f1_, hm_, hf1_⟩ := hI.w hP_
  refine lv_istore (lv' := [(5, .int (kVol σ (xs (i + 1)) (xs (i + 2)))), (4, .int (nI i)), (3, .ref out), (2, .ref mo), (1, .ref o), (0, .ref b)]) Z.hx Z.hb dL_law_285 hl (by decide) rfl (fun ls hl => ?_)
  refine lv_aload_n Z.hx Z.hb dL_law_287 rfl (lv_at hl 3 rfl) ?_
  refine lv_aload_n Z.hx Z.hb dL_law_288 rfl (lv_at hl 5 rfl) ?_
  refine lv_iload Z.hx Z.hb dL_law_289 (lv_at hl 1 rfl) ?_
  refine lv_iconst (v := 1) Z.hx Z.hb dL_law_291 (by decide) ?_
  refine lv_iadd Z.hx Z.hb dL_law_292 ?_
  refine z_top (x' := nI (i + 1)) (z_off i 1) ?_
  refine z_sldN Z hL hXs hbl hbA (k := (i + 1)) (by omega) hL3 dL_law_293 ?_
  refine lv_aload_n Z.hx Z.hb dL_law_294 rfl (lv_at hl 5 rfl) ?_
  refine lv_iload Z.hx Z.hb dL_law_295 (lv_at hl 1 rfl) ?_
  refine lv_iconst (v := 2) Z.hx Z.hb dL_law_297 (by decide) ?_
  refine lv_iadd Z.hx Z.hb dL_law_298 ?_
  refine z_top (x' := nI (i + 2)) (z_off i 2) ?_
  refine z_sldN Z hL hXs hbl hbA (k := (i + 2)) (by omega) hL3 dL_law_299 ?_
  -- LinkResolverModel.volumeOf
  refine z_mcallV (rest := []) (As := [.int (xs (i + 1)), .int (xs (i + 2))]) Z (m_volumeOf G l H_1 mo A f hI.2.1.2.1 σ N th hm_.2.1 hI.2.1.2.2 hI.2.2.1 (Nat.lt_of_le_of_lt hI.2.2.2.1 (by omega)) (xs (i + 1)) (xs (i + 2))) gw_X0_98 gd_X0_98 rfl hm_.2.1.ob rfl hl.1 (Nat.le_of_ble_eq_true rfl) rfl dL_law_300 ⟨⟨by omega, by omega⟩, by omega, by omega⟩ hL (fun x_ H_2 locs hL hP_ => ?_)
  have hwf_ : sWf (if kVol σ (xs (i + 1)) (xs (i + 2)) = 0 then σ else σ) := lWf hI.2.2.1 (fun hk => hI.2.2.1)
  obtain ⟨v_, f2_, N2_, hM2_, hv2_, hx2_, hJ2_, hI2_⟩ := hI.m hm_ hP_ hwf_
  refine lv_istore (lv' := [(6, .int x_), (5, .int (kVol σ (xs (i + 1)) (xs (i + 2)))), (4, .int (nI i)), (3, .ref out), (2, .ref mo), (1, .ref o), (0, .ref b)]) Z.hx Z.hb dL_law_303 hl (by decide) rfl (fun ls hl => ?_)
  refine lv_aload_n Z.hx Z.hb dL_law_305 rfl (lv_at hl 4 rfl) ?_
  -- LinkResolverModel.thrown
  refine z_pcallV (rest := []) (As := []) Z (m_thrown G l H_2 mo A v_ f2_ hM2_) gw_X0_89 gd_X0_89 rfl hM2_.ob rfl hl.1 (Nat.le_of_ble_eq_true rfl) rfl dL_law_306 ⟨⟨by omega, by omega⟩, by omega, by omega⟩ hL (fun locs hL => ?_)
  refine z_top (x' := kVol σ (xs (i + 1)) (xs (i + 2))) hv2_ ?_
  refine lv_iload Z.hx Z.hb dL_law_309 (lv_at hl 1 rfl) ?_
  refine lv_icmp_eq (tgt := 316) Z.hx Z.hb dL_law_311 (by decide) (fun c311 => ?_) (fun c311 => ?_)
  · skip
    refine lv_iload Z.hx Z.hb dL_law_316 (lv_at hl 1 rfl) ?_
    refine lv_if_ne (tgt := 333) Z.hx Z.hb dL_law_318 (by decide) (fun c318 => ?_) (fun c318 => ?_)
    · skip
      refine lv_goto (tgt := 1551) Z.hx Z.hb dL_law_333 (by decide) ?_
      refine W.widen (k := cells + 64) (n := slots + 4000) (by omega) (by omega) ?_
      exact kk _ _ _ _ _ _ _ H_2 _ ls hL hI2_ (lv_sub hl [2, 3, 4, 5, 6] rfl)
    · skip
      have hk9_ : kVol σ (xs (i + 1)) (xs (i + 2)) = 0 := c318
      refine lv_aload_n Z.hx Z.hb dL_law_321 rfl (lv_at hl 3 rfl) ?_
      refine lv_iconst (v := 0) Z.hx Z.hb dL_law_322 (by decide) ?_
      refine z_lald0 Z hJ2_ (by decide) dL_law_323 ?_
      refine lv_iload Z.hx Z.hb dL_law_324 (lv_at hl 0 rfl) ?_
      refine lv_i2l (v := x_.toInt64) Z.hx Z.hb dL_law_326 rfl ?_
      refine z_lcmpE Z ((hf1_ hk9_).trans (by rw [hx2_ hk9_])) dL_law_327 ?_
      refine lv_if_eq (tgt := 333) Z.hx Z.hb dL_law_328 (by decide) (fun c328 => ?_) (fun c328 => ?_)
      · skip
        refine lv_goto (tgt := 1551) Z.hx Z.hb dL_law_333 (by decide) ?_
        refine W.widen (k := cells + 64) (n := slots + 4000) (by omega) (by omega) ?_
        exact kk _ _ _ _ _ _ _ H_2 _ ls hL hI2_ (lv_sub hl [2, 3, 4, 5, 6] rfl)
      · exact absurd (by decide) c328
  · exact absurd rfl c311
set_option maxHeartbeats 4000000 in
set_option maxRecDepth 100000 in
theorem law_3 {G : zG} {p : Program} {l : Launch} {e : Env} {R : Room} {s : State} {m : MethodId} {args : Array Value} {below : List Frame} {meth : Method} {c : Code} {H : Heap} {locs : List Loc} {cells slots : Nat} {Q : State → Prop} {ls : Array Slot} {b L i : Nat} {xs : Nat → Int32} {Rr : xRo} {A : Nat → Nat} {f : Nat → Nat → Int32} {fo : Nat → Int64} {σ : zS} {n N o mo out : Nat} {th : Int32} (hl0 : l.stackTraces = false) (Z : zC G p s m args meth c RX0 cL_law 7) (hXs : va_X b L xs s s.heap) (hbl : b < s.heap.size) (hbA : ¬ zA G b) (hi6 : i + 6 ≤ L) (hL3 : L ≤ 384) (hI : lInv G H Rr A f fo σ n N th o mo out) (hn : n < 64) (hL : zL G locs) (hl : lv_has ls 7 [(4, .int (nI i)), (3, .ref out), (2, .ref mo), (1, .ref o), (0, .ref b)]) (hcR : cells + 64 ≤ R.cells) (hsR : slots + 4000 ≤ R.slots) (hfR : 22 ≤ R.frames) (hlR : 10936 ≤ R.locals)
    (kk : ∀ (R1 : xRo) (A1 : Nat → Nat) (f1 : Nat → Nat → Int32) (fo1 : Nat → Int64) (σ1 : zS) (N1 : Nat) (th1 : Int32) (H1 : Heap) (locs1 : List Loc) (ls1 : Array Slot), zL G locs1 → lInv G H1 R1 A1 f1 fo1 σ1 (n + 1) N1 th1 o mo out → lv_has ls1 7 [(4, .int (nI i)), (3, .ref out), (2, .ref mo), (1, .ref o), (0, .ref b)] → W p l e R s m args below meth c H1 locs1 (cells + 64) (slots + 4000) Q (F0 m 1551 ls1 [])) : W p l e R s m args below meth c H locs cells slots Q (F0 m 336 ls []) := by
  refine lv_aload_n Z.hx Z.hb dL_law_336 rfl (lv_at hl 3 rfl) ?_
  refine lv_aload_n Z.hx Z.hb dL_law_337 rfl (lv_at hl 4 rfl) ?_
  refine lv_iload Z.hx Z.hb dL_law_338 (lv_at hl 0 rfl) ?_
  refine lv_iconst (v := 1) Z.hx Z.hb dL_law_340 (by decide) ?_
  refine lv_iadd Z.hx Z.hb dL_law_341 ?_
  refine z_top (x' := nI (i + 1)) (z_off i 1) ?_
  refine z_sldN Z hL hXs hbl hbA (k := (i + 1)) (by omega) hL3 dL_law_342 ?_
  refine lv_aload_n Z.hx Z.hb dL_law_343 rfl (lv_at hl 4 rfl) ?_
  refine lv_iload Z.hx Z.hb dL_law_344 (lv_at hl 0 rfl) ?_
  refine lv_iconst (v := 2) Z.hx Z.hb dL_law_346 (by decide) ?_
  refine lv_iadd Z.hx Z.hb dL_law_347 ?_
  refine z_top (x' := nI (i + 2)) (z_off i 2) ?_
  refine z_sldN Z hL hXs hbl hbA (k := (i + 2)) (by omega) hL3 dL_law_348 ?_
  refine lv_aload_n Z.hx Z.hb dL_law_349 rfl (lv_at hl 4 rfl) ?_
  refine lv_iload Z.hx Z.hb dL_law_350 (lv_at hl 0 rfl) ?_
  refine lv_iconst (v := 3) Z.hx Z.hb dL_law_352 (by decide) ?_
  refine lv_iadd Z.hx Z.hb dL_law_353 ?_
  refine z_top (x' := nI (i + 3)) (z_off i 3) ?_
  refine z_sldN Z hL hXs hbl hbA (k := (i + 3)) (by omega) hL3 dL_law_354 ?_
  refine lv_aload_n Z.hx Z.hb dL_law_355 rfl (lv_at hl 4 rfl) ?_
  refine lv_iload Z.hx Z.hb dL_law_356 (lv_at hl 0 rfl) ?_
  refine lv_iconst (v := 4) Z.hx Z.hb dL_law_358 (by decide) ?_
  refine lv_iadd Z.hx Z.hb dL_law_359 ?_
  refine z_top (x' := nI (i + 4)) (z_off i 4) ?_
  refine z_sldN Z hL hXs hbl hbA (k := (i + 4)) (by omega) hL3 dL_law_360 ?_
  refine lv_aload_n Z.hx Z.hb dL_law_361 rfl (lv_at hl 1 rfl) ?_
  -- LinkResolverLaw.addPackage
  refine z_wcallSW (rest := []) (As := [.ref o, .int (xs (i + 1)), .int (xs (i + 2)), .int (xs (i + 3)), .int (xs (i + 4)), .ref out]) Z (w_addPackage G l hl0 H Rr σ n o hI.1 hn hI.2.2.1 out fo hI.2.2.2.2.1.1 hI.2.2.2.2.2.1.1 hI.2.2.2.2.1.2 (xs (i + 1)) (xs (i + 2)) (xs (i + 3)) (xs (i + 4))) gw_X0_99 gd_X0_99 rfl hl.1 (Nat.le_of_ble_eq_true rfl) rfl dL_law_362 ⟨⟨by omega, by omega⟩, by omega, by omega⟩ hL (fun H_1 locs hL hP_ => ?_)
  obtain ⟨R1_, f1_, hm_, hf1_⟩ := hI.w hP_
  refine lv_istore (lv' := [(5, .int (kAddP σ (xs (i + 1)) (xs (i + 2)) (xs (i + 3)) (xs (i + 4)))), (4, .int (nI i)), (3, .ref out), (2, .ref mo), (1, .ref o), (0, .ref b)]) Z.hx Z.hb dL_law_365 hl (by decide) rfl (fun ls hl => ?_)
  refine lv_aload_n Z.hx Z.hb dL_law_367 rfl (lv_at hl 3 rfl) ?_
  refine lv_aload_n Z.hx Z.hb dL_law_368 rfl (lv_at hl 5 rfl) ?_
  refine lv_iload Z.hx Z.hb dL_law_369 (lv_at hl 1 rfl) ?_
  refine lv_iconst (v := 1) Z.hx Z.hb dL_law_371 (by decide) ?_
  refine lv_iadd Z.hx Z.hb dL_law_372 ?_
  refine z_top (x' := nI (i + 1)) (z_off i 1) ?_
  refine z_sldN Z hL hXs hbl hbA (k := (i + 1)) (by omega) hL3 dL_law_373 ?_
  refine lv_aload_n Z.hx Z.hb dL_law_374 rfl (lv_at hl 5 rfl) ?_
  refine lv_iload Z.hx Z.hb dL_law_375 (lv_at hl 1 rfl) ?_
  refine lv_iconst (v := 2) Z.hx Z.hb dL_law_377 (by decide) ?_
  refine lv_iadd Z.hx Z.hb dL_law_378 ?_
  refine z_top (x' := nI (i + 2)) (z_off i 2) ?_
  refine z_sldN Z hL hXs hbl hbA (k := (i + 2)) (by omega) hL3 dL_law_379 ?_
  refine lv_aload_n Z.hx Z.hb dL_law_380 rfl (lv_at hl 5 rfl) ?_
  refine lv_iload Z.hx Z.hb dL_law_381 (lv_at hl 1 rfl) ?_
  refine lv_iconst (v := 3) Z.hx Z.hb dL_law_383 (by decide) ?_
  refine lv_iadd Z.hx Z.hb dL_law_384 ?_
  refine z_top (x' := nI (i + 3)) (z_off i 3) ?_
  refine z_sldN Z hL hXs hbl hbA (k := (i + 3)) (by omega) hL3 dL_law_385 ?_
  refine lv_aload_n Z.hx Z.hb dL_law_386 rfl (lv_at hl 5 rfl) ?_
  refine lv_iload Z.hx Z.hb dL_law_387 (lv_at hl 1 rfl) ?_
  refine lv_iconst (v := 4) Z.hx Z.hb dL_law_389 (by decide) ?_
  refine lv_iadd Z.hx Z.hb dL_law_390 ?_
  refine z_top (x' := nI (i + 4)) (z_off i 4) ?_
  refine z_sldN Z hL hXs hbl hbA (k := (i + 4)) (by omega) hL3 dL_law_391 ?_
  -- LinkResolverModel.addPackage
  refine z_mcallV (rest := []) (As := [.int (xs (i + 1)), .int (xs (i + 2)), .int (xs (i + 3)), .int (xs (i + 4))]) Z (m_addPackage G l H_1 mo A f hI.2.1.2.1 σ N th hm_.2.1 hI.2.1.2.2 hI.2.2.1 (Nat.lt_of_le_of_lt hI.2.2.2.1 (by omega)) (xs (i + 1)) (xs (i + 2)) (xs (i + 3)) (xs (i + 4))) gw_X0_102 gd_X0_102 rfl hm_.2.1.ob rfl hl.1 (Nat.le_of_ble_eq_true rfl) rfl dL_law_392 ⟨⟨by omega, by omega⟩, by omega, by omega⟩ hL (fun x_ H_2 locs hL hP_ => ?_)
  have hwf_ : sWf (if kAddP σ (xs (i + 1)) (xs (i + 2)) (xs (i + 3)) (xs (i + 4)) = 0 then sAddP σ (xs (i + 1)) (xs (i + 2)) (xs (i + 3)) (xs (i + 4)) else σ) := lWf hI.2.2.1 (fun hk => hI.2.2.1.addP hk)
  obtain ⟨v_, f2_, N2_, hM2_, hv2_, hx2_, hJ2_, hI2_⟩ := hI.m hm_ hP_ hwf_
  refine lv_istore (lv' := [(6, .int x_), (5, .int (kAddP σ (xs (i + 1)) (xs (i + 2)) (xs (i + 3)) (xs (i + 4)))), (4, .int (nI i)), (3, .ref out), (2, .ref mo), (1, .ref o), (0, .ref b)]) Z.hx Z.hb dL_law_395 hl (by decide) rfl (fun ls hl => ?_)
  refine lv_aload_n Z.hx Z.hb dL_law_397 rfl (lv_at hl 4 rfl) ?_
  -- LinkResolverModel.thrown
  refine z_pcallV (rest := []) (As := []) Z (m_thrown G l H_2 mo A v_ f2_ hM2_) gw_X0_89 gd_X0_89 rfl hM2_.ob rfl hl.1 (Nat.le_of_ble_eq_true rfl) rfl dL_law_398 ⟨⟨by omega, by omega⟩, by omega, by omega⟩ hL (fun locs hL => ?_)
  refine z_top (x' := kAddP σ (xs (i + 1)) (xs (i + 2)) (xs (i + 3)) (xs (i + 4))) hv2_ ?_
  refine lv_iload Z.hx Z.hb dL_law_401 (lv_at hl 1 rfl) ?_
  refine lv_icmp_eq (tgt := 408) Z.hx Z.hb dL_law_403 (by decide) (fun c403 => ?_) (fun c403 => ?_)
  · skip
    refine lv_iload Z.hx Z.hb dL_law_408 (lv_at hl 1 rfl) ?_
    refine lv_if_ne (tgt := 425) Z.hx Z.hb dL_law_410 (by decide) (fun c410 => ?_) (fun c410 => ?_)
    · skip
      refine lv_goto (tgt := 1551) Z.hx Z.hb dL_law_425 (by decide) ?_
      refine W.widen (k := cells + 64) (n := slots + 4000) (by omega) (by omega) ?_
      exact kk _ _ _ _ _ _ _ H_2 _ ls hL hI2_ (lv_sub hl [2, 3, 4, 5, 6] rfl)
    · skip
      have hk9_ : kAddP σ (xs (i + 1)) (xs (i + 2)) (xs (i + 3)) (xs (i + 4)) = 0 := c410
      refine lv_aload_n Z.hx Z.hb dL_law_413 rfl (lv_at hl 3 rfl) ?_
      refine lv_iconst (v := 0) Z.hx Z.hb dL_law_414 (by decide) ?_
      refine z_lald0 Z hJ2_ (by decide) dL_law_415 ?_
      refine lv_iload Z.hx Z.hb dL_law_416 (lv_at hl 0 rfl) ?_
      refine lv_i2l (v := x_.toInt64) Z.hx Z.hb dL_law_418 rfl ?_
      refine z_lcmpE Z ((hf1_ hk9_).trans (by rw [hx2_ hk9_])) dL_law_419 ?_
      refine lv_if_eq (tgt := 425) Z.hx Z.hb dL_law_420 (by decide) (fun c420 => ?_) (fun c420 => ?_)
      · skip
        refine lv_goto (tgt := 1551) Z.hx Z.hb dL_law_425 (by decide) ?_
        refine W.widen (k := cells + 64) (n := slots + 4000) (by omega) (by omega) ?_
        exact kk _ _ _ _ _ _ _ H_2 _ ls hL hI2_ (lv_sub hl [2, 3, 4, 5, 6] rfl)
      · exact absurd (by decide) c420
  · exact absurd rfl c403
set_option maxHeartbeats 4000000 in
set_option maxRecDepth 100000 in
theorem law_4 {G : zG} {p : Program} {l : Launch} {e : Env} {R : Room} {s : State} {m : MethodId} {args : Array Value} {below : List Frame} {meth : Method} {c : Code} {H : Heap} {locs : List Loc} {cells slots : Nat} {Q : State → Prop} {ls : Array Slot} {b L i : Nat} {xs : Nat → Int32} {Rr : xRo} {A : Nat → Nat} {f : Nat → Nat → Int32} {fo : Nat → Int64} {σ : zS} {n N o mo out : Nat} {th : Int32} (hl0 : l.stackTraces = false) (Z : zC G p s m args meth c RX0 cL_law 7) (hXs : va_X b L xs s s.heap) (hbl : b < s.heap.size) (hbA : ¬ zA G b) (hi6 : i + 6 ≤ L) (hL3 : L ≤ 384) (hI : lInv G H Rr A f fo σ n N th o mo out) (hn : n < 64) (hL : zL G locs) (hl : lv_has ls 7 [(4, .int (nI i)), (3, .ref out), (2, .ref mo), (1, .ref o), (0, .ref b)]) (hcR : cells + 64 ≤ R.cells) (hsR : slots + 4000 ≤ R.slots) (hfR : 22 ≤ R.frames) (hlR : 10936 ≤ R.locals)
    (kk : ∀ (R1 : xRo) (A1 : Nat → Nat) (f1 : Nat → Nat → Int32) (fo1 : Nat → Int64) (σ1 : zS) (N1 : Nat) (th1 : Int32) (H1 : Heap) (locs1 : List Loc) (ls1 : Array Slot), zL G locs1 → lInv G H1 R1 A1 f1 fo1 σ1 (n + 1) N1 th1 o mo out → lv_has ls1 7 [(4, .int (nI i)), (3, .ref out), (2, .ref mo), (1, .ref o), (0, .ref b)] → W p l e R s m args below meth c H1 locs1 (cells + 64) (slots + 4000) Q (F0 m 1551 ls1 [])) : W p l e R s m args below meth c H locs cells slots Q (F0 m 428 ls []) := by
  rcases Decidable.em (xs (i + 2) = 0) with hz_ | hz_
  · skip
    refine lv_aload_n Z.hx Z.hb dL_law_428 rfl (lv_at hl 3 rfl) ?_
    refine lv_aload_n Z.hx Z.hb dL_law_429 rfl (lv_at hl 4 rfl) ?_
    refine lv_iload Z.hx Z.hb dL_law_430 (lv_at hl 0 rfl) ?_
    refine lv_iconst (v := 1) Z.hx Z.hb dL_law_432 (by decide) ?_
    refine lv_iadd Z.hx Z.hb dL_law_433 ?_
    refine z_top (x' := nI (i + 1)) (z_off i 1) ?_
    refine z_sldN Z hL hXs hbl hbA (k := (i + 1)) (by omega) hL3 dL_law_434 ?_
    refine lv_aload_n Z.hx Z.hb dL_law_435 rfl (lv_at hl 4 rfl) ?_
    refine lv_iload Z.hx Z.hb dL_law_436 (lv_at hl 0 rfl) ?_
    refine lv_iconst (v := 2) Z.hx Z.hb dL_law_438 (by decide) ?_
    refine lv_iadd Z.hx Z.hb dL_law_439 ?_
    refine z_top (x' := nI (i + 2)) (z_off i 2) ?_
    refine z_sldN Z hL hXs hbl hbA (k := (i + 2)) (by omega) hL3 dL_law_440 ?_
    refine lv_if_eq (tgt := 448) Z.hx Z.hb dL_law_441 (by decide) (fun c441 => ?_) (fun c441 => ?_)
    · skip
      refine lv_iconst (v := 0) Z.hx Z.hb dL_law_448 (by decide) ?_
      refine lv_aload_n Z.hx Z.hb dL_law_449 rfl (lv_at hl 1 rfl) ?_
      -- LinkResolverLaw.subscribe
      refine z_wcallSW (rest := []) (As := [.ref o, .int (xs (i + 1)), .int 0, .ref out]) Z (w_subscribe G l hl0 H Rr σ n o hI.1 hn hI.2.2.1 out fo hI.2.2.2.2.1.1 hI.2.2.2.2.2.1.1 hI.2.2.2.2.1.2 (xs (i + 1)) 0 (Or.inl rfl)) gw_X0_103 gd_X0_103 rfl hl.1 (Nat.le_of_ble_eq_true rfl) rfl dL_law_450 ⟨⟨by omega, by omega⟩, by omega, by omega⟩ hL (fun H_1 locs hL hP_ => ?_)
      obtain ⟨R1_, f1_, hm_, hf1_⟩ := hI.w hP_
      refine lv_istore (lv' := [(5, .int (kPk σ (xs (i + 1)))), (4, .int (nI i)), (3, .ref out), (2, .ref mo), (1, .ref o), (0, .ref b)]) Z.hx Z.hb dL_law_453 hl (by decide) rfl (fun ls hl => ?_)
      refine lv_aload_n Z.hx Z.hb dL_law_455 rfl (lv_at hl 3 rfl) ?_
      refine lv_aload_n Z.hx Z.hb dL_law_456 rfl (lv_at hl 5 rfl) ?_
      refine lv_iload Z.hx Z.hb dL_law_457 (lv_at hl 1 rfl) ?_
      refine lv_iconst (v := 1) Z.hx Z.hb dL_law_459 (by decide) ?_
      refine lv_iadd Z.hx Z.hb dL_law_460 ?_
      refine z_top (x' := nI (i + 1)) (z_off i 1) ?_
      refine z_sldN Z hL hXs hbl hbA (k := (i + 1)) (by omega) hL3 dL_law_461 ?_
      refine lv_aload_n Z.hx Z.hb dL_law_462 rfl (lv_at hl 5 rfl) ?_
      refine lv_iload Z.hx Z.hb dL_law_463 (lv_at hl 1 rfl) ?_
      refine lv_iconst (v := 2) Z.hx Z.hb dL_law_465 (by decide) ?_
      refine lv_iadd Z.hx Z.hb dL_law_466 ?_
      refine z_top (x' := nI (i + 2)) (z_off i 2) ?_
      refine z_sldN Z hL hXs hbl hbA (k := (i + 2)) (by omega) hL3 dL_law_467 ?_
      refine lv_if_eq (tgt := 475) Z.hx Z.hb dL_law_468 (by decide) (fun c468 => ?_) (fun c468 => ?_)
      · skip
        refine lv_iconst (v := 0) Z.hx Z.hb dL_law_475 (by decide) ?_
        -- LinkResolverModel.subscribe
        refine z_mcallV (rest := []) (As := [.int (xs (i + 1)), .int 0]) Z (m_subscribe G l H_1 mo A f hI.2.1.2.1 σ N th hm_.2.1 hI.2.1.2.2 hI.2.2.1 (Nat.lt_of_le_of_lt hI.2.2.2.1 (by omega)) (xs (i + 1)) 0 (Or.inl rfl)) gw_X0_106 gd_X0_106 rfl hm_.2.1.ob rfl hl.1 (Nat.le_of_ble_eq_true rfl) rfl dL_law_476 ⟨⟨by omega, by omega⟩, by omega, by omega⟩ hL (fun x_ H_2 locs hL hP_ => ?_)
        have hwf_ : sWf (if kPk σ (xs (i + 1)) = 0 then sNote σ (xs (i + 1)).toNatClampNeg 20 0 0 0 0 else σ) := lWf hI.2.2.1 (fun hk => hI.2.2.1.note (lWf_p (k := 0) hI.2.2.1.2.2.1 (lk_kpk hk)) _ _ _ _)
        obtain ⟨v_, f2_, N2_, hM2_, hv2_, hx2_, hJ2_, hI2_⟩ := hI.m hm_ hP_ hwf_
        have hx01_ : kPk σ (xs (i + 1)) = 0 → x_ = 0 ∨ x_ = 1 := fun h => by rw [hx2_ h]; exact zb_01
        refine lv_istore (lv' := [(6, .int x_), (5, .int (kPk σ (xs (i + 1)))), (4, .int (nI i)), (3, .ref out), (2, .ref mo), (1, .ref o), (0, .ref b)]) Z.hx Z.hb dL_law_479 hl (by decide) rfl (fun ls hl => ?_)
        refine lv_aload_n Z.hx Z.hb dL_law_481 rfl (lv_at hl 4 rfl) ?_
        -- LinkResolverModel.thrown
        refine z_pcallV (rest := []) (As := []) Z (m_thrown G l H_2 mo A v_ f2_ hM2_) gw_X0_89 gd_X0_89 rfl hM2_.ob rfl hl.1 (Nat.le_of_ble_eq_true rfl) rfl dL_law_482 ⟨⟨by omega, by omega⟩, by omega, by omega⟩ hL (fun locs hL => ?_)
        refine z_top (x' := kPk σ (xs (i + 1))) hv2_ ?_
        refine lv_iload Z.hx Z.hb dL_law_485 (lv_at hl 1 rfl) ?_
        refine lv_icmp_eq (tgt := 492) Z.hx Z.hb dL_law_487 (by decide) (fun c487 => ?_) (fun c487 => ?_)
        · skip
          refine lv_iload Z.hx Z.hb dL_law_492 (lv_at hl 1 rfl) ?_
          refine lv_if_ne (tgt := 516) Z.hx Z.hb dL_law_494 (by decide) (fun c494 => ?_) (fun c494 => ?_)
          · skip
            refine lv_goto (tgt := 1551) Z.hx Z.hb dL_law_516 (by decide) ?_
            refine W.widen (k := cells + 64) (n := slots + 4000) (by omega) (by omega) ?_
            exact kk _ _ _ _ _ _ _ H_2 _ ls hL hI2_ (lv_sub hl [2, 3, 4, 5, 6] rfl)
          · skip
            have hk9_ : kPk σ (xs (i + 1)) = 0 := c494
            refine lv_aload_n Z.hx Z.hb dL_law_497 rfl (lv_at hl 3 rfl) ?_
            refine lv_iconst (v := 0) Z.hx Z.hb dL_law_498 (by decide) ?_
            refine z_lald0 Z hJ2_ (by decide) dL_law_499 ?_
            refine lv_iload Z.hx Z.hb dL_law_500 (lv_at hl 0 rfl) ?_
            refine lv_if_eq (tgt := 509) Z.hx Z.hb dL_law_502 (by decide) (fun cb502 => ?_) (fun cb502 => ?_)
            · skip
              refine lv_lconst (v := 0) Z.hx Z.hb dL_law_509 (by decide) ?_
              have hb9_ : x_ = 0 := cb502
              refine z_lcmpE Z ((hf1_ hk9_).trans (by rw [← hx2_ hk9_, hb9_]; rfl)) dL_law_510 ?_
              refine lv_if_eq (tgt := 516) Z.hx Z.hb dL_law_511 (by decide) (fun c511 => ?_) (fun c511 => ?_)
              · skip
                refine lv_goto (tgt := 1551) Z.hx Z.hb dL_law_516 (by decide) ?_
                refine W.widen (k := cells + 64) (n := slots + 4000) (by omega) (by omega) ?_
                exact kk _ _ _ _ _ _ _ H_2 _ ls hL hI2_ (lv_sub hl [2, 3, 4, 5, 6] rfl)
              · exact absurd (by decide) c511
            · skip
              refine lv_lconst (v := 1) Z.hx Z.hb dL_law_505 (by decide) ?_
              refine lv_goto (tgt := 510) Z.hx Z.hb dL_law_506 (by decide) ?_
              have hb9_ : x_ = 1 := (hx01_ hk9_).resolve_left cb502
              refine z_lcmpE Z ((hf1_ hk9_).trans (by rw [← hx2_ hk9_, hb9_]; rfl)) dL_law_510 ?_
              refine lv_if_eq (tgt := 516) Z.hx Z.hb dL_law_511 (by decide) (fun c511 => ?_) (fun c511 => ?_)
              · skip
                refine lv_goto (tgt := 1551) Z.hx Z.hb dL_law_516 (by decide) ?_
                refine W.widen (k := cells + 64) (n := slots + 4000) (by omega) (by omega) ?_
                exact kk _ _ _ _ _ _ _ H_2 _ ls hL hI2_ (lv_sub hl [2, 3, 4, 5, 6] rfl)
              · exact absurd (by decide) c511
        · exact absurd rfl c487
      · exact absurd hz_ c468
    · exact absurd hz_ c441
  · skip
    refine lv_aload_n Z.hx Z.hb dL_law_428 rfl (lv_at hl 3 rfl) ?_
    refine lv_aload_n Z.hx Z.hb dL_law_429 rfl (lv_at hl 4 rfl) ?_
    refine lv_iload Z.hx Z.hb dL_law_430 (lv_at hl 0 rfl) ?_
    refine lv_iconst (v := 1) Z.hx Z.hb dL_law_432 (by decide) ?_
    refine lv_iadd Z.hx Z.hb dL_law_433 ?_
    refine z_top (x' := nI (i + 1)) (z_off i 1) ?_
    refine z_sldN Z hL hXs hbl hbA (k := (i + 1)) (by omega) hL3 dL_law_434 ?_
    refine lv_aload_n Z.hx Z.hb dL_law_435 rfl (lv_at hl 4 rfl) ?_
    refine lv_iload Z.hx Z.hb dL_law_436 (lv_at hl 0 rfl) ?_
    refine lv_iconst (v := 2) Z.hx Z.hb dL_law_438 (by decide) ?_
    refine lv_iadd Z.hx Z.hb dL_law_439 ?_
    refine z_top (x' := nI (i + 2)) (z_off i 2) ?_
    refine z_sldN Z hL hXs hbl hbA (k := (i + 2)) (by omega) hL3 dL_law_440 ?_
    refine lv_if_eq (tgt := 448) Z.hx Z.hb dL_law_441 (by decide) (fun c441 => ?_) (fun c441 => ?_)
    · exact absurd c441 hz_
    · skip
      refine lv_iconst (v := 1) Z.hx Z.hb dL_law_444 (by decide) ?_
      refine lv_goto (tgt := 449) Z.hx Z.hb dL_law_445 (by decide) ?_
      refine lv_aload_n Z.hx Z.hb dL_law_449 rfl (lv_at hl 1 rfl) ?_
      -- LinkResolverLaw.subscribe
      refine z_wcallSW (rest := []) (As := [.ref o, .int (xs (i + 1)), .int 1, .ref out]) Z (w_subscribe G l hl0 H Rr σ n o hI.1 hn hI.2.2.1 out fo hI.2.2.2.2.1.1 hI.2.2.2.2.2.1.1 hI.2.2.2.2.1.2 (xs (i + 1)) 1 (Or.inr rfl)) gw_X0_103 gd_X0_103 rfl hl.1 (Nat.le_of_ble_eq_true rfl) rfl dL_law_450 ⟨⟨by omega, by omega⟩, by omega, by omega⟩ hL (fun H_1 locs hL hP_ => ?_)
      obtain ⟨R1_, f1_, hm_, hf1_⟩ := hI.w hP_
      refine lv_istore (lv' := [(5, .int (kPk σ (xs (i + 1)))), (4, .int (nI i)), (3, .ref out), (2, .ref mo), (1, .ref o), (0, .ref b)]) Z.hx Z.hb dL_law_453 hl (by decide) rfl (fun ls hl => ?_)
      refine lv_aload_n Z.hx Z.hb dL_law_455 rfl (lv_at hl 3 rfl) ?_
      refine lv_aload_n Z.hx Z.hb dL_law_456 rfl (lv_at hl 5 rfl) ?_
      refine lv_iload Z.hx Z.hb dL_law_457 (lv_at hl 1 rfl) ?_
      refine lv_iconst (v := 1) Z.hx Z.hb dL_law_459 (by decide) ?_
      refine lv_iadd Z.hx Z.hb dL_law_460 ?_
      refine z_top (x' := nI (i + 1)) (z_off i 1) ?_
      refine z_sldN Z hL hXs hbl hbA (k := (i + 1)) (by omega) hL3 dL_law_461 ?_
      refine lv_aload_n Z.hx Z.hb dL_law_462 rfl (lv_at hl 5 rfl) ?_
      refine lv_iload Z.hx Z.hb dL_law_463 (lv_at hl 1 rfl) ?_
      refine lv_iconst (v := 2) Z.hx Z.hb dL_law_465 (by decide) ?_
      refine lv_iadd Z.hx Z.hb dL_law_466 ?_
      refine z_top (x' := nI (i + 2)) (z_off i 2) ?_
      refine z_sldN Z hL hXs hbl hbA (k := (i + 2)) (by omega) hL3 dL_law_467 ?_
      refine lv_if_eq (tgt := 475) Z.hx Z.hb dL_law_468 (by decide) (fun c468 => ?_) (fun c468 => ?_)
      · exact absurd c468 hz_
      · skip
        refine lv_iconst (v := 1) Z.hx Z.hb dL_law_471 (by decide) ?_
        refine lv_goto (tgt := 476) Z.hx Z.hb dL_law_472 (by decide) ?_
        -- LinkResolverModel.subscribe
        refine z_mcallV (rest := []) (As := [.int (xs (i + 1)), .int 1]) Z (m_subscribe G l H_1 mo A f hI.2.1.2.1 σ N th hm_.2.1 hI.2.1.2.2 hI.2.2.1 (Nat.lt_of_le_of_lt hI.2.2.2.1 (by omega)) (xs (i + 1)) 1 (Or.inr rfl)) gw_X0_106 gd_X0_106 rfl hm_.2.1.ob rfl hl.1 (Nat.le_of_ble_eq_true rfl) rfl dL_law_476 ⟨⟨by omega, by omega⟩, by omega, by omega⟩ hL (fun x_ H_2 locs hL hP_ => ?_)
        have hwf_ : sWf (if kPk σ (xs (i + 1)) = 0 then sNote σ (xs (i + 1)).toNatClampNeg 20 1 0 0 0 else σ) := lWf hI.2.2.1 (fun hk => hI.2.2.1.note (lWf_p (k := 0) hI.2.2.1.2.2.1 (lk_kpk hk)) _ _ _ _)
        obtain ⟨v_, f2_, N2_, hM2_, hv2_, hx2_, hJ2_, hI2_⟩ := hI.m hm_ hP_ hwf_
        have hx01_ : kPk σ (xs (i + 1)) = 0 → x_ = 0 ∨ x_ = 1 := fun h => by rw [hx2_ h]; exact zb_01
        refine lv_istore (lv' := [(6, .int x_), (5, .int (kPk σ (xs (i + 1)))), (4, .int (nI i)), (3, .ref out), (2, .ref mo), (1, .ref o), (0, .ref b)]) Z.hx Z.hb dL_law_479 hl (by decide) rfl (fun ls hl => ?_)
        refine lv_aload_n Z.hx Z.hb dL_law_481 rfl (lv_at hl 4 rfl) ?_
        -- LinkResolverModel.thrown
        refine z_pcallV (rest := []) (As := []) Z (m_thrown G l H_2 mo A v_ f2_ hM2_) gw_X0_89 gd_X0_89 rfl hM2_.ob rfl hl.1 (Nat.le_of_ble_eq_true rfl) rfl dL_law_482 ⟨⟨by omega, by omega⟩, by omega, by omega⟩ hL (fun locs hL => ?_)
        refine z_top (x' := kPk σ (xs (i + 1))) hv2_ ?_
        refine lv_iload Z.hx Z.hb dL_law_485 (lv_at hl 1 rfl) ?_
        refine lv_icmp_eq (tgt := 492) Z.hx Z.hb dL_law_487 (by decide) (fun c487 => ?_) (fun c487 => ?_)
        · skip
          refine lv_iload Z.hx Z.hb dL_law_492 (lv_at hl 1 rfl) ?_
          refine lv_if_ne (tgt := 516) Z.hx Z.hb dL_law_494 (by decide) (fun c494 => ?_) (fun c494 => ?_)
          · skip
            refine lv_goto (tgt := 1551) Z.hx Z.hb dL_law_516 (by decide) ?_
            refine W.widen (k := cells + 64) (n := slots + 4000) (by omega) (by omega) ?_
            exact kk _ _ _ _ _ _ _ H_2 _ ls hL hI2_ (lv_sub hl [2, 3, 4, 5, 6] rfl)
          · skip
            have hk9_ : kPk σ (xs (i + 1)) = 0 := c494
            refine lv_aload_n Z.hx Z.hb dL_law_497 rfl (lv_at hl 3 rfl) ?_
            refine lv_iconst (v := 0) Z.hx Z.hb dL_law_498 (by decide) ?_
            refine z_lald0 Z hJ2_ (by decide) dL_law_499 ?_
            refine lv_iload Z.hx Z.hb dL_law_500 (lv_at hl 0 rfl) ?_
            refine lv_if_eq (tgt := 509) Z.hx Z.hb dL_law_502 (by decide) (fun cb502 => ?_) (fun cb502 => ?_)
            · skip
              refine lv_lconst (v := 0) Z.hx Z.hb dL_law_509 (by decide) ?_
              have hb9_ : x_ = 0 := cb502
              refine z_lcmpE Z ((hf1_ hk9_).trans (by rw [← hx2_ hk9_, hb9_]; rfl)) dL_law_510 ?_
              refine lv_if_eq (tgt := 516) Z.hx Z.hb dL_law_511 (by decide) (fun c511 => ?_) (fun c511 => ?_)
              · skip
                refine lv_goto (tgt := 1551) Z.hx Z.hb dL_law_516 (by decide) ?_
                refine W.widen (k := cells + 64) (n := slots + 4000) (by omega) (by omega) ?_
                exact kk _ _ _ _ _ _ _ H_2 _ ls hL hI2_ (lv_sub hl [2, 3, 4, 5, 6] rfl)
              · exact absurd (by decide) c511
            · skip
              refine lv_lconst (v := 1) Z.hx Z.hb dL_law_505 (by decide) ?_
              refine lv_goto (tgt := 510) Z.hx Z.hb dL_law_506 (by decide) ?_
              have hb9_ : x_ = 1 := (hx01_ hk9_).resolve_left cb502
              refine z_lcmpE Z ((hf1_ hk9_).trans (by rw [← hx2_ hk9_, hb9_]; rfl)) dL_law_510 ?_
              refine lv_if_eq (tgt := 516) Z.hx Z.hb dL_law_511 (by decide) (fun c511 => ?_) (fun c511 => ?_)
              · skip
                refine lv_goto (tgt := 1551) Z.hx Z.hb dL_law_516 (by decide) ?_
                refine W.widen (k := cells + 64) (n := slots + 4000) (by omega) (by omega) ?_
                exact kk _ _ _ _ _ _ _ H_2 _ ls hL hI2_ (lv_sub hl [2, 3, 4, 5, 6] rfl)
              · exact absurd (by decide) c511
        · exact absurd rfl c487
set_option maxHeartbeats 4000000 in
set_option maxRecDepth 100000 in
theorem law_5 {G : zG} {p : Program} {l : Launch} {e : Env} {R : Room} {s : State} {m : MethodId} {args : Array Value} {below : List Frame} {meth : Method} {c : Code} {H : Heap} {locs : List Loc} {cells slots : Nat} {Q : State → Prop} {ls : Array Slot} {b L i : Nat} {xs : Nat → Int32} {Rr : xRo} {A : Nat → Nat} {f : Nat → Nat → Int32} {fo : Nat → Int64} {σ : zS} {n N o mo out : Nat} {th : Int32} (hl0 : l.stackTraces = false) (Z : zC G p s m args meth c RX0 cL_law 7) (hXs : va_X b L xs s s.heap) (hbl : b < s.heap.size) (hbA : ¬ zA G b) (hi6 : i + 6 ≤ L) (hL3 : L ≤ 384) (hI : lInv G H Rr A f fo σ n N th o mo out) (hn : n < 64) (hL : zL G locs) (hl : lv_has ls 7 [(4, .int (nI i)), (3, .ref out), (2, .ref mo), (1, .ref o), (0, .ref b)]) (hcR : cells + 64 ≤ R.cells) (hsR : slots + 4000 ≤ R.slots) (hfR : 22 ≤ R.frames) (hlR : 10936 ≤ R.locals)
    (kk : ∀ (R1 : xRo) (A1 : Nat → Nat) (f1 : Nat → Nat → Int32) (fo1 : Nat → Int64) (σ1 : zS) (N1 : Nat) (th1 : Int32) (H1 : Heap) (locs1 : List Loc) (ls1 : Array Slot), zL G locs1 → lInv G H1 R1 A1 f1 fo1 σ1 (n + 1) N1 th1 o mo out → lv_has ls1 7 [(4, .int (nI i)), (3, .ref out), (2, .ref mo), (1, .ref o), (0, .ref b)] → W p l e R s m args below meth c H1 locs1 (cells + 64) (slots + 4000) Q (F0 m 1551 ls1 [])) : W p l e R s m args below meth c H locs cells slots Q (F0 m 519 ls []) := by
  refine lv_aload_n Z.hx Z.hb dL_law_519 rfl (lv_at hl 3 rfl) ?_
  refine lv_aload_n Z.hx Z.hb dL_law_520 rfl (lv_at hl 4 rfl) ?_
  refine lv_iload Z.hx Z.hb dL_law_521 (lv_at hl 0 rfl) ?_
  refine lv_iconst (v := 1) Z.hx Z.hb dL_law_523 (by decide) ?_
  refine lv_iadd Z.hx Z.hb dL_law_524 ?_
  refine z_top (x' := nI (i + 1)) (z_off i 1) ?_
  refine z_sldN Z hL hXs hbl hbA (k := (i + 1)) (by omega) hL3 dL_law_525 ?_
  refine lv_aload_n Z.hx Z.hb dL_law_526 rfl (lv_at hl 4 rfl) ?_
  refine lv_iload Z.hx Z.hb dL_law_527 (lv_at hl 0 rfl) ?_
  refine lv_iconst (v := 2) Z.hx Z.hb dL_law_529 (by decide) ?_
  refine lv_iadd Z.hx Z.hb dL_law_530 ?_
  refine z_top (x' := nI (i + 2)) (z_off i 2) ?_
  refine z_sldN Z hL hXs hbl hbA (k := (i + 2)) (by omega) hL3 dL_law_531 ?_
  refine lv_aload_n Z.hx Z.hb dL_law_532 rfl (lv_at hl 4 rfl) ?_
  refine lv_iload Z.hx Z.hb dL_law_533 (lv_at hl 0 rfl) ?_
  refine lv_iconst (v := 3) Z.hx Z.hb dL_law_535 (by decide) ?_
  refine lv_iadd Z.hx Z.hb dL_law_536 ?_
  refine z_top (x' := nI (i + 3)) (z_off i 3) ?_
  refine z_sldN Z hL hXs hbl hbA (k := (i + 3)) (by omega) hL3 dL_law_537 ?_
  refine lv_aload_n Z.hx Z.hb dL_law_538 rfl (lv_at hl 4 rfl) ?_
  refine lv_iload Z.hx Z.hb dL_law_539 (lv_at hl 0 rfl) ?_
  refine lv_iconst (v := 4) Z.hx Z.hb dL_law_541 (by decide) ?_
  refine lv_iadd Z.hx Z.hb dL_law_542 ?_
  refine z_top (x' := nI (i + 4)) (z_off i 4) ?_
  refine z_sldN Z hL hXs hbl hbA (k := (i + 4)) (by omega) hL3 dL_law_543 ?_
  refine lv_aload_n Z.hx Z.hb dL_law_544 rfl (lv_at hl 4 rfl) ?_
  refine lv_iload Z.hx Z.hb dL_law_545 (lv_at hl 0 rfl) ?_
  refine lv_iconst (v := 5) Z.hx Z.hb dL_law_547 (by decide) ?_
  refine lv_iadd Z.hx Z.hb dL_law_548 ?_
  refine z_top (x' := nI (i + 5)) (z_off i 5) ?_
  refine z_sldN Z hL hXs hbl hbA (k := (i + 5)) (by omega) hL3 dL_law_549 ?_
  refine lv_aload_n Z.hx Z.hb dL_law_550 rfl (lv_at hl 1 rfl) ?_
  -- LinkResolverLaw.come
  refine z_wcallSW (rest := []) (As := [.ref o, .int (xs (i + 1)), .int (xs (i + 2)), .int (xs (i + 3)), .int (xs (i + 4)), .int (xs (i + 5)), .ref out]) Z (w_come G l hl0 H Rr σ n o hI.1 hn hI.2.2.1 out fo hI.2.2.2.2.1.1 hI.2.2.2.2.2.1.1 hI.2.2.2.2.1.2 (xs (i + 1)) (xs (i + 2)) (xs (i + 3)) (xs (i + 4)) (xs (i + 5))) gw_X0_107 gd_X0_107 rfl hl.1 (Nat.le_of_ble_eq_true rfl) rfl dL_law_551 ⟨⟨by omega, by omega⟩, by omega, by omega⟩ hL (fun H_1 locs hL hP_ => ?_)
  obtain ⟨R1_, f1_, hm_, hf1_⟩ := hI.w hP_
  refine lv_istore (lv' := [(5, .int (kCome σ (xs (i + 1)) (xs (i + 2)) (xs (i + 3)) (xs (i + 4)) (xs (i + 5)))), (4, .int (nI i)), (3, .ref out), (2, .ref mo), (1, .ref o), (0, .ref b)]) Z.hx Z.hb dL_law_554 hl (by decide) rfl (fun ls hl => ?_)
  refine lv_aload_n Z.hx Z.hb dL_law_556 rfl (lv_at hl 3 rfl) ?_
  refine lv_aload_n Z.hx Z.hb dL_law_557 rfl (lv_at hl 5 rfl) ?_
  refine lv_iload Z.hx Z.hb dL_law_558 (lv_at hl 1 rfl) ?_
  refine lv_iconst (v := 1) Z.hx Z.hb dL_law_560 (by decide) ?_
  refine lv_iadd Z.hx Z.hb dL_law_561 ?_
  refine z_top (x' := nI (i + 1)) (z_off i 1) ?_
  refine z_sldN Z hL hXs hbl hbA (k := (i + 1)) (by omega) hL3 dL_law_562 ?_
  refine lv_aload_n Z.hx Z.hb dL_law_563 rfl (lv_at hl 5 rfl) ?_
  refine lv_iload Z.hx Z.hb dL_law_564 (lv_at hl 1 rfl) ?_
  refine lv_iconst (v := 2) Z.hx Z.hb dL_law_566 (by decide) ?_
  refine lv_iadd Z.hx Z.hb dL_law_567 ?_
  refine z_top (x' := nI (i + 2)) (z_off i 2) ?_
  refine z_sldN Z hL hXs hbl hbA (k := (i + 2)) (by omega) hL3 dL_law_568 ?_
  refine lv_aload_n Z.hx Z.hb dL_law_569 rfl (lv_at hl 5 rfl) ?_
  refine lv_iload Z.hx Z.hb dL_law_570 (lv_at hl 1 rfl) ?_
  refine lv_iconst (v := 3) Z.hx Z.hb dL_law_572 (by decide) ?_
  refine lv_iadd Z.hx Z.hb dL_law_573 ?_
  refine z_top (x' := nI (i + 3)) (z_off i 3) ?_
  refine z_sldN Z hL hXs hbl hbA (k := (i + 3)) (by omega) hL3 dL_law_574 ?_
  refine lv_aload_n Z.hx Z.hb dL_law_575 rfl (lv_at hl 5 rfl) ?_
  refine lv_iload Z.hx Z.hb dL_law_576 (lv_at hl 1 rfl) ?_
  refine lv_iconst (v := 4) Z.hx Z.hb dL_law_578 (by decide) ?_
  refine lv_iadd Z.hx Z.hb dL_law_579 ?_
  refine z_top (x' := nI (i + 4)) (z_off i 4) ?_
  refine z_sldN Z hL hXs hbl hbA (k := (i + 4)) (by omega) hL3 dL_law_580 ?_
  refine lv_aload_n Z.hx Z.hb dL_law_581 rfl (lv_at hl 5 rfl) ?_
  refine lv_iload Z.hx Z.hb dL_law_582 (lv_at hl 1 rfl) ?_
  refine lv_iconst (v := 5) Z.hx Z.hb dL_law_584 (by decide) ?_
  refine lv_iadd Z.hx Z.hb dL_law_585 ?_
  refine z_top (x' := nI (i + 5)) (z_off i 5) ?_
  refine z_sldN Z hL hXs hbl hbA (k := (i + 5)) (by omega) hL3 dL_law_586 ?_
  -- LinkResolverModel.come
  refine z_mcallV (rest := []) (As := [.int (xs (i + 1)), .int (xs (i + 2)), .int (xs (i + 3)), .int (xs (i + 4)), .int (xs (i + 5))]) Z (m_come G l H_1 mo A f hI.2.1.2.1 σ N th hm_.2.1 hI.2.1.2.2 hI.2.2.1 (Nat.lt_of_le_of_lt hI.2.2.2.1 (by omega)) (xs (i + 1)) (xs (i + 2)) (xs (i + 3)) (xs (i + 4)) (xs (i + 5))) gw_X0_110 gd_X0_110 rfl hm_.2.1.ob rfl hl.1 (Nat.le_of_ble_eq_true rfl) rfl dL_law_587 ⟨⟨by omega, by omega⟩, by omega, by omega⟩ hL (fun x_ H_2 locs hL hP_ => ?_)
  have hwf_ : sWf (if kCome σ (xs (i + 1)) (xs (i + 2)) (xs (i + 3)) (xs (i + 4)) (xs (i + 5)) = 0 then sNote σ (xs (i + 1)).toNatClampNeg (xs (i + 2)).toNatClampNeg 1 (xs (i + 3)) (xs (i + 4)) (xs (i + 5)) else σ) := lWf hI.2.2.1 (fun hk => hI.2.2.1.note (lWf_p (k := 0) hI.2.2.1.2.2.1 (lk_kpt hk)) _ _ _ _)
  obtain ⟨v_, f2_, N2_, hM2_, hv2_, hx2_, hJ2_, hI2_⟩ := hI.m hm_ hP_ hwf_
  have hx01_ : kCome σ (xs (i + 1)) (xs (i + 2)) (xs (i + 3)) (xs (i + 4)) (xs (i + 5)) = 0 → x_ = 0 ∨ x_ = 1 := fun h => by rw [hx2_ h]; exact zb_01
  refine lv_istore (lv' := [(6, .int x_), (5, .int (kCome σ (xs (i + 1)) (xs (i + 2)) (xs (i + 3)) (xs (i + 4)) (xs (i + 5)))), (4, .int (nI i)), (3, .ref out), (2, .ref mo), (1, .ref o), (0, .ref b)]) Z.hx Z.hb dL_law_590 hl (by decide) rfl (fun ls hl => ?_)
  refine lv_aload_n Z.hx Z.hb dL_law_592 rfl (lv_at hl 4 rfl) ?_
  -- LinkResolverModel.thrown
  refine z_pcallV (rest := []) (As := []) Z (m_thrown G l H_2 mo A v_ f2_ hM2_) gw_X0_89 gd_X0_89 rfl hM2_.ob rfl hl.1 (Nat.le_of_ble_eq_true rfl) rfl dL_law_593 ⟨⟨by omega, by omega⟩, by omega, by omega⟩ hL (fun locs hL => ?_)
  refine z_top (x' := kCome σ (xs (i + 1)) (xs (i + 2)) (xs (i + 3)) (xs (i + 4)) (xs (i + 5))) hv2_ ?_
  refine lv_iload Z.hx Z.hb dL_law_596 (lv_at hl 1 rfl) ?_
  refine lv_icmp_eq (tgt := 603) Z.hx Z.hb dL_law_598 (by decide) (fun c598 => ?_) (fun c598 => ?_)
  · skip
    refine lv_iload Z.hx Z.hb dL_law_603 (lv_at hl 1 rfl) ?_
    refine lv_if_ne (tgt := 627) Z.hx Z.hb dL_law_605 (by decide) (fun c605 => ?_) (fun c605 => ?_)
    · skip
      refine lv_goto (tgt := 1551) Z.hx Z.hb dL_law_627 (by decide) ?_
      refine W.widen (k := cells + 64) (n := slots + 4000) (by omega) (by omega) ?_
      exact kk _ _ _ _ _ _ _ H_2 _ ls hL hI2_ (lv_sub hl [2, 3, 4, 5, 6] rfl)
    · skip
      have hk9_ : kCome σ (xs (i + 1)) (xs (i + 2)) (xs (i + 3)) (xs (i + 4)) (xs (i + 5)) = 0 := c605
      refine lv_aload_n Z.hx Z.hb dL_law_608 rfl (lv_at hl 3 rfl) ?_
      refine lv_iconst (v := 0) Z.hx Z.hb dL_law_609 (by decide) ?_
      refine z_lald0 Z hJ2_ (by decide) dL_law_610 ?_
      refine lv_iload Z.hx Z.hb dL_law_611 (lv_at hl 0 rfl) ?_
      refine lv_if_eq (tgt := 620) Z.hx Z.hb dL_law_613 (by decide) (fun cb613 => ?_) (fun cb613 => ?_)
      · skip
        refine lv_lconst (v := 0) Z.hx Z.hb dL_law_620 (by decide) ?_
        have hb9_ : x_ = 0 := cb613
        refine z_lcmpE Z ((hf1_ hk9_).trans (by rw [← hx2_ hk9_, hb9_]; rfl)) dL_law_621 ?_
        refine lv_if_eq (tgt := 627) Z.hx Z.hb dL_law_622 (by decide) (fun c622 => ?_) (fun c622 => ?_)
        · skip
          refine lv_goto (tgt := 1551) Z.hx Z.hb dL_law_627 (by decide) ?_
          refine W.widen (k := cells + 64) (n := slots + 4000) (by omega) (by omega) ?_
          exact kk _ _ _ _ _ _ _ H_2 _ ls hL hI2_ (lv_sub hl [2, 3, 4, 5, 6] rfl)
        · exact absurd (by decide) c622
      · skip
        refine lv_lconst (v := 1) Z.hx Z.hb dL_law_616 (by decide) ?_
        refine lv_goto (tgt := 621) Z.hx Z.hb dL_law_617 (by decide) ?_
        have hb9_ : x_ = 1 := (hx01_ hk9_).resolve_left cb613
        refine z_lcmpE Z ((hf1_ hk9_).trans (by rw [← hx2_ hk9_, hb9_]; rfl)) dL_law_621 ?_
        refine lv_if_eq (tgt := 627) Z.hx Z.hb dL_law_622 (by decide) (fun c622 => ?_) (fun c622 => ?_)
        · skip
          refine lv_goto (tgt := 1551) Z.hx Z.hb dL_law_627 (by decide) ?_
          refine W.widen (k := cells + 64) (n := slots + 4000) (by omega) (by omega) ?_
          exact kk _ _ _ _ _ _ _ H_2 _ ls hL hI2_ (lv_sub hl [2, 3, 4, 5, 6] rfl)
        · exact absurd (by decide) c622
  · exact absurd rfl c598
set_option maxHeartbeats 4000000 in
set_option maxRecDepth 100000 in
theorem law_6 {G : zG} {p : Program} {l : Launch} {e : Env} {R : Room} {s : State} {m : MethodId} {args : Array Value} {below : List Frame} {meth : Method} {c : Code} {H : Heap} {locs : List Loc} {cells slots : Nat} {Q : State → Prop} {ls : Array Slot} {b L i : Nat} {xs : Nat → Int32} {Rr : xRo} {A : Nat → Nat} {f : Nat → Nat → Int32} {fo : Nat → Int64} {σ : zS} {n N o mo out : Nat} {th : Int32} (hl0 : l.stackTraces = false) (Z : zC G p s m args meth c RX0 cL_law 7) (hXs : va_X b L xs s s.heap) (hbl : b < s.heap.size) (hbA : ¬ zA G b) (hi6 : i + 6 ≤ L) (hL3 : L ≤ 384) (hI : lInv G H Rr A f fo σ n N th o mo out) (hn : n < 64) (hL : zL G locs) (hl : lv_has ls 7 [(4, .int (nI i)), (3, .ref out), (2, .ref mo), (1, .ref o), (0, .ref b)]) (hcR : cells + 64 ≤ R.cells) (hsR : slots + 4000 ≤ R.slots) (hfR : 22 ≤ R.frames) (hlR : 10936 ≤ R.locals)
    (kk : ∀ (R1 : xRo) (A1 : Nat → Nat) (f1 : Nat → Nat → Int32) (fo1 : Nat → Int64) (σ1 : zS) (N1 : Nat) (th1 : Int32) (H1 : Heap) (locs1 : List Loc) (ls1 : Array Slot), zL G locs1 → lInv G H1 R1 A1 f1 fo1 σ1 (n + 1) N1 th1 o mo out → lv_has ls1 7 [(4, .int (nI i)), (3, .ref out), (2, .ref mo), (1, .ref o), (0, .ref b)] → W p l e R s m args below meth c H1 locs1 (cells + 64) (slots + 4000) Q (F0 m 1551 ls1 [])) : W p l e R s m args below meth c H locs cells slots Q (F0 m 630 ls []) := by
  refine lv_aload_n Z.hx Z.hb dL_law_630 rfl (lv_at hl 3 rfl) ?_
  refine lv_aload_n Z.hx Z.hb dL_law_631 rfl (lv_at hl 4 rfl) ?_
  refine lv_iload Z.hx Z.hb dL_law_632 (lv_at hl 0 rfl) ?_
  refine lv_iconst (v := 1) Z.hx Z.hb dL_law_634 (by decide) ?_
  refine lv_iadd Z.hx Z.hb dL_law_635 ?_
  refine z_top (x' := nI (i + 1)) (z_off i 1) ?_
  refine z_sldN Z hL hXs hbl hbA (k := (i + 1)) (by omega) hL3 dL_law_636 ?_
  refine lv_aload_n Z.hx Z.hb dL_law_637 rfl (lv_at hl 4 rfl) ?_
  refine lv_iload Z.hx Z.hb dL_law_638 (lv_at hl 0 rfl) ?_
  refine lv_iconst (v := 2) Z.hx Z.hb dL_law_640 (by decide) ?_
  refine lv_iadd Z.hx Z.hb dL_law_641 ?_
  refine z_top (x' := nI (i + 2)) (z_off i 2) ?_
  refine z_sldN Z hL hXs hbl hbA (k := (i + 2)) (by omega) hL3 dL_law_642 ?_
  -- LinkResolverLaw.go
  refine z_wcallSW0 (rest := []) (As := [.ref o, .int (xs (i + 1)), .int (xs (i + 2))]) Z (w_go G l hl0 H Rr σ n o hI.1 hn hI.2.2.1 out fo hI.2.2.2.2.1.1 hI.2.2.2.2.2.1.1 hI.2.2.2.2.1.2 (xs (i + 1)) (xs (i + 2))) gw_X0_111 gd_X0_111 rfl hl.1 (Nat.le_of_ble_eq_true rfl) rfl dL_law_643 ⟨⟨by omega, by omega⟩, by omega, by omega⟩ hL (fun H_1 locs hL hP_ => ?_)
  obtain ⟨R1_, hm_⟩ := hI.w0 hP_
  refine lv_istore (lv' := [(5, .int (kGo σ (xs (i + 1)) (xs (i + 2)))), (4, .int (nI i)), (3, .ref out), (2, .ref mo), (1, .ref o), (0, .ref b)]) Z.hx Z.hb dL_law_646 hl (by decide) rfl (fun ls hl => ?_)
  refine lv_aload_n Z.hx Z.hb dL_law_648 rfl (lv_at hl 3 rfl) ?_
  refine lv_aload_n Z.hx Z.hb dL_law_649 rfl (lv_at hl 5 rfl) ?_
  refine lv_iload Z.hx Z.hb dL_law_650 (lv_at hl 1 rfl) ?_
  refine lv_iconst (v := 1) Z.hx Z.hb dL_law_652 (by decide) ?_
  refine lv_iadd Z.hx Z.hb dL_law_653 ?_
  refine z_top (x' := nI (i + 1)) (z_off i 1) ?_
  refine z_sldN Z hL hXs hbl hbA (k := (i + 1)) (by omega) hL3 dL_law_654 ?_
  refine lv_aload_n Z.hx Z.hb dL_law_655 rfl (lv_at hl 5 rfl) ?_
  refine lv_iload Z.hx Z.hb dL_law_656 (lv_at hl 1 rfl) ?_
  refine lv_iconst (v := 2) Z.hx Z.hb dL_law_658 (by decide) ?_
  refine lv_iadd Z.hx Z.hb dL_law_659 ?_
  refine z_top (x' := nI (i + 2)) (z_off i 2) ?_
  refine z_sldN Z hL hXs hbl hbA (k := (i + 2)) (by omega) hL3 dL_law_660 ?_
  -- LinkResolverModel.go
  refine z_mcallV0 (rest := []) (As := [.int (xs (i + 1)), .int (xs (i + 2))]) Z (m_go G l H_1 mo A f hI.2.1.2.1 σ N th hm_.2.1 hI.2.1.2.2 hI.2.2.1 (Nat.lt_of_le_of_lt hI.2.2.2.1 (by omega)) (xs (i + 1)) (xs (i + 2))) gw_X0_114 gd_X0_114 rfl hm_.2.1.ob rfl hl.1 (Nat.le_of_ble_eq_true rfl) rfl dL_law_661 ⟨⟨by omega, by omega⟩, by omega, by omega⟩ hL (fun H_2 locs hL hP_ => ?_)
  have hwf_ : sWf (if kGo σ (xs (i + 1)) (xs (i + 2)) = 0 then sNote σ (xs (i + 1)).toNatClampNeg (xs (i + 2)).toNatClampNeg 0 0 0 0 else σ) := lWf hI.2.2.1 (fun hk => hI.2.2.1.note (lWf_p (k := 0) hI.2.2.1.2.2.1 (lk_kpt hk)) _ _ _ _)
  obtain ⟨v_, f2_, N2_, hM2_, hv2_, hx2_, hJ2_, hI2_⟩ := hI.m hm_ hP_ hwf_
  refine lv_aload_n Z.hx Z.hb dL_law_664 rfl (lv_at hl 3 rfl) ?_
  -- LinkResolverModel.thrown
  refine z_pcallV (rest := []) (As := []) Z (m_thrown G l H_2 mo A v_ f2_ hM2_) gw_X0_89 gd_X0_89 rfl hM2_.ob rfl hl.1 (Nat.le_of_ble_eq_true rfl) rfl dL_law_665 ⟨⟨by omega, by omega⟩, by omega, by omega⟩ hL (fun locs hL => ?_)
  refine z_top (x' := kGo σ (xs (i + 1)) (xs (i + 2))) hv2_ ?_
  refine lv_iload Z.hx Z.hb dL_law_668 (lv_at hl 0 rfl) ?_
  refine lv_icmp_eq (tgt := 675) Z.hx Z.hb dL_law_670 (by decide) (fun c670 => ?_) (fun c670 => ?_)
  · skip
    refine lv_goto (tgt := 1551) Z.hx Z.hb dL_law_675 (by decide) ?_
    refine W.widen (k := cells + 64) (n := slots + 4000) (by omega) (by omega) ?_
    exact kk _ _ _ _ _ _ _ H_2 _ ls hL hI2_ (lv_sub hl [1, 2, 3, 4, 5] rfl)
  · exact absurd rfl c670
set_option maxHeartbeats 4000000 in
set_option maxRecDepth 100000 in
theorem law_7 {G : zG} {p : Program} {l : Launch} {e : Env} {R : Room} {s : State} {m : MethodId} {args : Array Value} {below : List Frame} {meth : Method} {c : Code} {H : Heap} {locs : List Loc} {cells slots : Nat} {Q : State → Prop} {ls : Array Slot} {b L i : Nat} {xs : Nat → Int32} {Rr : xRo} {A : Nat → Nat} {f : Nat → Nat → Int32} {fo : Nat → Int64} {σ : zS} {n N o mo out : Nat} {th : Int32} (hl0 : l.stackTraces = false) (Z : zC G p s m args meth c RX0 cL_law 7) (hXs : va_X b L xs s s.heap) (hbl : b < s.heap.size) (hbA : ¬ zA G b) (hi6 : i + 6 ≤ L) (hL3 : L ≤ 384) (hI : lInv G H Rr A f fo σ n N th o mo out) (hn : n < 64) (hL : zL G locs) (hl : lv_has ls 7 [(4, .int (nI i)), (3, .ref out), (2, .ref mo), (1, .ref o), (0, .ref b)]) (hcR : cells + 64 ≤ R.cells) (hsR : slots + 4000 ≤ R.slots) (hfR : 22 ≤ R.frames) (hlR : 10936 ≤ R.locals)
    (kk : ∀ (R1 : xRo) (A1 : Nat → Nat) (f1 : Nat → Nat → Int32) (fo1 : Nat → Int64) (σ1 : zS) (N1 : Nat) (th1 : Int32) (H1 : Heap) (locs1 : List Loc) (ls1 : Array Slot), zL G locs1 → lInv G H1 R1 A1 f1 fo1 σ1 (n + 1) N1 th1 o mo out → lv_has ls1 7 [(4, .int (nI i)), (3, .ref out), (2, .ref mo), (1, .ref o), (0, .ref b)] → W p l e R s m args below meth c H1 locs1 (cells + 64) (slots + 4000) Q (F0 m 1551 ls1 [])) : W p l e R s m args below meth c H locs cells slots Q (F0 m 678 ls []) := by
  refine lv_aload_n Z.hx Z.hb dL_law_678 rfl (lv_at hl 3 rfl) ?_
  refine lv_aload_n Z.hx Z.hb dL_law_679 rfl (lv_at hl 4 rfl) ?_
  refine lv_iload Z.hx Z.hb dL_law_680 (lv_at hl 0 rfl) ?_
  refine lv_iconst (v := 1) Z.hx Z.hb dL_law_682 (by decide) ?_
  refine lv_iadd Z.hx Z.hb dL_law_683 ?_
  refine z_top (x' := nI (i + 1)) (z_off i 1) ?_
  refine z_sldN Z hL hXs hbl hbA (k := (i + 1)) (by omega) hL3 dL_law_684 ?_
  refine lv_aload_n Z.hx Z.hb dL_law_685 rfl (lv_at hl 1 rfl) ?_
  -- LinkResolverLaw.pass
  refine z_wcallSW (rest := []) (As := [.ref o, .int (xs (i + 1)), .ref out]) Z (w_pass G l hl0 H Rr σ n o hI.1 hn hI.2.2.1 out fo hI.2.2.2.2.1.1 hI.2.2.2.2.2.1.1 hI.2.2.2.2.1.2 (xs (i + 1))) gw_X0_115 gd_X0_115 rfl hl.1 (Nat.le_of_ble_eq_true rfl) rfl dL_law_686 ⟨⟨by omega, by omega⟩, by omega, by omega⟩ hL (fun H_1 locs hL hP_ => ?_)
  obtain ⟨R1_, f1_, hm_, hf1_⟩ := hI.w hP_
  refine lv_istore (lv' := [(5, .int (kPass σ (xs (i + 1)))), (4, .int (nI i)), (3, .ref out), (2, .ref mo), (1, .ref o), (0, .ref b)]) Z.hx Z.hb dL_law_689 hl (by decide) rfl (fun ls hl => ?_)
  refine lv_aload_n Z.hx Z.hb dL_law_691 rfl (lv_at hl 3 rfl) ?_
  refine lv_aload_n Z.hx Z.hb dL_law_692 rfl (lv_at hl 5 rfl) ?_
  refine lv_iload Z.hx Z.hb dL_law_693 (lv_at hl 1 rfl) ?_
  refine lv_iconst (v := 1) Z.hx Z.hb dL_law_695 (by decide) ?_
  refine lv_iadd Z.hx Z.hb dL_law_696 ?_
  refine z_top (x' := nI (i + 1)) (z_off i 1) ?_
  refine z_sldN Z hL hXs hbl hbA (k := (i + 1)) (by omega) hL3 dL_law_697 ?_
  -- LinkResolverModel.pass
  refine z_mcallV (rest := []) (As := [.int (xs (i + 1))]) Z (m_pass G l H_1 mo A f hI.2.1.2.1 σ N th hm_.2.1 hI.2.1.2.2 hI.2.2.1 (Nat.lt_of_le_of_lt hI.2.2.2.1 (by omega)) (xs (i + 1))) gw_X0_118 gd_X0_118 rfl hm_.2.1.ob rfl hl.1 (Nat.le_of_ble_eq_true rfl) rfl dL_law_698 ⟨⟨by omega, by omega⟩, by omega, by omega⟩ hL (fun x_ H_2 locs hL hP_ => ?_)
  have hwf_ : sWf (if kPass σ (xs (i + 1)) = 0 then sPass σ (xs (i + 1)) else σ) := lWf hI.2.2.1 (fun hk => hI.2.2.1.pass hk)
  obtain ⟨v_, f2_, N2_, hM2_, hv2_, hx2_, hJ2_, hI2_⟩ := hI.m hm_ hP_ hwf_
  refine lv_istore (lv' := [(6, .int x_), (5, .int (kPass σ (xs (i + 1)))), (4, .int (nI i)), (3, .ref out), (2, .ref mo), (1, .ref o), (0, .ref b)]) Z.hx Z.hb dL_law_701 hl (by decide) rfl (fun ls hl => ?_)
  refine lv_aload_n Z.hx Z.hb dL_law_703 rfl (lv_at hl 4 rfl) ?_
  -- LinkResolverModel.thrown
  refine z_pcallV (rest := []) (As := []) Z (m_thrown G l H_2 mo A v_ f2_ hM2_) gw_X0_89 gd_X0_89 rfl hM2_.ob rfl hl.1 (Nat.le_of_ble_eq_true rfl) rfl dL_law_704 ⟨⟨by omega, by omega⟩, by omega, by omega⟩ hL (fun locs hL => ?_)
  refine z_top (x' := kPass σ (xs (i + 1))) hv2_ ?_
  refine lv_iload Z.hx Z.hb dL_law_707 (lv_at hl 1 rfl) ?_
  refine lv_icmp_eq (tgt := 714) Z.hx Z.hb dL_law_709 (by decide) (fun c709 => ?_) (fun c709 => ?_)
  · skip
    refine lv_iload Z.hx Z.hb dL_law_714 (lv_at hl 1 rfl) ?_
    refine lv_if_ne (tgt := 731) Z.hx Z.hb dL_law_716 (by decide) (fun c716 => ?_) (fun c716 => ?_)
    · skip
      refine lv_goto (tgt := 1551) Z.hx Z.hb dL_law_731 (by decide) ?_
      refine W.widen (k := cells + 64) (n := slots + 4000) (by omega) (by omega) ?_
      exact kk _ _ _ _ _ _ _ H_2 _ ls hL hI2_ (lv_sub hl [2, 3, 4, 5, 6] rfl)
    · skip
      have hk9_ : kPass σ (xs (i + 1)) = 0 := c716
      refine lv_aload_n Z.hx Z.hb dL_law_719 rfl (lv_at hl 3 rfl) ?_
      refine lv_iconst (v := 0) Z.hx Z.hb dL_law_720 (by decide) ?_
      refine z_lald0 Z hJ2_ (by decide) dL_law_721 ?_
      refine lv_iload Z.hx Z.hb dL_law_722 (lv_at hl 0 rfl) ?_
      refine lv_i2l (v := x_.toInt64) Z.hx Z.hb dL_law_724 rfl ?_
      refine z_lcmpE Z ((hf1_ hk9_).trans (by rw [hx2_ hk9_])) dL_law_725 ?_
      refine lv_if_eq (tgt := 731) Z.hx Z.hb dL_law_726 (by decide) (fun c726 => ?_) (fun c726 => ?_)
      · skip
        refine lv_goto (tgt := 1551) Z.hx Z.hb dL_law_731 (by decide) ?_
        refine W.widen (k := cells + 64) (n := slots + 4000) (by omega) (by omega) ?_
        exact kk _ _ _ _ _ _ _ H_2 _ ls hL hI2_ (lv_sub hl [2, 3, 4, 5, 6] rfl)
      · exact absurd (by decide) c726
  · exact absurd rfl c709
set_option maxHeartbeats 4000000 in
set_option maxRecDepth 100000 in
theorem law_9 {G : zG} {p : Program} {l : Launch} {e : Env} {R : Room} {s : State} {m : MethodId} {args : Array Value} {below : List Frame} {meth : Method} {c : Code} {H : Heap} {locs : List Loc} {cells slots : Nat} {Q : State → Prop} {ls : Array Slot} {b L i : Nat} {xs : Nat → Int32} {Rr : xRo} {A : Nat → Nat} {f : Nat → Nat → Int32} {fo : Nat → Int64} {σ : zS} {n N o mo out : Nat} {th : Int32} (hl0 : l.stackTraces = false) (Z : zC G p s m args meth c RX0 cL_law 7) (hXs : va_X b L xs s s.heap) (hbl : b < s.heap.size) (hbA : ¬ zA G b) (hi6 : i + 6 ≤ L) (hL3 : L ≤ 384) (hI : lInv G H Rr A f fo σ n N th o mo out) (hn : n < 64) (hL : zL G locs) (hl : lv_has ls 7 [(4, .int (nI i)), (3, .ref out), (2, .ref mo), (1, .ref o), (0, .ref b)]) (hcR : cells + 64 ≤ R.cells) (hsR : slots + 4000 ≤ R.slots) (hfR : 22 ≤ R.frames) (hlR : 10936 ≤ R.locals)
    (kk : ∀ (R1 : xRo) (A1 : Nat → Nat) (f1 : Nat → Nat → Int32) (fo1 : Nat → Int64) (σ1 : zS) (N1 : Nat) (th1 : Int32) (H1 : Heap) (locs1 : List Loc) (ls1 : Array Slot), zL G locs1 → lInv G H1 R1 A1 f1 fo1 σ1 (n + 1) N1 th1 o mo out → lv_has ls1 7 [(4, .int (nI i)), (3, .ref out), (2, .ref mo), (1, .ref o), (0, .ref b)] → W p l e R s m args below meth c H1 locs1 (cells + 64) (slots + 4000) Q (F0 m 1551 ls1 [])) : W p l e R s m args below meth c H locs cells slots Q (F0 m 747 ls []) := by
  refine lv_aload_n Z.hx Z.hb dL_law_747 rfl (lv_at hl 3 rfl) ?_
  refine lv_aload_n Z.hx Z.hb dL_law_748 rfl (lv_at hl 4 rfl) ?_
  refine lv_iload Z.hx Z.hb dL_law_749 (lv_at hl 0 rfl) ?_
  refine lv_iconst (v := 1) Z.hx Z.hb dL_law_751 (by decide) ?_
  refine lv_iadd Z.hx Z.hb dL_law_752 ?_
  refine z_top (x' := nI (i + 1)) (z_off i 1) ?_
  refine z_sldN Z hL hXs hbl hbA (k := (i + 1)) (by omega) hL3 dL_law_753 ?_
  refine lv_aload_n Z.hx Z.hb dL_law_754 rfl (lv_at hl 4 rfl) ?_
  refine lv_iload Z.hx Z.hb dL_law_755 (lv_at hl 0 rfl) ?_
  refine lv_iconst (v := 2) Z.hx Z.hb dL_law_757 (by decide) ?_
  refine lv_iadd Z.hx Z.hb dL_law_758 ?_
  refine z_top (x' := nI (i + 2)) (z_off i 2) ?_
  refine z_sldN Z hL hXs hbl hbA (k := (i + 2)) (by omega) hL3 dL_law_759 ?_
  refine lv_aload_n Z.hx Z.hb dL_law_760 rfl (lv_at hl 1 rfl) ?_
  -- LinkResolverLaw.isSubscribed
  refine z_wcallSW (rest := []) (As := [.ref o, .int (xs (i + 1)), .int (xs (i + 2)), .ref out]) Z (w_isSubscribed G l hl0 H Rr σ n o hI.1 hn hI.2.2.1 out fo hI.2.2.2.2.1.1 hI.2.2.2.2.2.1.1 hI.2.2.2.2.1.2 (xs (i + 1)) (xs (i + 2))) gw_X0_123 gd_X0_123 rfl hl.1 (Nat.le_of_ble_eq_true rfl) rfl dL_law_761 ⟨⟨by omega, by omega⟩, by omega, by omega⟩ hL (fun H_1 locs hL hP_ => ?_)
  obtain ⟨R1_, f1_, hm_, hf1_⟩ := hI.w hP_
  refine lv_istore (lv' := [(5, .int (kSub σ (xs (i + 1)) (xs (i + 2)))), (4, .int (nI i)), (3, .ref out), (2, .ref mo), (1, .ref o), (0, .ref b)]) Z.hx Z.hb dL_law_764 hl (by decide) rfl (fun ls hl => ?_)
  refine lv_aload_n Z.hx Z.hb dL_law_766 rfl (lv_at hl 3 rfl) ?_
  refine lv_aload_n Z.hx Z.hb dL_law_767 rfl (lv_at hl 5 rfl) ?_
  refine lv_iload Z.hx Z.hb dL_law_768 (lv_at hl 1 rfl) ?_
  refine lv_iconst (v := 1) Z.hx Z.hb dL_law_770 (by decide) ?_
  refine lv_iadd Z.hx Z.hb dL_law_771 ?_
  refine z_top (x' := nI (i + 1)) (z_off i 1) ?_
  refine z_sldN Z hL hXs hbl hbA (k := (i + 1)) (by omega) hL3 dL_law_772 ?_
  refine lv_aload_n Z.hx Z.hb dL_law_773 rfl (lv_at hl 5 rfl) ?_
  refine lv_iload Z.hx Z.hb dL_law_774 (lv_at hl 1 rfl) ?_
  refine lv_iconst (v := 2) Z.hx Z.hb dL_law_776 (by decide) ?_
  refine lv_iadd Z.hx Z.hb dL_law_777 ?_
  refine z_top (x' := nI (i + 2)) (z_off i 2) ?_
  refine z_sldN Z hL hXs hbl hbA (k := (i + 2)) (by omega) hL3 dL_law_778 ?_
  -- LinkResolverModel.isSubscribed
  refine z_mcallV (rest := []) (As := [.int (xs (i + 1)), .int (xs (i + 2))]) Z (m_isSubscribed G l H_1 mo A f hI.2.1.2.1 σ N th hm_.2.1 hI.2.1.2.2 hI.2.2.1 (Nat.lt_of_le_of_lt hI.2.2.2.1 (by omega)) (xs (i + 1)) (xs (i + 2))) gw_X0_125 gd_X0_125 rfl hm_.2.1.ob rfl hl.1 (Nat.le_of_ble_eq_true rfl) rfl dL_law_779 ⟨⟨by omega, by omega⟩, by omega, by omega⟩ hL (fun x_ H_2 locs hL hP_ => ?_)
  have hwf_ : sWf (if kSub σ (xs (i + 1)) (xs (i + 2)) = 0 then σ else σ) := lWf hI.2.2.1 (fun hk => hI.2.2.1)
  obtain ⟨v_, f2_, N2_, hM2_, hv2_, hx2_, hJ2_, hI2_⟩ := hI.m hm_ hP_ hwf_
  have hx01_ : kSub σ (xs (i + 1)) (xs (i + 2)) = 0 → x_ = 0 ∨ x_ = 1 := fun h => by rw [hx2_ h]; exact zb_01
  refine lv_istore (lv' := [(6, .int x_), (5, .int (kSub σ (xs (i + 1)) (xs (i + 2)))), (4, .int (nI i)), (3, .ref out), (2, .ref mo), (1, .ref o), (0, .ref b)]) Z.hx Z.hb dL_law_782 hl (by decide) rfl (fun ls hl => ?_)
  refine lv_aload_n Z.hx Z.hb dL_law_784 rfl (lv_at hl 4 rfl) ?_
  -- LinkResolverModel.thrown
  refine z_pcallV (rest := []) (As := []) Z (m_thrown G l H_2 mo A v_ f2_ hM2_) gw_X0_89 gd_X0_89 rfl hM2_.ob rfl hl.1 (Nat.le_of_ble_eq_true rfl) rfl dL_law_785 ⟨⟨by omega, by omega⟩, by omega, by omega⟩ hL (fun locs hL => ?_)
  refine z_top (x' := kSub σ (xs (i + 1)) (xs (i + 2))) hv2_ ?_
  refine lv_iload Z.hx Z.hb dL_law_788 (lv_at hl 1 rfl) ?_
  refine lv_icmp_eq (tgt := 795) Z.hx Z.hb dL_law_790 (by decide) (fun c790 => ?_) (fun c790 => ?_)
  · skip
    refine lv_iload Z.hx Z.hb dL_law_795 (lv_at hl 1 rfl) ?_
    refine lv_if_ne (tgt := 819) Z.hx Z.hb dL_law_797 (by decide) (fun c797 => ?_) (fun c797 => ?_)
    · skip
      refine lv_goto (tgt := 1551) Z.hx Z.hb dL_law_819 (by decide) ?_
      refine W.widen (k := cells + 64) (n := slots + 4000) (by omega) (by omega) ?_
      exact kk _ _ _ _ _ _ _ H_2 _ ls hL hI2_ (lv_sub hl [2, 3, 4, 5, 6] rfl)
    · skip
      have hk9_ : kSub σ (xs (i + 1)) (xs (i + 2)) = 0 := c797
      refine lv_aload_n Z.hx Z.hb dL_law_800 rfl (lv_at hl 3 rfl) ?_
      refine lv_iconst (v := 0) Z.hx Z.hb dL_law_801 (by decide) ?_
      refine z_lald0 Z hJ2_ (by decide) dL_law_802 ?_
      refine lv_iload Z.hx Z.hb dL_law_803 (lv_at hl 0 rfl) ?_
      refine lv_if_eq (tgt := 812) Z.hx Z.hb dL_law_805 (by decide) (fun cb805 => ?_) (fun cb805 => ?_)
      · skip
        refine lv_lconst (v := 0) Z.hx Z.hb dL_law_812 (by decide) ?_
        have hb9_ : x_ = 0 := cb805
        refine z_lcmpE Z ((hf1_ hk9_).trans (by rw [← hx2_ hk9_, hb9_]; rfl)) dL_law_813 ?_
        refine lv_if_eq (tgt := 819) Z.hx Z.hb dL_law_814 (by decide) (fun c814 => ?_) (fun c814 => ?_)
        · skip
          refine lv_goto (tgt := 1551) Z.hx Z.hb dL_law_819 (by decide) ?_
          refine W.widen (k := cells + 64) (n := slots + 4000) (by omega) (by omega) ?_
          exact kk _ _ _ _ _ _ _ H_2 _ ls hL hI2_ (lv_sub hl [2, 3, 4, 5, 6] rfl)
        · exact absurd (by decide) c814
      · skip
        refine lv_lconst (v := 1) Z.hx Z.hb dL_law_808 (by decide) ?_
        refine lv_goto (tgt := 813) Z.hx Z.hb dL_law_809 (by decide) ?_
        have hb9_ : x_ = 1 := (hx01_ hk9_).resolve_left cb805
        refine z_lcmpE Z ((hf1_ hk9_).trans (by rw [← hx2_ hk9_, hb9_]; rfl)) dL_law_813 ?_
        refine lv_if_eq (tgt := 819) Z.hx Z.hb dL_law_814 (by decide) (fun c814 => ?_) (fun c814 => ?_)
        · skip
          refine lv_goto (tgt := 1551) Z.hx Z.hb dL_law_819 (by decide) ?_
          refine W.widen (k := cells + 64) (n := slots + 4000) (by omega) (by omega) ?_
          exact kk _ _ _ _ _ _ _ H_2 _ ls hL hI2_ (lv_sub hl [2, 3, 4, 5, 6] rfl)
        · exact absurd (by decide) c814
  · exact absurd rfl c790
set_option maxHeartbeats 4000000 in
set_option maxRecDepth 100000 in
theorem law_10 {G : zG} {p : Program} {l : Launch} {e : Env} {R : Room} {s : State} {m : MethodId} {args : Array Value} {below : List Frame} {meth : Method} {c : Code} {H : Heap} {locs : List Loc} {cells slots : Nat} {Q : State → Prop} {ls : Array Slot} {b L i : Nat} {xs : Nat → Int32} {Rr : xRo} {A : Nat → Nat} {f : Nat → Nat → Int32} {fo : Nat → Int64} {σ : zS} {n N o mo out : Nat} {th : Int32} (hl0 : l.stackTraces = false) (Z : zC G p s m args meth c RX0 cL_law 7) (hXs : va_X b L xs s s.heap) (hbl : b < s.heap.size) (hbA : ¬ zA G b) (hi6 : i + 6 ≤ L) (hL3 : L ≤ 384) (hI : lInv G H Rr A f fo σ n N th o mo out) (hn : n < 64) (hL : zL G locs) (hl : lv_has ls 7 [(4, .int (nI i)), (3, .ref out), (2, .ref mo), (1, .ref o), (0, .ref b)]) (hcR : cells + 64 ≤ R.cells) (hsR : slots + 4000 ≤ R.slots) (hfR : 22 ≤ R.frames) (hlR : 10936 ≤ R.locals)
    (kk : ∀ (R1 : xRo) (A1 : Nat → Nat) (f1 : Nat → Nat → Int32) (fo1 : Nat → Int64) (σ1 : zS) (N1 : Nat) (th1 : Int32) (H1 : Heap) (locs1 : List Loc) (ls1 : Array Slot), zL G locs1 → lInv G H1 R1 A1 f1 fo1 σ1 (n + 1) N1 th1 o mo out → lv_has ls1 7 [(4, .int (nI i)), (3, .ref out), (2, .ref mo), (1, .ref o), (0, .ref b)] → W p l e R s m args below meth c H1 locs1 (cells + 64) (slots + 4000) Q (F0 m 1551 ls1 [])) : W p l e R s m args below meth c H locs cells slots Q (F0 m 822 ls []) := by
  refine lv_aload_n Z.hx Z.hb dL_law_822 rfl (lv_at hl 3 rfl) ?_
  refine lv_aload_n Z.hx Z.hb dL_law_823 rfl (lv_at hl 4 rfl) ?_
  refine lv_iload Z.hx Z.hb dL_law_824 (lv_at hl 0 rfl) ?_
  refine lv_iconst (v := 1) Z.hx Z.hb dL_law_826 (by decide) ?_
  refine lv_iadd Z.hx Z.hb dL_law_827 ?_
  refine z_top (x' := nI (i + 1)) (z_off i 1) ?_
  refine z_sldN Z hL hXs hbl hbA (k := (i + 1)) (by omega) hL3 dL_law_828 ?_
  refine lv_aload_n Z.hx Z.hb dL_law_829 rfl (lv_at hl 4 rfl) ?_
  refine lv_iload Z.hx Z.hb dL_law_830 (lv_at hl 0 rfl) ?_
  refine lv_iconst (v := 2) Z.hx Z.hb dL_law_832 (by decide) ?_
  refine lv_iadd Z.hx Z.hb dL_law_833 ?_
  refine z_top (x' := nI (i + 2)) (z_off i 2) ?_
  refine z_sldN Z hL hXs hbl hbA (k := (i + 2)) (by omega) hL3 dL_law_834 ?_
  refine lv_aload_n Z.hx Z.hb dL_law_835 rfl (lv_at hl 4 rfl) ?_
  refine lv_iload Z.hx Z.hb dL_law_836 (lv_at hl 0 rfl) ?_
  refine lv_iconst (v := 3) Z.hx Z.hb dL_law_838 (by decide) ?_
  refine lv_iadd Z.hx Z.hb dL_law_839 ?_
  refine z_top (x' := nI (i + 3)) (z_off i 3) ?_
  refine z_sldN Z hL hXs hbl hbA (k := (i + 3)) (by omega) hL3 dL_law_840 ?_
  refine lv_aload_n Z.hx Z.hb dL_law_841 rfl (lv_at hl 1 rfl) ?_
  -- LinkResolverLaw.isIn
  refine z_wcallSW (rest := []) (As := [.ref o, .int (xs (i + 1)), .int (xs (i + 2)), .int (xs (i + 3)), .ref out]) Z (w_isIn G l hl0 H Rr σ n o hI.1 hn hI.2.2.1 out fo hI.2.2.2.2.1.1 hI.2.2.2.2.2.1.1 hI.2.2.2.2.1.2 (xs (i + 1)) (xs (i + 2)) (xs (i + 3))) gw_X0_126 gd_X0_126 rfl hl.1 (Nat.le_of_ble_eq_true rfl) rfl dL_law_842 ⟨⟨by omega, by omega⟩, by omega, by omega⟩ hL (fun H_1 locs hL hP_ => ?_)
  obtain ⟨R1_, f1_, hm_, hf1_⟩ := hI.w hP_
  refine lv_istore (lv' := [(5, .int (kIn σ (xs (i + 1)) (xs (i + 2)) (xs (i + 3)))), (4, .int (nI i)), (3, .ref out), (2, .ref mo), (1, .ref o), (0, .ref b)]) Z.hx Z.hb dL_law_845 hl (by decide) rfl (fun ls hl => ?_)
  refine lv_aload_n Z.hx Z.hb dL_law_847 rfl (lv_at hl 3 rfl) ?_
  refine lv_aload_n Z.hx Z.hb dL_law_848 rfl (lv_at hl 5 rfl) ?_
  refine lv_iload Z.hx Z.hb dL_law_849 (lv_at hl 1 rfl) ?_
  refine lv_iconst (v := 1) Z.hx Z.hb dL_law_851 (by decide) ?_
  refine lv_iadd Z.hx Z.hb dL_law_852 ?_
  refine z_top (x' := nI (i + 1)) (z_off i 1) ?_
  refine z_sldN Z hL hXs hbl hbA (k := (i + 1)) (by omega) hL3 dL_law_853 ?_
  refine lv_aload_n Z.hx Z.hb dL_law_854 rfl (lv_at hl 5 rfl) ?_
  refine lv_iload Z.hx Z.hb dL_law_855 (lv_at hl 1 rfl) ?_
  refine lv_iconst (v := 2) Z.hx Z.hb dL_law_857 (by decide) ?_
  refine lv_iadd Z.hx Z.hb dL_law_858 ?_
  refine z_top (x' := nI (i + 2)) (z_off i 2) ?_
  refine z_sldN Z hL hXs hbl hbA (k := (i + 2)) (by omega) hL3 dL_law_859 ?_
  refine lv_aload_n Z.hx Z.hb dL_law_860 rfl (lv_at hl 5 rfl) ?_
  refine lv_iload Z.hx Z.hb dL_law_861 (lv_at hl 1 rfl) ?_
  refine lv_iconst (v := 3) Z.hx Z.hb dL_law_863 (by decide) ?_
  refine lv_iadd Z.hx Z.hb dL_law_864 ?_
  refine z_top (x' := nI (i + 3)) (z_off i 3) ?_
  refine z_sldN Z hL hXs hbl hbA (k := (i + 3)) (by omega) hL3 dL_law_865 ?_
  -- LinkResolverModel.isIn
  refine z_mcallV (rest := []) (As := [.int (xs (i + 1)), .int (xs (i + 2)), .int (xs (i + 3))]) Z (m_isIn G l H_1 mo A f hI.2.1.2.1 σ N th hm_.2.1 hI.2.1.2.2 hI.2.2.1 (Nat.lt_of_le_of_lt hI.2.2.2.1 (by omega)) (xs (i + 1)) (xs (i + 2)) (xs (i + 3))) gw_X0_129 gd_X0_129 rfl hm_.2.1.ob rfl hl.1 (Nat.le_of_ble_eq_true rfl) rfl dL_law_866 ⟨⟨by omega, by omega⟩, by omega, by omega⟩ hL (fun x_ H_2 locs hL hP_ => ?_)
  have hwf_ : sWf (if kIn σ (xs (i + 1)) (xs (i + 2)) (xs (i + 3)) = 0 then σ else σ) := lWf hI.2.2.1 (fun hk => hI.2.2.1)
  obtain ⟨v_, f2_, N2_, hM2_, hv2_, hx2_, hJ2_, hI2_⟩ := hI.m hm_ hP_ hwf_
  have hx01_ : kIn σ (xs (i + 1)) (xs (i + 2)) (xs (i + 3)) = 0 → x_ = 0 ∨ x_ = 1 := fun h => by rw [hx2_ h]; exact zb_01
  refine lv_istore (lv' := [(6, .int x_), (5, .int (kIn σ (xs (i + 1)) (xs (i + 2)) (xs (i + 3)))), (4, .int (nI i)), (3, .ref out), (2, .ref mo), (1, .ref o), (0, .ref b)]) Z.hx Z.hb dL_law_869 hl (by decide) rfl (fun ls hl => ?_)
  refine lv_aload_n Z.hx Z.hb dL_law_871 rfl (lv_at hl 4 rfl) ?_
  -- LinkResolverModel.thrown
  refine z_pcallV (rest := []) (As := []) Z (m_thrown G l H_2 mo A v_ f2_ hM2_) gw_X0_89 gd_X0_89 rfl hM2_.ob rfl hl.1 (Nat.le_of_ble_eq_true rfl) rfl dL_law_872 ⟨⟨by omega, by omega⟩, by omega, by omega⟩ hL (fun locs hL => ?_)
  refine z_top (x' := kIn σ (xs (i + 1)) (xs (i + 2)) (xs (i + 3))) hv2_ ?_
  refine lv_iload Z.hx Z.hb dL_law_875 (lv_at hl 1 rfl) ?_
  refine lv_icmp_eq (tgt := 882) Z.hx Z.hb dL_law_877 (by decide) (fun c877 => ?_) (fun c877 => ?_)
  · skip
    refine lv_iload Z.hx Z.hb dL_law_882 (lv_at hl 1 rfl) ?_
    refine lv_if_ne (tgt := 906) Z.hx Z.hb dL_law_884 (by decide) (fun c884 => ?_) (fun c884 => ?_)
    · skip
      refine lv_goto (tgt := 1551) Z.hx Z.hb dL_law_906 (by decide) ?_
      refine W.widen (k := cells + 64) (n := slots + 4000) (by omega) (by omega) ?_
      exact kk _ _ _ _ _ _ _ H_2 _ ls hL hI2_ (lv_sub hl [2, 3, 4, 5, 6] rfl)
    · skip
      have hk9_ : kIn σ (xs (i + 1)) (xs (i + 2)) (xs (i + 3)) = 0 := c884
      refine lv_aload_n Z.hx Z.hb dL_law_887 rfl (lv_at hl 3 rfl) ?_
      refine lv_iconst (v := 0) Z.hx Z.hb dL_law_888 (by decide) ?_
      refine z_lald0 Z hJ2_ (by decide) dL_law_889 ?_
      refine lv_iload Z.hx Z.hb dL_law_890 (lv_at hl 0 rfl) ?_
      refine lv_if_eq (tgt := 899) Z.hx Z.hb dL_law_892 (by decide) (fun cb892 => ?_) (fun cb892 => ?_)
      · skip
        refine lv_lconst (v := 0) Z.hx Z.hb dL_law_899 (by decide) ?_
        have hb9_ : x_ = 0 := cb892
        refine z_lcmpE Z ((hf1_ hk9_).trans (by rw [← hx2_ hk9_, hb9_]; rfl)) dL_law_900 ?_
        refine lv_if_eq (tgt := 906) Z.hx Z.hb dL_law_901 (by decide) (fun c901 => ?_) (fun c901 => ?_)
        · skip
          refine lv_goto (tgt := 1551) Z.hx Z.hb dL_law_906 (by decide) ?_
          refine W.widen (k := cells + 64) (n := slots + 4000) (by omega) (by omega) ?_
          exact kk _ _ _ _ _ _ _ H_2 _ ls hL hI2_ (lv_sub hl [2, 3, 4, 5, 6] rfl)
        · exact absurd (by decide) c901
      · skip
        refine lv_lconst (v := 1) Z.hx Z.hb dL_law_895 (by decide) ?_
        refine lv_goto (tgt := 900) Z.hx Z.hb dL_law_896 (by decide) ?_
        have hb9_ : x_ = 1 := (hx01_ hk9_).resolve_left cb892
        refine z_lcmpE Z ((hf1_ hk9_).trans (by rw [← hx2_ hk9_, hb9_]; rfl)) dL_law_900 ?_
        refine lv_if_eq (tgt := 906) Z.hx Z.hb dL_law_901 (by decide) (fun c901 => ?_) (fun c901 => ?_)
        · skip
          refine lv_goto (tgt := 1551) Z.hx Z.hb dL_law_906 (by decide) ?_
          refine W.widen (k := cells + 64) (n := slots + 4000) (by omega) (by omega) ?_
          exact kk _ _ _ _ _ _ _ H_2 _ ls hL hI2_ (lv_sub hl [2, 3, 4, 5, 6] rfl)
        · exact absurd (by decide) c901
  · exact absurd rfl c877
set_option maxHeartbeats 4000000 in
set_option maxRecDepth 100000 in
theorem law_11 {G : zG} {p : Program} {l : Launch} {e : Env} {R : Room} {s : State} {m : MethodId} {args : Array Value} {below : List Frame} {meth : Method} {c : Code} {H : Heap} {locs : List Loc} {cells slots : Nat} {Q : State → Prop} {ls : Array Slot} {b L i : Nat} {xs : Nat → Int32} {Rr : xRo} {A : Nat → Nat} {f : Nat → Nat → Int32} {fo : Nat → Int64} {σ : zS} {n N o mo out : Nat} {th : Int32} (hl0 : l.stackTraces = false) (Z : zC G p s m args meth c RX0 cL_law 7) (hXs : va_X b L xs s s.heap) (hbl : b < s.heap.size) (hbA : ¬ zA G b) (hi6 : i + 6 ≤ L) (hL3 : L ≤ 384) (hI : lInv G H Rr A f fo σ n N th o mo out) (hn : n < 64) (hL : zL G locs) (hl : lv_has ls 7 [(4, .int (nI i)), (3, .ref out), (2, .ref mo), (1, .ref o), (0, .ref b)]) (hcR : cells + 64 ≤ R.cells) (hsR : slots + 4000 ≤ R.slots) (hfR : 22 ≤ R.frames) (hlR : 10936 ≤ R.locals)
    (kk : ∀ (R1 : xRo) (A1 : Nat → Nat) (f1 : Nat → Nat → Int32) (fo1 : Nat → Int64) (σ1 : zS) (N1 : Nat) (th1 : Int32) (H1 : Heap) (locs1 : List Loc) (ls1 : Array Slot), zL G locs1 → lInv G H1 R1 A1 f1 fo1 σ1 (n + 1) N1 th1 o mo out → lv_has ls1 7 [(4, .int (nI i)), (3, .ref out), (2, .ref mo), (1, .ref o), (0, .ref b)] → W p l e R s m args below meth c H1 locs1 (cells + 64) (slots + 4000) Q (F0 m 1551 ls1 [])) : W p l e R s m args below meth c H locs cells slots Q (F0 m 909 ls []) := by
  refine lv_aload_n Z.hx Z.hb dL_law_909 rfl (lv_at hl 3 rfl) ?_
  refine lv_aload_n Z.hx Z.hb dL_law_910 rfl (lv_at hl 4 rfl) ?_
  refine lv_iload Z.hx Z.hb dL_law_911 (lv_at hl 0 rfl) ?_
  refine lv_iconst (v := 1) Z.hx Z.hb dL_law_913 (by decide) ?_
  refine lv_iadd Z.hx Z.hb dL_law_914 ?_
  refine z_top (x' := nI (i + 1)) (z_off i 1) ?_
  refine z_sldN Z hL hXs hbl hbA (k := (i + 1)) (by omega) hL3 dL_law_915 ?_
  refine lv_aload_n Z.hx Z.hb dL_law_916 rfl (lv_at hl 4 rfl) ?_
  refine lv_iload Z.hx Z.hb dL_law_917 (lv_at hl 0 rfl) ?_
  refine lv_iconst (v := 2) Z.hx Z.hb dL_law_919 (by decide) ?_
  refine lv_iadd Z.hx Z.hb dL_law_920 ?_
  refine z_top (x' := nI (i + 2)) (z_off i 2) ?_
  refine z_sldN Z hL hXs hbl hbA (k := (i + 2)) (by omega) hL3 dL_law_921 ?_
  refine lv_aload_n Z.hx Z.hb dL_law_922 rfl (lv_at hl 1 rfl) ?_
  -- LinkResolverLaw.report
  refine z_wcallSW (rest := []) (As := [.ref o, .int (xs (i + 1)), .int (xs (i + 2)), .ref out]) Z (w_report G l hl0 H Rr σ n o hI.1 hn hI.2.2.1 out fo hI.2.2.2.2.1.1 hI.2.2.2.2.2.1.1 hI.2.2.2.2.1.2 (xs (i + 1)) (xs (i + 2))) gw_X0_130 gd_X0_130 rfl hl.1 (Nat.le_of_ble_eq_true rfl) rfl dL_law_923 ⟨⟨by omega, by omega⟩, by omega, by omega⟩ hL (fun H_1 locs hL hP_ => ?_)
  obtain ⟨R1_, f1_, hm_, hf1_⟩ := hI.w hP_
  refine lv_istore (lv' := [(5, .int (kRep σ (xs (i + 1)) (xs (i + 2)))), (4, .int (nI i)), (3, .ref out), (2, .ref mo), (1, .ref o), (0, .ref b)]) Z.hx Z.hb dL_law_926 hl (by decide) rfl (fun ls hl => ?_)
  refine lv_aload_n Z.hx Z.hb dL_law_928 rfl (lv_at hl 3 rfl) ?_
  refine lv_aload_n Z.hx Z.hb dL_law_929 rfl (lv_at hl 5 rfl) ?_
  refine lv_iload Z.hx Z.hb dL_law_930 (lv_at hl 1 rfl) ?_
  refine lv_iconst (v := 1) Z.hx Z.hb dL_law_932 (by decide) ?_
  refine lv_iadd Z.hx Z.hb dL_law_933 ?_
  refine z_top (x' := nI (i + 1)) (z_off i 1) ?_
  refine z_sldN Z hL hXs hbl hbA (k := (i + 1)) (by omega) hL3 dL_law_934 ?_
  refine lv_aload_n Z.hx Z.hb dL_law_935 rfl (lv_at hl 5 rfl) ?_
  refine lv_iload Z.hx Z.hb dL_law_936 (lv_at hl 1 rfl) ?_
  refine lv_iconst (v := 2) Z.hx Z.hb dL_law_938 (by decide) ?_
  refine lv_iadd Z.hx Z.hb dL_law_939 ?_
  refine z_top (x' := nI (i + 2)) (z_off i 2) ?_
  refine z_sldN Z hL hXs hbl hbA (k := (i + 2)) (by omega) hL3 dL_law_940 ?_
  -- LinkResolverModel.report
  refine z_mcallV (rest := []) (As := [.int (xs (i + 1)), .int (xs (i + 2))]) Z (m_report G l H_1 mo A f hI.2.1.2.1 σ N th hm_.2.1 hI.2.1.2.2 hI.2.2.1 (Nat.lt_of_le_of_lt hI.2.2.2.1 (by omega)) (xs (i + 1)) (xs (i + 2))) gw_X0_132 gd_X0_132 rfl hm_.2.1.ob rfl hl.1 (Nat.le_of_ble_eq_true rfl) rfl dL_law_941 ⟨⟨by omega, by omega⟩, by omega, by omega⟩ hL (fun x_ H_2 locs hL hP_ => ?_)
  have hwf_ : sWf (if kRep σ (xs (i + 1)) (xs (i + 2)) = 0 then sPutB σ (xs (i + 1)).toNatClampNeg (xs (i + 2)).toNatClampNeg (sB σ (xs (i + 1)).toNatClampNeg (xs (i + 2)).toNatClampNeg + 1) else σ) := lWf hI.2.2.1 (fun hk => hI.2.2.1.putB (lWf_p (k := 0) hI.2.2.1.2.2.1 (lk_kpt hk)) _)
  obtain ⟨v_, f2_, N2_, hM2_, hv2_, hx2_, hJ2_, hI2_⟩ := hI.m hm_ hP_ hwf_
  refine lv_istore (lv' := [(6, .int x_), (5, .int (kRep σ (xs (i + 1)) (xs (i + 2)))), (4, .int (nI i)), (3, .ref out), (2, .ref mo), (1, .ref o), (0, .ref b)]) Z.hx Z.hb dL_law_944 hl (by decide) rfl (fun ls hl => ?_)
  refine lv_aload_n Z.hx Z.hb dL_law_946 rfl (lv_at hl 4 rfl) ?_
  -- LinkResolverModel.thrown
  refine z_pcallV (rest := []) (As := []) Z (m_thrown G l H_2 mo A v_ f2_ hM2_) gw_X0_89 gd_X0_89 rfl hM2_.ob rfl hl.1 (Nat.le_of_ble_eq_true rfl) rfl dL_law_947 ⟨⟨by omega, by omega⟩, by omega, by omega⟩ hL (fun locs hL => ?_)
  refine z_top (x' := kRep σ (xs (i + 1)) (xs (i + 2))) hv2_ ?_
  refine lv_iload Z.hx Z.hb dL_law_950 (lv_at hl 1 rfl) ?_
  refine lv_icmp_eq (tgt := 957) Z.hx Z.hb dL_law_952 (by decide) (fun c952 => ?_) (fun c952 => ?_)
  · skip
    refine lv_iload Z.hx Z.hb dL_law_957 (lv_at hl 1 rfl) ?_
    refine lv_if_ne (tgt := 974) Z.hx Z.hb dL_law_959 (by decide) (fun c959 => ?_) (fun c959 => ?_)
    · skip
      refine lv_goto (tgt := 1551) Z.hx Z.hb dL_law_974 (by decide) ?_
      refine W.widen (k := cells + 64) (n := slots + 4000) (by omega) (by omega) ?_
      exact kk _ _ _ _ _ _ _ H_2 _ ls hL hI2_ (lv_sub hl [2, 3, 4, 5, 6] rfl)
    · skip
      have hk9_ : kRep σ (xs (i + 1)) (xs (i + 2)) = 0 := c959
      refine lv_aload_n Z.hx Z.hb dL_law_962 rfl (lv_at hl 3 rfl) ?_
      refine lv_iconst (v := 0) Z.hx Z.hb dL_law_963 (by decide) ?_
      refine z_lald0 Z hJ2_ (by decide) dL_law_964 ?_
      refine lv_iload Z.hx Z.hb dL_law_965 (lv_at hl 0 rfl) ?_
      refine lv_i2l (v := x_.toInt64) Z.hx Z.hb dL_law_967 rfl ?_
      refine z_lcmpE Z ((hf1_ hk9_).trans (by rw [hx2_ hk9_])) dL_law_968 ?_
      refine lv_if_eq (tgt := 974) Z.hx Z.hb dL_law_969 (by decide) (fun c969 => ?_) (fun c969 => ?_)
      · skip
        refine lv_goto (tgt := 1551) Z.hx Z.hb dL_law_974 (by decide) ?_
        refine W.widen (k := cells + 64) (n := slots + 4000) (by omega) (by omega) ?_
        exact kk _ _ _ _ _ _ _ H_2 _ ls hL hI2_ (lv_sub hl [2, 3, 4, 5, 6] rfl)
      · exact absurd (by decide) c969
  · exact absurd rfl c952
set_option maxHeartbeats 4000000 in
set_option maxRecDepth 100000 in
theorem law_12 {G : zG} {p : Program} {l : Launch} {e : Env} {R : Room} {s : State} {m : MethodId} {args : Array Value} {below : List Frame} {meth : Method} {c : Code} {H : Heap} {locs : List Loc} {cells slots : Nat} {Q : State → Prop} {ls : Array Slot} {b L i : Nat} {xs : Nat → Int32} {Rr : xRo} {A : Nat → Nat} {f : Nat → Nat → Int32} {fo : Nat → Int64} {σ : zS} {n N o mo out : Nat} {th : Int32} (hl0 : l.stackTraces = false) (Z : zC G p s m args meth c RX0 cL_law 7) (hXs : va_X b L xs s s.heap) (hbl : b < s.heap.size) (hbA : ¬ zA G b) (hi6 : i + 6 ≤ L) (hL3 : L ≤ 384) (hI : lInv G H Rr A f fo σ n N th o mo out) (hn : n < 64) (hL : zL G locs) (hl : lv_has ls 7 [(4, .int (nI i)), (3, .ref out), (2, .ref mo), (1, .ref o), (0, .ref b)]) (hcR : cells + 64 ≤ R.cells) (hsR : slots + 4000 ≤ R.slots) (hfR : 22 ≤ R.frames) (hlR : 10936 ≤ R.locals)
    (kk : ∀ (R1 : xRo) (A1 : Nat → Nat) (f1 : Nat → Nat → Int32) (fo1 : Nat → Int64) (σ1 : zS) (N1 : Nat) (th1 : Int32) (H1 : Heap) (locs1 : List Loc) (ls1 : Array Slot), zL G locs1 → lInv G H1 R1 A1 f1 fo1 σ1 (n + 1) N1 th1 o mo out → lv_has ls1 7 [(4, .int (nI i)), (3, .ref out), (2, .ref mo), (1, .ref o), (0, .ref b)] → W p l e R s m args below meth c H1 locs1 (cells + 64) (slots + 4000) Q (F0 m 1551 ls1 [])) : W p l e R s m args below meth c H locs cells slots Q (F0 m 977 ls []) := by
  refine lv_aload_n Z.hx Z.hb dL_law_977 rfl (lv_at hl 3 rfl) ?_
  refine lv_aload_n Z.hx Z.hb dL_law_978 rfl (lv_at hl 4 rfl) ?_
  refine lv_iload Z.hx Z.hb dL_law_979 (lv_at hl 0 rfl) ?_
  refine lv_iconst (v := 1) Z.hx Z.hb dL_law_981 (by decide) ?_
  refine lv_iadd Z.hx Z.hb dL_law_982 ?_
  refine z_top (x' := nI (i + 1)) (z_off i 1) ?_
  refine z_sldN Z hL hXs hbl hbA (k := (i + 1)) (by omega) hL3 dL_law_983 ?_
  refine lv_aload_n Z.hx Z.hb dL_law_984 rfl (lv_at hl 4 rfl) ?_
  refine lv_iload Z.hx Z.hb dL_law_985 (lv_at hl 0 rfl) ?_
  refine lv_iconst (v := 2) Z.hx Z.hb dL_law_987 (by decide) ?_
  refine lv_iadd Z.hx Z.hb dL_law_988 ?_
  refine z_top (x' := nI (i + 2)) (z_off i 2) ?_
  refine z_sldN Z hL hXs hbl hbA (k := (i + 2)) (by omega) hL3 dL_law_989 ?_
  refine lv_aload_n Z.hx Z.hb dL_law_990 rfl (lv_at hl 1 rfl) ?_
  -- LinkResolverLaw.mend
  refine z_wcallSW (rest := []) (As := [.ref o, .int (xs (i + 1)), .int (xs (i + 2)), .ref out]) Z (w_mend G l hl0 H Rr σ n o hI.1 hn hI.2.2.1 out fo hI.2.2.2.2.1.1 hI.2.2.2.2.2.1.1 hI.2.2.2.2.1.2 (xs (i + 1)) (xs (i + 2))) gw_X0_133 gd_X0_133 rfl hl.1 (Nat.le_of_ble_eq_true rfl) rfl dL_law_991 ⟨⟨by omega, by omega⟩, by omega, by omega⟩ hL (fun H_1 locs hL hP_ => ?_)
  obtain ⟨R1_, f1_, hm_, hf1_⟩ := hI.w hP_
  refine lv_istore (lv' := [(5, .int (kRep σ (xs (i + 1)) (xs (i + 2)))), (4, .int (nI i)), (3, .ref out), (2, .ref mo), (1, .ref o), (0, .ref b)]) Z.hx Z.hb dL_law_994 hl (by decide) rfl (fun ls hl => ?_)
  refine lv_aload_n Z.hx Z.hb dL_law_996 rfl (lv_at hl 3 rfl) ?_
  refine lv_aload_n Z.hx Z.hb dL_law_997 rfl (lv_at hl 5 rfl) ?_
  refine lv_iload Z.hx Z.hb dL_law_998 (lv_at hl 1 rfl) ?_
  refine lv_iconst (v := 1) Z.hx Z.hb dL_law_1000 (by decide) ?_
  refine lv_iadd Z.hx Z.hb dL_law_1001 ?_
  refine z_top (x' := nI (i + 1)) (z_off i 1) ?_
  refine z_sldN Z hL hXs hbl hbA (k := (i + 1)) (by omega) hL3 dL_law_1002 ?_
  refine lv_aload_n Z.hx Z.hb dL_law_1003 rfl (lv_at hl 5 rfl) ?_
  refine lv_iload Z.hx Z.hb dL_law_1004 (lv_at hl 1 rfl) ?_
  refine lv_iconst (v := 2) Z.hx Z.hb dL_law_1006 (by decide) ?_
  refine lv_iadd Z.hx Z.hb dL_law_1007 ?_
  refine z_top (x' := nI (i + 2)) (z_off i 2) ?_
  refine z_sldN Z hL hXs hbl hbA (k := (i + 2)) (by omega) hL3 dL_law_1008 ?_
  -- LinkResolverModel.mend
  refine z_mcallV (rest := []) (As := [.int (xs (i + 1)), .int (xs (i + 2))]) Z (m_mend G l H_1 mo A f hI.2.1.2.1 σ N th hm_.2.1 hI.2.1.2.2 hI.2.2.1 (Nat.lt_of_le_of_lt hI.2.2.2.1 (by omega)) (xs (i + 1)) (xs (i + 2))) gw_X0_135 gd_X0_135 rfl hm_.2.1.ob rfl hl.1 (Nat.le_of_ble_eq_true rfl) rfl dL_law_1009 ⟨⟨by omega, by omega⟩, by omega, by omega⟩ hL (fun x_ H_2 locs hL hP_ => ?_)
  have hwf_ : sWf (if kRep σ (xs (i + 1)) (xs (i + 2)) = 0 then sPutB σ (xs (i + 1)).toNatClampNeg (xs (i + 2)).toNatClampNeg 0 else σ) := lWf hI.2.2.1 (fun hk => hI.2.2.1.putB (lWf_p (k := 0) hI.2.2.1.2.2.1 (lk_kpt hk)) _)
  obtain ⟨v_, f2_, N2_, hM2_, hv2_, hx2_, hJ2_, hI2_⟩ := hI.m hm_ hP_ hwf_
  refine lv_istore (lv' := [(6, .int x_), (5, .int (kRep σ (xs (i + 1)) (xs (i + 2)))), (4, .int (nI i)), (3, .ref out), (2, .ref mo), (1, .ref o), (0, .ref b)]) Z.hx Z.hb dL_law_1012 hl (by decide) rfl (fun ls hl => ?_)
  refine lv_aload_n Z.hx Z.hb dL_law_1014 rfl (lv_at hl 4 rfl) ?_
  -- LinkResolverModel.thrown
  refine z_pcallV (rest := []) (As := []) Z (m_thrown G l H_2 mo A v_ f2_ hM2_) gw_X0_89 gd_X0_89 rfl hM2_.ob rfl hl.1 (Nat.le_of_ble_eq_true rfl) rfl dL_law_1015 ⟨⟨by omega, by omega⟩, by omega, by omega⟩ hL (fun locs hL => ?_)
  refine z_top (x' := kRep σ (xs (i + 1)) (xs (i + 2))) hv2_ ?_
  refine lv_iload Z.hx Z.hb dL_law_1018 (lv_at hl 1 rfl) ?_
  refine lv_icmp_eq (tgt := 1025) Z.hx Z.hb dL_law_1020 (by decide) (fun c1020 => ?_) (fun c1020 => ?_)
  · skip
    refine lv_iload Z.hx Z.hb dL_law_1025 (lv_at hl 1 rfl) ?_
    refine lv_if_ne (tgt := 1042) Z.hx Z.hb dL_law_1027 (by decide) (fun c1027 => ?_) (fun c1027 => ?_)
    · skip
      refine lv_goto (tgt := 1551) Z.hx Z.hb dL_law_1042 (by decide) ?_
      refine W.widen (k := cells + 64) (n := slots + 4000) (by omega) (by omega) ?_
      exact kk _ _ _ _ _ _ _ H_2 _ ls hL hI2_ (lv_sub hl [2, 3, 4, 5, 6] rfl)
    · skip
      have hk9_ : kRep σ (xs (i + 1)) (xs (i + 2)) = 0 := c1027
      refine lv_aload_n Z.hx Z.hb dL_law_1030 rfl (lv_at hl 3 rfl) ?_
      refine lv_iconst (v := 0) Z.hx Z.hb dL_law_1031 (by decide) ?_
      refine z_lald0 Z hJ2_ (by decide) dL_law_1032 ?_
      refine lv_iload Z.hx Z.hb dL_law_1033 (lv_at hl 0 rfl) ?_
      refine lv_i2l (v := x_.toInt64) Z.hx Z.hb dL_law_1035 rfl ?_
      refine z_lcmpE Z ((hf1_ hk9_).trans (by rw [hx2_ hk9_])) dL_law_1036 ?_
      refine lv_if_eq (tgt := 1042) Z.hx Z.hb dL_law_1037 (by decide) (fun c1037 => ?_) (fun c1037 => ?_)
      · skip
        refine lv_goto (tgt := 1551) Z.hx Z.hb dL_law_1042 (by decide) ?_
        refine W.widen (k := cells + 64) (n := slots + 4000) (by omega) (by omega) ?_
        exact kk _ _ _ _ _ _ _ H_2 _ ls hL hI2_ (lv_sub hl [2, 3, 4, 5, 6] rfl)
      · exact absurd (by decide) c1037
  · exact absurd rfl c1020
set_option maxHeartbeats 4000000 in
set_option maxRecDepth 100000 in
theorem law_13 {G : zG} {p : Program} {l : Launch} {e : Env} {R : Room} {s : State} {m : MethodId} {args : Array Value} {below : List Frame} {meth : Method} {c : Code} {H : Heap} {locs : List Loc} {cells slots : Nat} {Q : State → Prop} {ls : Array Slot} {b L i : Nat} {xs : Nat → Int32} {Rr : xRo} {A : Nat → Nat} {f : Nat → Nat → Int32} {fo : Nat → Int64} {σ : zS} {n N o mo out : Nat} {th : Int32} (hl0 : l.stackTraces = false) (Z : zC G p s m args meth c RX0 cL_law 7) (hXs : va_X b L xs s s.heap) (hbl : b < s.heap.size) (hbA : ¬ zA G b) (hi6 : i + 6 ≤ L) (hL3 : L ≤ 384) (hI : lInv G H Rr A f fo σ n N th o mo out) (hn : n < 64) (hL : zL G locs) (hl : lv_has ls 7 [(4, .int (nI i)), (3, .ref out), (2, .ref mo), (1, .ref o), (0, .ref b)]) (hcR : cells + 64 ≤ R.cells) (hsR : slots + 4000 ≤ R.slots) (hfR : 22 ≤ R.frames) (hlR : 10936 ≤ R.locals)
    (kk : ∀ (R1 : xRo) (A1 : Nat → Nat) (f1 : Nat → Nat → Int32) (fo1 : Nat → Int64) (σ1 : zS) (N1 : Nat) (th1 : Int32) (H1 : Heap) (locs1 : List Loc) (ls1 : Array Slot), zL G locs1 → lInv G H1 R1 A1 f1 fo1 σ1 (n + 1) N1 th1 o mo out → lv_has ls1 7 [(4, .int (nI i)), (3, .ref out), (2, .ref mo), (1, .ref o), (0, .ref b)] → W p l e R s m args below meth c H1 locs1 (cells + 64) (slots + 4000) Q (F0 m 1551 ls1 [])) : W p l e R s m args below meth c H locs cells slots Q (F0 m 1045 ls []) := by
  refine lv_aload_n Z.hx Z.hb dL_law_1045 rfl (lv_at hl 3 rfl) ?_
  refine lv_aload_n Z.hx Z.hb dL_law_1046 rfl (lv_at hl 4 rfl) ?_
  refine lv_iload Z.hx Z.hb dL_law_1047 (lv_at hl 0 rfl) ?_
  refine lv_iconst (v := 1) Z.hx Z.hb dL_law_1049 (by decide) ?_
  refine lv_iadd Z.hx Z.hb dL_law_1050 ?_
  refine z_top (x' := nI (i + 1)) (z_off i 1) ?_
  refine z_sldN Z hL hXs hbl hbA (k := (i + 1)) (by omega) hL3 dL_law_1051 ?_
  refine lv_aload_n Z.hx Z.hb dL_law_1052 rfl (lv_at hl 4 rfl) ?_
  refine lv_iload Z.hx Z.hb dL_law_1053 (lv_at hl 0 rfl) ?_
  refine lv_iconst (v := 2) Z.hx Z.hb dL_law_1055 (by decide) ?_
  refine lv_iadd Z.hx Z.hb dL_law_1056 ?_
  refine z_top (x' := nI (i + 2)) (z_off i 2) ?_
  refine z_sldN Z hL hXs hbl hbA (k := (i + 2)) (by omega) hL3 dL_law_1057 ?_
  refine lv_aload_n Z.hx Z.hb dL_law_1058 rfl (lv_at hl 4 rfl) ?_
  refine lv_iload Z.hx Z.hb dL_law_1059 (lv_at hl 0 rfl) ?_
  refine lv_iconst (v := 3) Z.hx Z.hb dL_law_1061 (by decide) ?_
  refine lv_iadd Z.hx Z.hb dL_law_1062 ?_
  refine z_top (x' := nI (i + 3)) (z_off i 3) ?_
  refine z_sldN Z hL hXs hbl hbA (k := (i + 3)) (by omega) hL3 dL_law_1063 ?_
  refine lv_aload_n Z.hx Z.hb dL_law_1064 rfl (lv_at hl 4 rfl) ?_
  refine lv_iload Z.hx Z.hb dL_law_1065 (lv_at hl 0 rfl) ?_
  refine lv_iconst (v := 4) Z.hx Z.hb dL_law_1067 (by decide) ?_
  refine lv_iadd Z.hx Z.hb dL_law_1068 ?_
  refine z_top (x' := nI (i + 4)) (z_off i 4) ?_
  refine z_sldN Z hL hXs hbl hbA (k := (i + 4)) (by omega) hL3 dL_law_1069 ?_
  refine lv_aload_n Z.hx Z.hb dL_law_1070 rfl (lv_at hl 4 rfl) ?_
  refine lv_iload Z.hx Z.hb dL_law_1071 (lv_at hl 0 rfl) ?_
  refine lv_iconst (v := 5) Z.hx Z.hb dL_law_1073 (by decide) ?_
  refine lv_iadd Z.hx Z.hb dL_law_1074 ?_
  refine z_top (x' := nI (i + 5)) (z_off i 5) ?_
  refine z_sldN Z hL hXs hbl hbA (k := (i + 5)) (by omega) hL3 dL_law_1075 ?_
  refine lv_aload_n Z.hx Z.hb dL_law_1076 rfl (lv_at hl 1 rfl) ?_
  -- LinkResolverLaw.covers
  refine z_wcallSW (rest := []) (As := [.ref o, .int (xs (i + 1)), .int (xs (i + 2)), .int (xs (i + 3)), .int (xs (i + 4)), .int (xs (i + 5)), .ref out]) Z (w_covers G l hl0 H Rr σ n o hI.1 hn hI.2.2.1 out fo hI.2.2.2.2.1.1 hI.2.2.2.2.2.1.1 hI.2.2.2.2.1.2 (xs (i + 1)) (xs (i + 2)) (xs (i + 3)) (xs (i + 4)) (xs (i + 5))) gw_X0_136 gd_X0_136 rfl hl.1 (Nat.le_of_ble_eq_true rfl) rfl dL_law_1077 ⟨⟨by omega, by omega⟩, by omega, by omega⟩ hL (fun H_1 locs hL hP_ => ?_)
  obtain ⟨R1_, f1_, hm_, hf1_⟩ := hI.w hP_
  refine lv_istore (lv' := [(5, .int (kCov σ (xs (i + 1)) (xs (i + 2)) (xs (i + 3)) (xs (i + 4)) (xs (i + 5)))), (4, .int (nI i)), (3, .ref out), (2, .ref mo), (1, .ref o), (0, .ref b)]) Z.hx Z.hb dL_law_1080 hl (by decide) rfl (fun ls hl => ?_)
  refine lv_aload_n Z.hx Z.hb dL_law_1082 rfl (lv_at hl 3 rfl) ?_
  refine lv_aload_n Z.hx Z.hb dL_law_1083 rfl (lv_at hl 5 rfl) ?_
  refine lv_iload Z.hx Z.hb dL_law_1084 (lv_at hl 1 rfl) ?_
  refine lv_iconst (v := 1) Z.hx Z.hb dL_law_1086 (by decide) ?_
  refine lv_iadd Z.hx Z.hb dL_law_1087 ?_
  refine z_top (x' := nI (i + 1)) (z_off i 1) ?_
  refine z_sldN Z hL hXs hbl hbA (k := (i + 1)) (by omega) hL3 dL_law_1088 ?_
  refine lv_aload_n Z.hx Z.hb dL_law_1089 rfl (lv_at hl 5 rfl) ?_
  refine lv_iload Z.hx Z.hb dL_law_1090 (lv_at hl 1 rfl) ?_
  refine lv_iconst (v := 2) Z.hx Z.hb dL_law_1092 (by decide) ?_
  refine lv_iadd Z.hx Z.hb dL_law_1093 ?_
  refine z_top (x' := nI (i + 2)) (z_off i 2) ?_
  refine z_sldN Z hL hXs hbl hbA (k := (i + 2)) (by omega) hL3 dL_law_1094 ?_
  refine lv_aload_n Z.hx Z.hb dL_law_1095 rfl (lv_at hl 5 rfl) ?_
  refine lv_iload Z.hx Z.hb dL_law_1096 (lv_at hl 1 rfl) ?_
  refine lv_iconst (v := 3) Z.hx Z.hb dL_law_1098 (by decide) ?_
  refine lv_iadd Z.hx Z.hb dL_law_1099 ?_
  refine z_top (x' := nI (i + 3)) (z_off i 3) ?_
  refine z_sldN Z hL hXs hbl hbA (k := (i + 3)) (by omega) hL3 dL_law_1100 ?_
  refine lv_aload_n Z.hx Z.hb dL_law_1101 rfl (lv_at hl 5 rfl) ?_
  refine lv_iload Z.hx Z.hb dL_law_1102 (lv_at hl 1 rfl) ?_
  refine lv_iconst (v := 4) Z.hx Z.hb dL_law_1104 (by decide) ?_
  refine lv_iadd Z.hx Z.hb dL_law_1105 ?_
  refine z_top (x' := nI (i + 4)) (z_off i 4) ?_
  refine z_sldN Z hL hXs hbl hbA (k := (i + 4)) (by omega) hL3 dL_law_1106 ?_
  refine lv_aload_n Z.hx Z.hb dL_law_1107 rfl (lv_at hl 5 rfl) ?_
  refine lv_iload Z.hx Z.hb dL_law_1108 (lv_at hl 1 rfl) ?_
  refine lv_iconst (v := 5) Z.hx Z.hb dL_law_1110 (by decide) ?_
  refine lv_iadd Z.hx Z.hb dL_law_1111 ?_
  refine z_top (x' := nI (i + 5)) (z_off i 5) ?_
  refine z_sldN Z hL hXs hbl hbA (k := (i + 5)) (by omega) hL3 dL_law_1112 ?_
  -- LinkResolverModel.covers
  refine z_mcallV (rest := []) (As := [.int (xs (i + 1)), .int (xs (i + 2)), .int (xs (i + 3)), .int (xs (i + 4)), .int (xs (i + 5))]) Z (m_covers G l H_1 mo A f hI.2.1.2.1 σ N th hm_.2.1 hI.2.1.2.2 hI.2.2.1 (Nat.lt_of_le_of_lt hI.2.2.2.1 (by omega)) (xs (i + 1)) (xs (i + 2)) (xs (i + 3)) (xs (i + 4)) (xs (i + 5))) gw_X0_138 gd_X0_138 rfl hm_.2.1.ob rfl hl.1 (Nat.le_of_ble_eq_true rfl) rfl dL_law_1113 ⟨⟨by omega, by omega⟩, by omega, by omega⟩ hL (fun x_ H_2 locs hL hP_ => ?_)
  have hwf_ : sWf (if kCov σ (xs (i + 1)) (xs (i + 2)) (xs (i + 3)) (xs (i + 4)) (xs (i + 5)) = 0 then σ else σ) := lWf hI.2.2.1 (fun hk => hI.2.2.1)
  obtain ⟨v_, f2_, N2_, hM2_, hv2_, hx2_, hJ2_, hI2_⟩ := hI.m hm_ hP_ hwf_
  have hx01_ : kCov σ (xs (i + 1)) (xs (i + 2)) (xs (i + 3)) (xs (i + 4)) (xs (i + 5)) = 0 → x_ = 0 ∨ x_ = 1 := fun h => by rw [hx2_ h]; exact zb_01
  refine lv_istore (lv' := [(6, .int x_), (5, .int (kCov σ (xs (i + 1)) (xs (i + 2)) (xs (i + 3)) (xs (i + 4)) (xs (i + 5)))), (4, .int (nI i)), (3, .ref out), (2, .ref mo), (1, .ref o), (0, .ref b)]) Z.hx Z.hb dL_law_1116 hl (by decide) rfl (fun ls hl => ?_)
  refine lv_aload_n Z.hx Z.hb dL_law_1118 rfl (lv_at hl 4 rfl) ?_
  -- LinkResolverModel.thrown
  refine z_pcallV (rest := []) (As := []) Z (m_thrown G l H_2 mo A v_ f2_ hM2_) gw_X0_89 gd_X0_89 rfl hM2_.ob rfl hl.1 (Nat.le_of_ble_eq_true rfl) rfl dL_law_1119 ⟨⟨by omega, by omega⟩, by omega, by omega⟩ hL (fun locs hL => ?_)
  refine z_top (x' := kCov σ (xs (i + 1)) (xs (i + 2)) (xs (i + 3)) (xs (i + 4)) (xs (i + 5))) hv2_ ?_
  refine lv_iload Z.hx Z.hb dL_law_1122 (lv_at hl 1 rfl) ?_
  refine lv_icmp_eq (tgt := 1129) Z.hx Z.hb dL_law_1124 (by decide) (fun c1124 => ?_) (fun c1124 => ?_)
  · skip
    refine lv_iload Z.hx Z.hb dL_law_1129 (lv_at hl 1 rfl) ?_
    refine lv_if_ne (tgt := 1153) Z.hx Z.hb dL_law_1131 (by decide) (fun c1131 => ?_) (fun c1131 => ?_)
    · skip
      refine lv_goto (tgt := 1551) Z.hx Z.hb dL_law_1153 (by decide) ?_
      refine W.widen (k := cells + 64) (n := slots + 4000) (by omega) (by omega) ?_
      exact kk _ _ _ _ _ _ _ H_2 _ ls hL hI2_ (lv_sub hl [2, 3, 4, 5, 6] rfl)
    · skip
      have hk9_ : kCov σ (xs (i + 1)) (xs (i + 2)) (xs (i + 3)) (xs (i + 4)) (xs (i + 5)) = 0 := c1131
      refine lv_aload_n Z.hx Z.hb dL_law_1134 rfl (lv_at hl 3 rfl) ?_
      refine lv_iconst (v := 0) Z.hx Z.hb dL_law_1135 (by decide) ?_
      refine z_lald0 Z hJ2_ (by decide) dL_law_1136 ?_
      refine lv_iload Z.hx Z.hb dL_law_1137 (lv_at hl 0 rfl) ?_
      refine lv_if_eq (tgt := 1146) Z.hx Z.hb dL_law_1139 (by decide) (fun cb1139 => ?_) (fun cb1139 => ?_)
      · skip
        refine lv_lconst (v := 0) Z.hx Z.hb dL_law_1146 (by decide) ?_
        have hb9_ : x_ = 0 := cb1139
        refine z_lcmpE Z ((hf1_ hk9_).trans (by rw [← hx2_ hk9_, hb9_]; rfl)) dL_law_1147 ?_
        refine lv_if_eq (tgt := 1153) Z.hx Z.hb dL_law_1148 (by decide) (fun c1148 => ?_) (fun c1148 => ?_)
        · skip
          refine lv_goto (tgt := 1551) Z.hx Z.hb dL_law_1153 (by decide) ?_
          refine W.widen (k := cells + 64) (n := slots + 4000) (by omega) (by omega) ?_
          exact kk _ _ _ _ _ _ _ H_2 _ ls hL hI2_ (lv_sub hl [2, 3, 4, 5, 6] rfl)
        · exact absurd (by decide) c1148
      · skip
        refine lv_lconst (v := 1) Z.hx Z.hb dL_law_1142 (by decide) ?_
        refine lv_goto (tgt := 1147) Z.hx Z.hb dL_law_1143 (by decide) ?_
        have hb9_ : x_ = 1 := (hx01_ hk9_).resolve_left cb1139
        refine z_lcmpE Z ((hf1_ hk9_).trans (by rw [← hx2_ hk9_, hb9_]; rfl)) dL_law_1147 ?_
        refine lv_if_eq (tgt := 1153) Z.hx Z.hb dL_law_1148 (by decide) (fun c1148 => ?_) (fun c1148 => ?_)
        · skip
          refine lv_goto (tgt := 1551) Z.hx Z.hb dL_law_1153 (by decide) ?_
          refine W.widen (k := cells + 64) (n := slots + 4000) (by omega) (by omega) ?_
          exact kk _ _ _ _ _ _ _ H_2 _ ls hL hI2_ (lv_sub hl [2, 3, 4, 5, 6] rfl)
        · exact absurd (by decide) c1148
  · exact absurd rfl c1124
set_option maxHeartbeats 4000000 in
set_option maxRecDepth 100000 in
theorem law_14 {G : zG} {p : Program} {l : Launch} {e : Env} {R : Room} {s : State} {m : MethodId} {args : Array Value} {below : List Frame} {meth : Method} {c : Code} {H : Heap} {locs : List Loc} {cells slots : Nat} {Q : State → Prop} {ls : Array Slot} {b L i : Nat} {xs : Nat → Int32} {Rr : xRo} {A : Nat → Nat} {f : Nat → Nat → Int32} {fo : Nat → Int64} {σ : zS} {n N o mo out : Nat} {th : Int32} (hl0 : l.stackTraces = false) (Z : zC G p s m args meth c RX0 cL_law 7) (hXs : va_X b L xs s s.heap) (hbl : b < s.heap.size) (hbA : ¬ zA G b) (hi6 : i + 6 ≤ L) (hL3 : L ≤ 384) (hI : lInv G H Rr A f fo σ n N th o mo out) (hn : n < 64) (hL : zL G locs) (hl : lv_has ls 7 [(4, .int (nI i)), (3, .ref out), (2, .ref mo), (1, .ref o), (0, .ref b)]) (hcR : cells + 64 ≤ R.cells) (hsR : slots + 4000 ≤ R.slots) (hfR : 22 ≤ R.frames) (hlR : 10936 ≤ R.locals)
    (kk : ∀ (R1 : xRo) (A1 : Nat → Nat) (f1 : Nat → Nat → Int32) (fo1 : Nat → Int64) (σ1 : zS) (N1 : Nat) (th1 : Int32) (H1 : Heap) (locs1 : List Loc) (ls1 : Array Slot), zL G locs1 → lInv G H1 R1 A1 f1 fo1 σ1 (n + 1) N1 th1 o mo out → lv_has ls1 7 [(4, .int (nI i)), (3, .ref out), (2, .ref mo), (1, .ref o), (0, .ref b)] → W p l e R s m args below meth c H1 locs1 (cells + 64) (slots + 4000) Q (F0 m 1551 ls1 [])) : W p l e R s m args below meth c H locs cells slots Q (F0 m 1156 ls []) := by
  refine lv_aload_n Z.hx Z.hb dL_law_1156 rfl (lv_at hl 3 rfl) ?_
  refine lv_aload_n Z.hx Z.hb dL_law_1157 rfl (lv_at hl 4 rfl) ?_
  refine lv_iload Z.hx Z.hb dL_law_1158 (lv_at hl 0 rfl) ?_
  refine lv_iconst (v := 1) Z.hx Z.hb dL_law_1160 (by decide) ?_
  refine lv_iadd Z.hx Z.hb dL_law_1161 ?_
  refine z_top (x' := nI (i + 1)) (z_off i 1) ?_
  refine z_sldN Z hL hXs hbl hbA (k := (i + 1)) (by omega) hL3 dL_law_1162 ?_
  refine lv_aload_n Z.hx Z.hb dL_law_1163 rfl (lv_at hl 4 rfl) ?_
  refine lv_iload Z.hx Z.hb dL_law_1164 (lv_at hl 0 rfl) ?_
  refine lv_iconst (v := 2) Z.hx Z.hb dL_law_1166 (by decide) ?_
  refine lv_iadd Z.hx Z.hb dL_law_1167 ?_
  refine z_top (x' := nI (i + 2)) (z_off i 2) ?_
  refine z_sldN Z hL hXs hbl hbA (k := (i + 2)) (by omega) hL3 dL_law_1168 ?_
  refine lv_aload_n Z.hx Z.hb dL_law_1169 rfl (lv_at hl 4 rfl) ?_
  refine lv_iload Z.hx Z.hb dL_law_1170 (lv_at hl 0 rfl) ?_
  refine lv_iconst (v := 3) Z.hx Z.hb dL_law_1172 (by decide) ?_
  refine lv_iadd Z.hx Z.hb dL_law_1173 ?_
  refine z_top (x' := nI (i + 3)) (z_off i 3) ?_
  refine z_sldN Z hL hXs hbl hbA (k := (i + 3)) (by omega) hL3 dL_law_1174 ?_
  refine lv_aload_n Z.hx Z.hb dL_law_1175 rfl (lv_at hl 4 rfl) ?_
  refine lv_iload Z.hx Z.hb dL_law_1176 (lv_at hl 0 rfl) ?_
  refine lv_iconst (v := 4) Z.hx Z.hb dL_law_1178 (by decide) ?_
  refine lv_iadd Z.hx Z.hb dL_law_1179 ?_
  refine z_top (x' := nI (i + 4)) (z_off i 4) ?_
  refine z_sldN Z hL hXs hbl hbA (k := (i + 4)) (by omega) hL3 dL_law_1180 ?_
  refine lv_aload_n Z.hx Z.hb dL_law_1181 rfl (lv_at hl 1 rfl) ?_
  -- LinkResolverLaw.ways
  refine z_wcallSW (rest := []) (As := [.ref o, .int (xs (i + 1)), .int (xs (i + 2)), .int (xs (i + 3)), .int (xs (i + 4)), .ref out]) Z (w_ways G l hl0 H Rr σ n o hI.1 hn hI.2.2.1 out fo hI.2.2.2.2.1.1 hI.2.2.2.2.2.1.1 hI.2.2.2.2.1.2 (xs (i + 1)) (xs (i + 2)) (xs (i + 3)) (xs (i + 4))) gw_X0_139 gd_X0_139 rfl hl.1 (Nat.le_of_ble_eq_true rfl) rfl dL_law_1182 ⟨⟨by omega, by omega⟩, by omega, by omega⟩ hL (fun H_1 locs hL hP_ => ?_)
  obtain ⟨R1_, f1_, hm_, hf1_⟩ := hI.w hP_
  refine lv_istore (lv' := [(5, .int (kWays σ (xs (i + 1)) (xs (i + 2)) (xs (i + 3)) (xs (i + 4)))), (4, .int (nI i)), (3, .ref out), (2, .ref mo), (1, .ref o), (0, .ref b)]) Z.hx Z.hb dL_law_1185 hl (by decide) rfl (fun ls hl => ?_)
  refine lv_aload_n Z.hx Z.hb dL_law_1187 rfl (lv_at hl 3 rfl) ?_
  refine lv_aload_n Z.hx Z.hb dL_law_1188 rfl (lv_at hl 5 rfl) ?_
  refine lv_iload Z.hx Z.hb dL_law_1189 (lv_at hl 1 rfl) ?_
  refine lv_iconst (v := 1) Z.hx Z.hb dL_law_1191 (by decide) ?_
  refine lv_iadd Z.hx Z.hb dL_law_1192 ?_
  refine z_top (x' := nI (i + 1)) (z_off i 1) ?_
  refine z_sldN Z hL hXs hbl hbA (k := (i + 1)) (by omega) hL3 dL_law_1193 ?_
  refine lv_aload_n Z.hx Z.hb dL_law_1194 rfl (lv_at hl 5 rfl) ?_
  refine lv_iload Z.hx Z.hb dL_law_1195 (lv_at hl 1 rfl) ?_
  refine lv_iconst (v := 2) Z.hx Z.hb dL_law_1197 (by decide) ?_
  refine lv_iadd Z.hx Z.hb dL_law_1198 ?_
  refine z_top (x' := nI (i + 2)) (z_off i 2) ?_
  refine z_sldN Z hL hXs hbl hbA (k := (i + 2)) (by omega) hL3 dL_law_1199 ?_
  refine lv_aload_n Z.hx Z.hb dL_law_1200 rfl (lv_at hl 5 rfl) ?_
  refine lv_iload Z.hx Z.hb dL_law_1201 (lv_at hl 1 rfl) ?_
  refine lv_iconst (v := 3) Z.hx Z.hb dL_law_1203 (by decide) ?_
  refine lv_iadd Z.hx Z.hb dL_law_1204 ?_
  refine z_top (x' := nI (i + 3)) (z_off i 3) ?_
  refine z_sldN Z hL hXs hbl hbA (k := (i + 3)) (by omega) hL3 dL_law_1205 ?_
  refine lv_aload_n Z.hx Z.hb dL_law_1206 rfl (lv_at hl 5 rfl) ?_
  refine lv_iload Z.hx Z.hb dL_law_1207 (lv_at hl 1 rfl) ?_
  refine lv_iconst (v := 4) Z.hx Z.hb dL_law_1209 (by decide) ?_
  refine lv_iadd Z.hx Z.hb dL_law_1210 ?_
  refine z_top (x' := nI (i + 4)) (z_off i 4) ?_
  refine z_sldN Z hL hXs hbl hbA (k := (i + 4)) (by omega) hL3 dL_law_1211 ?_
  -- LinkResolverModel.ways
  refine z_mcallV (rest := []) (As := [.int (xs (i + 1)), .int (xs (i + 2)), .int (xs (i + 3)), .int (xs (i + 4))]) Z (m_ways G l H_1 mo A f hI.2.1.2.1 σ N th hm_.2.1 hI.2.1.2.2 hI.2.2.1 (Nat.lt_of_le_of_lt hI.2.2.2.1 (by omega)) (xs (i + 1)) (xs (i + 2)) (xs (i + 3)) (xs (i + 4))) gw_X0_141 gd_X0_141 rfl hm_.2.1.ob rfl hl.1 (Nat.le_of_ble_eq_true rfl) rfl dL_law_1212 ⟨⟨by omega, by omega⟩, by omega, by omega⟩ hL (fun x_ H_2 locs hL hP_ => ?_)
  have hwf_ : sWf (if kWays σ (xs (i + 1)) (xs (i + 2)) (xs (i + 3)) (xs (i + 4)) = 0 then σ else σ) := lWf hI.2.2.1 (fun hk => hI.2.2.1)
  obtain ⟨v_, f2_, N2_, hM2_, hv2_, hx2_, hJ2_, hI2_⟩ := hI.m hm_ hP_ hwf_
  refine lv_istore (lv' := [(6, .int x_), (5, .int (kWays σ (xs (i + 1)) (xs (i + 2)) (xs (i + 3)) (xs (i + 4)))), (4, .int (nI i)), (3, .ref out), (2, .ref mo), (1, .ref o), (0, .ref b)]) Z.hx Z.hb dL_law_1215 hl (by decide) rfl (fun ls hl => ?_)
  refine lv_aload_n Z.hx Z.hb dL_law_1217 rfl (lv_at hl 4 rfl) ?_
  -- LinkResolverModel.thrown
  refine z_pcallV (rest := []) (As := []) Z (m_thrown G l H_2 mo A v_ f2_ hM2_) gw_X0_89 gd_X0_89 rfl hM2_.ob rfl hl.1 (Nat.le_of_ble_eq_true rfl) rfl dL_law_1218 ⟨⟨by omega, by omega⟩, by omega, by omega⟩ hL (fun locs hL => ?_)
  refine z_top (x' := kWays σ (xs (i + 1)) (xs (i + 2)) (xs (i + 3)) (xs (i + 4))) hv2_ ?_
  refine lv_iload Z.hx Z.hb dL_law_1221 (lv_at hl 1 rfl) ?_
  refine lv_icmp_eq (tgt := 1228) Z.hx Z.hb dL_law_1223 (by decide) (fun c1223 => ?_) (fun c1223 => ?_)
  · skip
    refine lv_iload Z.hx Z.hb dL_law_1228 (lv_at hl 1 rfl) ?_
    refine lv_if_ne (tgt := 1245) Z.hx Z.hb dL_law_1230 (by decide) (fun c1230 => ?_) (fun c1230 => ?_)
    · skip
      refine lv_goto (tgt := 1551) Z.hx Z.hb dL_law_1245 (by decide) ?_
      refine W.widen (k := cells + 64) (n := slots + 4000) (by omega) (by omega) ?_
      exact kk _ _ _ _ _ _ _ H_2 _ ls hL hI2_ (lv_sub hl [2, 3, 4, 5, 6] rfl)
    · skip
      have hk9_ : kWays σ (xs (i + 1)) (xs (i + 2)) (xs (i + 3)) (xs (i + 4)) = 0 := c1230
      refine lv_aload_n Z.hx Z.hb dL_law_1233 rfl (lv_at hl 3 rfl) ?_
      refine lv_iconst (v := 0) Z.hx Z.hb dL_law_1234 (by decide) ?_
      refine z_lald0 Z hJ2_ (by decide) dL_law_1235 ?_
      refine lv_iload Z.hx Z.hb dL_law_1236 (lv_at hl 0 rfl) ?_
      refine lv_i2l (v := x_.toInt64) Z.hx Z.hb dL_law_1238 rfl ?_
      refine z_lcmpE Z ((hf1_ hk9_).trans (by rw [hx2_ hk9_])) dL_law_1239 ?_
      refine lv_if_eq (tgt := 1245) Z.hx Z.hb dL_law_1240 (by decide) (fun c1240 => ?_) (fun c1240 => ?_)
      · skip
        refine lv_goto (tgt := 1551) Z.hx Z.hb dL_law_1245 (by decide) ?_
        refine W.widen (k := cells + 64) (n := slots + 4000) (by omega) (by omega) ?_
        exact kk _ _ _ _ _ _ _ H_2 _ ls hL hI2_ (lv_sub hl [2, 3, 4, 5, 6] rfl)
      · exact absurd (by decide) c1240
  · exact absurd rfl c1223
set_option maxHeartbeats 4000000 in
set_option maxRecDepth 100000 in
theorem law_15 {G : zG} {p : Program} {l : Launch} {e : Env} {R : Room} {s : State} {m : MethodId} {args : Array Value} {below : List Frame} {meth : Method} {c : Code} {H : Heap} {locs : List Loc} {cells slots : Nat} {Q : State → Prop} {ls : Array Slot} {b L i : Nat} {xs : Nat → Int32} {Rr : xRo} {A : Nat → Nat} {f : Nat → Nat → Int32} {fo : Nat → Int64} {σ : zS} {n N o mo out : Nat} {th : Int32} (hl0 : l.stackTraces = false) (Z : zC G p s m args meth c RX0 cL_law 7) (hXs : va_X b L xs s s.heap) (hbl : b < s.heap.size) (hbA : ¬ zA G b) (hi6 : i + 6 ≤ L) (hL3 : L ≤ 384) (hI : lInv G H Rr A f fo σ n N th o mo out) (hn : n < 64) (hL : zL G locs) (hl : lv_has ls 7 [(4, .int (nI i)), (3, .ref out), (2, .ref mo), (1, .ref o), (0, .ref b)]) (hcR : cells + 64 ≤ R.cells) (hsR : slots + 4000 ≤ R.slots) (hfR : 22 ≤ R.frames) (hlR : 10936 ≤ R.locals)
    (kk : ∀ (R1 : xRo) (A1 : Nat → Nat) (f1 : Nat → Nat → Int32) (fo1 : Nat → Int64) (σ1 : zS) (N1 : Nat) (th1 : Int32) (H1 : Heap) (locs1 : List Loc) (ls1 : Array Slot), zL G locs1 → lInv G H1 R1 A1 f1 fo1 σ1 (n + 1) N1 th1 o mo out → lv_has ls1 7 [(4, .int (nI i)), (3, .ref out), (2, .ref mo), (1, .ref o), (0, .ref b)] → W p l e R s m args below meth c H1 locs1 (cells + 64) (slots + 4000) Q (F0 m 1551 ls1 [])) : W p l e R s m args below meth c H locs cells slots Q (F0 m 1248 ls []) := by
  refine lv_aload_n Z.hx Z.hb dL_law_1248 rfl (lv_at hl 3 rfl) ?_
  refine lv_aload_n Z.hx Z.hb dL_law_1249 rfl (lv_at hl 4 rfl) ?_
  refine lv_iload Z.hx Z.hb dL_law_1250 (lv_at hl 0 rfl) ?_
  refine lv_iconst (v := 1) Z.hx Z.hb dL_law_1252 (by decide) ?_
  refine lv_iadd Z.hx Z.hb dL_law_1253 ?_
  refine z_top (x' := nI (i + 1)) (z_off i 1) ?_
  refine z_sldN Z hL hXs hbl hbA (k := (i + 1)) (by omega) hL3 dL_law_1254 ?_
  refine lv_aload_n Z.hx Z.hb dL_law_1255 rfl (lv_at hl 4 rfl) ?_
  refine lv_iload Z.hx Z.hb dL_law_1256 (lv_at hl 0 rfl) ?_
  refine lv_iconst (v := 2) Z.hx Z.hb dL_law_1258 (by decide) ?_
  refine lv_iadd Z.hx Z.hb dL_law_1259 ?_
  refine z_top (x' := nI (i + 2)) (z_off i 2) ?_
  refine z_sldN Z hL hXs hbl hbA (k := (i + 2)) (by omega) hL3 dL_law_1260 ?_
  refine lv_aload_n Z.hx Z.hb dL_law_1261 rfl (lv_at hl 4 rfl) ?_
  refine lv_iload Z.hx Z.hb dL_law_1262 (lv_at hl 0 rfl) ?_
  refine lv_iconst (v := 3) Z.hx Z.hb dL_law_1264 (by decide) ?_
  refine lv_iadd Z.hx Z.hb dL_law_1265 ?_
  refine z_top (x' := nI (i + 3)) (z_off i 3) ?_
  refine z_sldN Z hL hXs hbl hbA (k := (i + 3)) (by omega) hL3 dL_law_1266 ?_
  refine lv_aload_n Z.hx Z.hb dL_law_1267 rfl (lv_at hl 4 rfl) ?_
  refine lv_iload Z.hx Z.hb dL_law_1268 (lv_at hl 0 rfl) ?_
  refine lv_iconst (v := 4) Z.hx Z.hb dL_law_1270 (by decide) ?_
  refine lv_iadd Z.hx Z.hb dL_law_1271 ?_
  refine z_top (x' := nI (i + 4)) (z_off i 4) ?_
  refine z_sldN Z hL hXs hbl hbA (k := (i + 4)) (by omega) hL3 dL_law_1272 ?_
  refine lv_aload_n Z.hx Z.hb dL_law_1273 rfl (lv_at hl 4 rfl) ?_
  refine lv_iload Z.hx Z.hb dL_law_1274 (lv_at hl 0 rfl) ?_
  refine lv_iconst (v := 5) Z.hx Z.hb dL_law_1276 (by decide) ?_
  refine lv_iadd Z.hx Z.hb dL_law_1277 ?_
  refine z_top (x' := nI (i + 5)) (z_off i 5) ?_
  refine z_sldN Z hL hXs hbl hbA (k := (i + 5)) (by omega) hL3 dL_law_1278 ?_
  refine lv_aload_n Z.hx Z.hb dL_law_1279 rfl (lv_at hl 1 rfl) ?_
  -- LinkResolverLaw.wayAt
  refine z_wcallSW (rest := []) (As := [.ref o, .int (xs (i + 1)), .int (xs (i + 2)), .int (xs (i + 3)), .int (xs (i + 4)), .int (xs (i + 5)), .ref out]) Z (w_wayAt G l hl0 H Rr σ n o hI.1 hn hI.2.2.1 out fo hI.2.2.2.2.1.1 hI.2.2.2.2.2.1.1 hI.2.2.2.2.1.2 (xs (i + 1)) (xs (i + 2)) (xs (i + 3)) (xs (i + 4)) (xs (i + 5))) gw_X0_142 gd_X0_142 rfl hl.1 (Nat.le_of_ble_eq_true rfl) rfl dL_law_1280 ⟨⟨by omega, by omega⟩, by omega, by omega⟩ hL (fun H_1 locs hL hP_ => ?_)
  obtain ⟨R1_, f1_, hm_, hf1_⟩ := hI.w hP_
  refine lv_istore (lv' := [(5, .int (kAt σ (xs (i + 1)) (xs (i + 2)) (xs (i + 3)) (xs (i + 4)) (xs (i + 5)))), (4, .int (nI i)), (3, .ref out), (2, .ref mo), (1, .ref o), (0, .ref b)]) Z.hx Z.hb dL_law_1283 hl (by decide) rfl (fun ls hl => ?_)
  refine lv_aload_n Z.hx Z.hb dL_law_1285 rfl (lv_at hl 3 rfl) ?_
  refine lv_aload_n Z.hx Z.hb dL_law_1286 rfl (lv_at hl 5 rfl) ?_
  refine lv_iload Z.hx Z.hb dL_law_1287 (lv_at hl 1 rfl) ?_
  refine lv_iconst (v := 1) Z.hx Z.hb dL_law_1289 (by decide) ?_
  refine lv_iadd Z.hx Z.hb dL_law_1290 ?_
  refine z_top (x' := nI (i + 1)) (z_off i 1) ?_
  refine z_sldN Z hL hXs hbl hbA (k := (i + 1)) (by omega) hL3 dL_law_1291 ?_
  refine lv_aload_n Z.hx Z.hb dL_law_1292 rfl (lv_at hl 5 rfl) ?_
  refine lv_iload Z.hx Z.hb dL_law_1293 (lv_at hl 1 rfl) ?_
  refine lv_iconst (v := 2) Z.hx Z.hb dL_law_1295 (by decide) ?_
  refine lv_iadd Z.hx Z.hb dL_law_1296 ?_
  refine z_top (x' := nI (i + 2)) (z_off i 2) ?_
  refine z_sldN Z hL hXs hbl hbA (k := (i + 2)) (by omega) hL3 dL_law_1297 ?_
  refine lv_aload_n Z.hx Z.hb dL_law_1298 rfl (lv_at hl 5 rfl) ?_
  refine lv_iload Z.hx Z.hb dL_law_1299 (lv_at hl 1 rfl) ?_
  refine lv_iconst (v := 3) Z.hx Z.hb dL_law_1301 (by decide) ?_
  refine lv_iadd Z.hx Z.hb dL_law_1302 ?_
  refine z_top (x' := nI (i + 3)) (z_off i 3) ?_
  refine z_sldN Z hL hXs hbl hbA (k := (i + 3)) (by omega) hL3 dL_law_1303 ?_
  refine lv_aload_n Z.hx Z.hb dL_law_1304 rfl (lv_at hl 5 rfl) ?_
  refine lv_iload Z.hx Z.hb dL_law_1305 (lv_at hl 1 rfl) ?_
  refine lv_iconst (v := 4) Z.hx Z.hb dL_law_1307 (by decide) ?_
  refine lv_iadd Z.hx Z.hb dL_law_1308 ?_
  refine z_top (x' := nI (i + 4)) (z_off i 4) ?_
  refine z_sldN Z hL hXs hbl hbA (k := (i + 4)) (by omega) hL3 dL_law_1309 ?_
  refine lv_aload_n Z.hx Z.hb dL_law_1310 rfl (lv_at hl 5 rfl) ?_
  refine lv_iload Z.hx Z.hb dL_law_1311 (lv_at hl 1 rfl) ?_
  refine lv_iconst (v := 5) Z.hx Z.hb dL_law_1313 (by decide) ?_
  refine lv_iadd Z.hx Z.hb dL_law_1314 ?_
  refine z_top (x' := nI (i + 5)) (z_off i 5) ?_
  refine z_sldN Z hL hXs hbl hbA (k := (i + 5)) (by omega) hL3 dL_law_1315 ?_
  -- LinkResolverModel.wayAt
  refine z_mcallV (rest := []) (As := [.int (xs (i + 1)), .int (xs (i + 2)), .int (xs (i + 3)), .int (xs (i + 4)), .int (xs (i + 5))]) Z (m_wayAt G l H_1 mo A f hI.2.1.2.1 σ N th hm_.2.1 hI.2.1.2.2 hI.2.2.1 (Nat.lt_of_le_of_lt hI.2.2.2.1 (by omega)) (xs (i + 1)) (xs (i + 2)) (xs (i + 3)) (xs (i + 4)) (xs (i + 5))) gw_X0_144 gd_X0_144 rfl hm_.2.1.ob rfl hl.1 (Nat.le_of_ble_eq_true rfl) rfl dL_law_1316 ⟨⟨by omega, by omega⟩, by omega, by omega⟩ hL (fun x_ H_2 locs hL hP_ => ?_)
  have hwf_ : sWf (if kAt σ (xs (i + 1)) (xs (i + 2)) (xs (i + 3)) (xs (i + 4)) (xs (i + 5)) = 0 then σ else σ) := lWf hI.2.2.1 (fun hk => hI.2.2.1)
  obtain ⟨v_, f2_, N2_, hM2_, hv2_, hx2_, hJ2_, hI2_⟩ := hI.m hm_ hP_ hwf_
  refine lv_istore (lv' := [(6, .int x_), (5, .int (kAt σ (xs (i + 1)) (xs (i + 2)) (xs (i + 3)) (xs (i + 4)) (xs (i + 5)))), (4, .int (nI i)), (3, .ref out), (2, .ref mo), (1, .ref o), (0, .ref b)]) Z.hx Z.hb dL_law_1319 hl (by decide) rfl (fun ls hl => ?_)
  refine lv_aload_n Z.hx Z.hb dL_law_1321 rfl (lv_at hl 4 rfl) ?_
  -- LinkResolverModel.thrown
  refine z_pcallV (rest := []) (As := []) Z (m_thrown G l H_2 mo A v_ f2_ hM2_) gw_X0_89 gd_X0_89 rfl hM2_.ob rfl hl.1 (Nat.le_of_ble_eq_true rfl) rfl dL_law_1322 ⟨⟨by omega, by omega⟩, by omega, by omega⟩ hL (fun locs hL => ?_)
  refine z_top (x' := kAt σ (xs (i + 1)) (xs (i + 2)) (xs (i + 3)) (xs (i + 4)) (xs (i + 5))) hv2_ ?_
  refine lv_iload Z.hx Z.hb dL_law_1325 (lv_at hl 1 rfl) ?_
  refine lv_icmp_eq (tgt := 1332) Z.hx Z.hb dL_law_1327 (by decide) (fun c1327 => ?_) (fun c1327 => ?_)
  · skip
    refine lv_iload Z.hx Z.hb dL_law_1332 (lv_at hl 1 rfl) ?_
    refine lv_if_ne (tgt := 1349) Z.hx Z.hb dL_law_1334 (by decide) (fun c1334 => ?_) (fun c1334 => ?_)
    · skip
      refine lv_goto (tgt := 1551) Z.hx Z.hb dL_law_1349 (by decide) ?_
      refine W.widen (k := cells + 64) (n := slots + 4000) (by omega) (by omega) ?_
      exact kk _ _ _ _ _ _ _ H_2 _ ls hL hI2_ (lv_sub hl [2, 3, 4, 5, 6] rfl)
    · skip
      have hk9_ : kAt σ (xs (i + 1)) (xs (i + 2)) (xs (i + 3)) (xs (i + 4)) (xs (i + 5)) = 0 := c1334
      refine lv_aload_n Z.hx Z.hb dL_law_1337 rfl (lv_at hl 3 rfl) ?_
      refine lv_iconst (v := 0) Z.hx Z.hb dL_law_1338 (by decide) ?_
      refine z_lald0 Z hJ2_ (by decide) dL_law_1339 ?_
      refine lv_iload Z.hx Z.hb dL_law_1340 (lv_at hl 0 rfl) ?_
      refine lv_i2l (v := x_.toInt64) Z.hx Z.hb dL_law_1342 rfl ?_
      refine z_lcmpE Z ((hf1_ hk9_).trans (by rw [hx2_ hk9_])) dL_law_1343 ?_
      refine lv_if_eq (tgt := 1349) Z.hx Z.hb dL_law_1344 (by decide) (fun c1344 => ?_) (fun c1344 => ?_)
      · skip
        refine lv_goto (tgt := 1551) Z.hx Z.hb dL_law_1349 (by decide) ?_
        refine W.widen (k := cells + 64) (n := slots + 4000) (by omega) (by omega) ?_
        exact kk _ _ _ _ _ _ _ H_2 _ ls hL hI2_ (lv_sub hl [2, 3, 4, 5, 6] rfl)
      · exact absurd (by decide) c1344
  · exact absurd rfl c1327
set_option maxHeartbeats 4000000 in
set_option maxRecDepth 100000 in
theorem law_16 {G : zG} {p : Program} {l : Launch} {e : Env} {R : Room} {s : State} {m : MethodId} {args : Array Value} {below : List Frame} {meth : Method} {c : Code} {H : Heap} {locs : List Loc} {cells slots : Nat} {Q : State → Prop} {ls : Array Slot} {b L i : Nat} {xs : Nat → Int32} {Rr : xRo} {A : Nat → Nat} {f : Nat → Nat → Int32} {fo : Nat → Int64} {σ : zS} {n N o mo out : Nat} {th : Int32} (hl0 : l.stackTraces = false) (Z : zC G p s m args meth c RX0 cL_law 7) (hXs : va_X b L xs s s.heap) (hbl : b < s.heap.size) (hbA : ¬ zA G b) (hi6 : i + 6 ≤ L) (hL3 : L ≤ 384) (hI : lInv G H Rr A f fo σ n N th o mo out) (hn : n < 64) (hL : zL G locs) (hl : lv_has ls 7 [(4, .int (nI i)), (3, .ref out), (2, .ref mo), (1, .ref o), (0, .ref b)]) (hcR : cells + 64 ≤ R.cells) (hsR : slots + 4000 ≤ R.slots) (hfR : 22 ≤ R.frames) (hlR : 10936 ≤ R.locals)
    (kk : ∀ (R1 : xRo) (A1 : Nat → Nat) (f1 : Nat → Nat → Int32) (fo1 : Nat → Int64) (σ1 : zS) (N1 : Nat) (th1 : Int32) (H1 : Heap) (locs1 : List Loc) (ls1 : Array Slot), zL G locs1 → lInv G H1 R1 A1 f1 fo1 σ1 (n + 1) N1 th1 o mo out → lv_has ls1 7 [(4, .int (nI i)), (3, .ref out), (2, .ref mo), (1, .ref o), (0, .ref b)] → W p l e R s m args below meth c H1 locs1 (cells + 64) (slots + 4000) Q (F0 m 1551 ls1 [])) : W p l e R s m args below meth c H locs cells slots Q (F0 m 1352 ls []) := by
  refine lv_aload_n Z.hx Z.hb dL_law_1352 rfl (lv_at hl 3 rfl) ?_
  refine lv_aload_n Z.hx Z.hb dL_law_1353 rfl (lv_at hl 4 rfl) ?_
  refine lv_iload Z.hx Z.hb dL_law_1354 (lv_at hl 0 rfl) ?_
  refine lv_iconst (v := 1) Z.hx Z.hb dL_law_1356 (by decide) ?_
  refine lv_iadd Z.hx Z.hb dL_law_1357 ?_
  refine z_top (x' := nI (i + 1)) (z_off i 1) ?_
  refine z_sldN Z hL hXs hbl hbA (k := (i + 1)) (by omega) hL3 dL_law_1358 ?_
  refine lv_aload_n Z.hx Z.hb dL_law_1359 rfl (lv_at hl 4 rfl) ?_
  refine lv_iload Z.hx Z.hb dL_law_1360 (lv_at hl 0 rfl) ?_
  refine lv_iconst (v := 2) Z.hx Z.hb dL_law_1362 (by decide) ?_
  refine lv_iadd Z.hx Z.hb dL_law_1363 ?_
  refine z_top (x' := nI (i + 2)) (z_off i 2) ?_
  refine z_sldN Z hL hXs hbl hbA (k := (i + 2)) (by omega) hL3 dL_law_1364 ?_
  refine lv_aload_n Z.hx Z.hb dL_law_1365 rfl (lv_at hl 1 rfl) ?_
  -- LinkResolverLaw.gap
  refine z_wcallSW (rest := []) (As := [.ref o, .int (xs (i + 1)), .int (xs (i + 2)), .ref out]) Z (w_gap G l hl0 H Rr σ n o hI.1 hn hI.2.2.1 out fo hI.2.2.2.2.1.1 hI.2.2.2.2.2.1.1 hI.2.2.2.2.1.2 (xs (i + 1)) (xs (i + 2))) gw_X0_145 gd_X0_145 rfl hl.1 (Nat.le_of_ble_eq_true rfl) rfl dL_law_1366 ⟨⟨by omega, by omega⟩, by omega, by omega⟩ hL (fun H_1 locs hL hP_ => ?_)
  obtain ⟨R1_, f1_, hm_, hf1_⟩ := hI.w hP_
  refine lv_istore (lv' := [(5, .int (kTG σ (xs (i + 1)) (xs (i + 2)))), (4, .int (nI i)), (3, .ref out), (2, .ref mo), (1, .ref o), (0, .ref b)]) Z.hx Z.hb dL_law_1369 hl (by decide) rfl (fun ls hl => ?_)
  refine lv_aload_n Z.hx Z.hb dL_law_1371 rfl (lv_at hl 3 rfl) ?_
  refine lv_aload_n Z.hx Z.hb dL_law_1372 rfl (lv_at hl 5 rfl) ?_
  refine lv_iload Z.hx Z.hb dL_law_1373 (lv_at hl 1 rfl) ?_
  refine lv_iconst (v := 1) Z.hx Z.hb dL_law_1375 (by decide) ?_
  refine lv_iadd Z.hx Z.hb dL_law_1376 ?_
  refine z_top (x' := nI (i + 1)) (z_off i 1) ?_
  refine z_sldN Z hL hXs hbl hbA (k := (i + 1)) (by omega) hL3 dL_law_1377 ?_
  refine lv_aload_n Z.hx Z.hb dL_law_1378 rfl (lv_at hl 5 rfl) ?_
  refine lv_iload Z.hx Z.hb dL_law_1379 (lv_at hl 1 rfl) ?_
  refine lv_iconst (v := 2) Z.hx Z.hb dL_law_1381 (by decide) ?_
  refine lv_iadd Z.hx Z.hb dL_law_1382 ?_
  refine z_top (x' := nI (i + 2)) (z_off i 2) ?_
  refine z_sldN Z hL hXs hbl hbA (k := (i + 2)) (by omega) hL3 dL_law_1383 ?_
  -- LinkResolverModel.gap
  refine z_mcallV (rest := []) (As := [.int (xs (i + 1)), .int (xs (i + 2))]) Z (m_gap G l H_1 mo A f hI.2.1.2.1 σ N th hm_.2.1 hI.2.1.2.2 hI.2.2.1 (Nat.lt_of_le_of_lt hI.2.2.2.1 (by omega)) (xs (i + 1)) (xs (i + 2))) gw_X0_147 gd_X0_147 rfl hm_.2.1.ob rfl hl.1 (Nat.le_of_ble_eq_true rfl) rfl dL_law_1384 ⟨⟨by omega, by omega⟩, by omega, by omega⟩ hL (fun x_ H_2 locs hL hP_ => ?_)
  have hwf_ : sWf (if kTG σ (xs (i + 1)) (xs (i + 2)) = 0 then σ else σ) := lWf hI.2.2.1 (fun hk => hI.2.2.1)
  obtain ⟨v_, f2_, N2_, hM2_, hv2_, hx2_, hJ2_, hI2_⟩ := hI.m hm_ hP_ hwf_
  refine lv_istore (lv' := [(6, .int x_), (5, .int (kTG σ (xs (i + 1)) (xs (i + 2)))), (4, .int (nI i)), (3, .ref out), (2, .ref mo), (1, .ref o), (0, .ref b)]) Z.hx Z.hb dL_law_1387 hl (by decide) rfl (fun ls hl => ?_)
  refine lv_aload_n Z.hx Z.hb dL_law_1389 rfl (lv_at hl 4 rfl) ?_
  -- LinkResolverModel.thrown
  refine z_pcallV (rest := []) (As := []) Z (m_thrown G l H_2 mo A v_ f2_ hM2_) gw_X0_89 gd_X0_89 rfl hM2_.ob rfl hl.1 (Nat.le_of_ble_eq_true rfl) rfl dL_law_1390 ⟨⟨by omega, by omega⟩, by omega, by omega⟩ hL (fun locs hL => ?_)
  refine z_top (x' := kTG σ (xs (i + 1)) (xs (i + 2))) hv2_ ?_
  refine lv_iload Z.hx Z.hb dL_law_1393 (lv_at hl 1 rfl) ?_
  refine lv_icmp_eq (tgt := 1400) Z.hx Z.hb dL_law_1395 (by decide) (fun c1395 => ?_) (fun c1395 => ?_)
  · skip
    refine lv_iload Z.hx Z.hb dL_law_1400 (lv_at hl 1 rfl) ?_
    refine lv_if_ne (tgt := 1417) Z.hx Z.hb dL_law_1402 (by decide) (fun c1402 => ?_) (fun c1402 => ?_)
    · skip
      refine lv_goto (tgt := 1551) Z.hx Z.hb dL_law_1417 (by decide) ?_
      refine W.widen (k := cells + 64) (n := slots + 4000) (by omega) (by omega) ?_
      exact kk _ _ _ _ _ _ _ H_2 _ ls hL hI2_ (lv_sub hl [2, 3, 4, 5, 6] rfl)
    · skip
      have hk9_ : kTG σ (xs (i + 1)) (xs (i + 2)) = 0 := c1402
      refine lv_aload_n Z.hx Z.hb dL_law_1405 rfl (lv_at hl 3 rfl) ?_
      refine lv_iconst (v := 0) Z.hx Z.hb dL_law_1406 (by decide) ?_
      refine z_lald0 Z hJ2_ (by decide) dL_law_1407 ?_
      refine lv_iload Z.hx Z.hb dL_law_1408 (lv_at hl 0 rfl) ?_
      refine lv_i2l (v := x_.toInt64) Z.hx Z.hb dL_law_1410 rfl ?_
      refine z_lcmpE Z ((hf1_ hk9_).trans (by rw [hx2_ hk9_])) dL_law_1411 ?_
      refine lv_if_eq (tgt := 1417) Z.hx Z.hb dL_law_1412 (by decide) (fun c1412 => ?_) (fun c1412 => ?_)
      · skip
        refine lv_goto (tgt := 1551) Z.hx Z.hb dL_law_1417 (by decide) ?_
        refine W.widen (k := cells + 64) (n := slots + 4000) (by omega) (by omega) ?_
        exact kk _ _ _ _ _ _ _ H_2 _ ls hL hI2_ (lv_sub hl [2, 3, 4, 5, 6] rfl)
      · exact absurd (by decide) c1412
  · exact absurd rfl c1395
set_option maxHeartbeats 4000000 in
set_option maxRecDepth 100000 in
theorem law_17 {G : zG} {p : Program} {l : Launch} {e : Env} {R : Room} {s : State} {m : MethodId} {args : Array Value} {below : List Frame} {meth : Method} {c : Code} {H : Heap} {locs : List Loc} {cells slots : Nat} {Q : State → Prop} {ls : Array Slot} {b L i : Nat} {xs : Nat → Int32} {Rr : xRo} {A : Nat → Nat} {f : Nat → Nat → Int32} {fo : Nat → Int64} {σ : zS} {n N o mo out : Nat} {th : Int32} (hl0 : l.stackTraces = false) (Z : zC G p s m args meth c RX0 cL_law 7) (hXs : va_X b L xs s s.heap) (hbl : b < s.heap.size) (hbA : ¬ zA G b) (hi6 : i + 6 ≤ L) (hL3 : L ≤ 384) (hI : lInv G H Rr A f fo σ n N th o mo out) (hn : n < 64) (hL : zL G locs) (hl : lv_has ls 7 [(4, .int (nI i)), (3, .ref out), (2, .ref mo), (1, .ref o), (0, .ref b)]) (hcR : cells + 64 ≤ R.cells) (hsR : slots + 4000 ≤ R.slots) (hfR : 22 ≤ R.frames) (hlR : 10936 ≤ R.locals)
    (kk : ∀ (R1 : xRo) (A1 : Nat → Nat) (f1 : Nat → Nat → Int32) (fo1 : Nat → Int64) (σ1 : zS) (N1 : Nat) (th1 : Int32) (H1 : Heap) (locs1 : List Loc) (ls1 : Array Slot), zL G locs1 → lInv G H1 R1 A1 f1 fo1 σ1 (n + 1) N1 th1 o mo out → lv_has ls1 7 [(4, .int (nI i)), (3, .ref out), (2, .ref mo), (1, .ref o), (0, .ref b)] → W p l e R s m args below meth c H1 locs1 (cells + 64) (slots + 4000) Q (F0 m 1551 ls1 [])) : W p l e R s m args below meth c H locs cells slots Q (F0 m 1420 ls []) := by
  refine lv_aload_n Z.hx Z.hb dL_law_1420 rfl (lv_at hl 3 rfl) ?_
  refine lv_aload_n Z.hx Z.hb dL_law_1421 rfl (lv_at hl 4 rfl) ?_
  refine lv_iload Z.hx Z.hb dL_law_1422 (lv_at hl 0 rfl) ?_
  refine lv_iconst (v := 1) Z.hx Z.hb dL_law_1424 (by decide) ?_
  refine lv_iadd Z.hx Z.hb dL_law_1425 ?_
  refine z_top (x' := nI (i + 1)) (z_off i 1) ?_
  refine z_sldN Z hL hXs hbl hbA (k := (i + 1)) (by omega) hL3 dL_law_1426 ?_
  refine lv_aload_n Z.hx Z.hb dL_law_1427 rfl (lv_at hl 4 rfl) ?_
  refine lv_iload Z.hx Z.hb dL_law_1428 (lv_at hl 0 rfl) ?_
  refine lv_iconst (v := 2) Z.hx Z.hb dL_law_1430 (by decide) ?_
  refine lv_iadd Z.hx Z.hb dL_law_1431 ?_
  refine z_top (x' := nI (i + 2)) (z_off i 2) ?_
  refine z_sldN Z hL hXs hbl hbA (k := (i + 2)) (by omega) hL3 dL_law_1432 ?_
  refine lv_aload_n Z.hx Z.hb dL_law_1433 rfl (lv_at hl 1 rfl) ?_
  -- LinkResolverLaw.doubles
  refine z_wcallSW (rest := []) (As := [.ref o, .int (xs (i + 1)), .int (xs (i + 2)), .ref out]) Z (w_doubles G l hl0 H Rr σ n o hI.1 hn hI.2.2.1 out fo hI.2.2.2.2.1.1 hI.2.2.2.2.2.1.1 hI.2.2.2.2.1.2 (xs (i + 1)) (xs (i + 2))) gw_X0_148 gd_X0_148 rfl hl.1 (Nat.le_of_ble_eq_true rfl) rfl dL_law_1434 ⟨⟨by omega, by omega⟩, by omega, by omega⟩ hL (fun H_1 locs hL hP_ => ?_)
  obtain ⟨R1_, f1_, hm_, hf1_⟩ := hI.w hP_
  refine lv_istore (lv' := [(5, .int (kTG σ (xs (i + 1)) (xs (i + 2)))), (4, .int (nI i)), (3, .ref out), (2, .ref mo), (1, .ref o), (0, .ref b)]) Z.hx Z.hb dL_law_1437 hl (by decide) rfl (fun ls hl => ?_)
  refine lv_aload_n Z.hx Z.hb dL_law_1439 rfl (lv_at hl 3 rfl) ?_
  refine lv_aload_n Z.hx Z.hb dL_law_1440 rfl (lv_at hl 5 rfl) ?_
  refine lv_iload Z.hx Z.hb dL_law_1441 (lv_at hl 1 rfl) ?_
  refine lv_iconst (v := 1) Z.hx Z.hb dL_law_1443 (by decide) ?_
  refine lv_iadd Z.hx Z.hb dL_law_1444 ?_
  refine z_top (x' := nI (i + 1)) (z_off i 1) ?_
  refine z_sldN Z hL hXs hbl hbA (k := (i + 1)) (by omega) hL3 dL_law_1445 ?_
  refine lv_aload_n Z.hx Z.hb dL_law_1446 rfl (lv_at hl 5 rfl) ?_
  refine lv_iload Z.hx Z.hb dL_law_1447 (lv_at hl 1 rfl) ?_
  refine lv_iconst (v := 2) Z.hx Z.hb dL_law_1449 (by decide) ?_
  refine lv_iadd Z.hx Z.hb dL_law_1450 ?_
  refine z_top (x' := nI (i + 2)) (z_off i 2) ?_
  refine z_sldN Z hL hXs hbl hbA (k := (i + 2)) (by omega) hL3 dL_law_1451 ?_
  -- LinkResolverModel.doubles
  refine z_mcallV (rest := []) (As := [.int (xs (i + 1)), .int (xs (i + 2))]) Z (m_doubles G l H_1 mo A f hI.2.1.2.1 σ N th hm_.2.1 hI.2.1.2.2 hI.2.2.1 (Nat.lt_of_le_of_lt hI.2.2.2.1 (by omega)) (xs (i + 1)) (xs (i + 2))) gw_X0_150 gd_X0_150 rfl hm_.2.1.ob rfl hl.1 (Nat.le_of_ble_eq_true rfl) rfl dL_law_1452 ⟨⟨by omega, by omega⟩, by omega, by omega⟩ hL (fun x_ H_2 locs hL hP_ => ?_)
  have hwf_ : sWf (if kTG σ (xs (i + 1)) (xs (i + 2)) = 0 then σ else σ) := lWf hI.2.2.1 (fun hk => hI.2.2.1)
  obtain ⟨v_, f2_, N2_, hM2_, hv2_, hx2_, hJ2_, hI2_⟩ := hI.m hm_ hP_ hwf_
  refine lv_istore (lv' := [(6, .int x_), (5, .int (kTG σ (xs (i + 1)) (xs (i + 2)))), (4, .int (nI i)), (3, .ref out), (2, .ref mo), (1, .ref o), (0, .ref b)]) Z.hx Z.hb dL_law_1455 hl (by decide) rfl (fun ls hl => ?_)
  refine lv_aload_n Z.hx Z.hb dL_law_1457 rfl (lv_at hl 4 rfl) ?_
  -- LinkResolverModel.thrown
  refine z_pcallV (rest := []) (As := []) Z (m_thrown G l H_2 mo A v_ f2_ hM2_) gw_X0_89 gd_X0_89 rfl hM2_.ob rfl hl.1 (Nat.le_of_ble_eq_true rfl) rfl dL_law_1458 ⟨⟨by omega, by omega⟩, by omega, by omega⟩ hL (fun locs hL => ?_)
  refine z_top (x' := kTG σ (xs (i + 1)) (xs (i + 2))) hv2_ ?_
  refine lv_iload Z.hx Z.hb dL_law_1461 (lv_at hl 1 rfl) ?_
  refine lv_icmp_eq (tgt := 1468) Z.hx Z.hb dL_law_1463 (by decide) (fun c1463 => ?_) (fun c1463 => ?_)
  · skip
    refine lv_iload Z.hx Z.hb dL_law_1468 (lv_at hl 1 rfl) ?_
    refine lv_if_ne (tgt := 1485) Z.hx Z.hb dL_law_1470 (by decide) (fun c1470 => ?_) (fun c1470 => ?_)
    · skip
      refine lv_goto (tgt := 1551) Z.hx Z.hb dL_law_1485 (by decide) ?_
      refine W.widen (k := cells + 64) (n := slots + 4000) (by omega) (by omega) ?_
      exact kk _ _ _ _ _ _ _ H_2 _ ls hL hI2_ (lv_sub hl [2, 3, 4, 5, 6] rfl)
    · skip
      have hk9_ : kTG σ (xs (i + 1)) (xs (i + 2)) = 0 := c1470
      refine lv_aload_n Z.hx Z.hb dL_law_1473 rfl (lv_at hl 3 rfl) ?_
      refine lv_iconst (v := 0) Z.hx Z.hb dL_law_1474 (by decide) ?_
      refine z_lald0 Z hJ2_ (by decide) dL_law_1475 ?_
      refine lv_iload Z.hx Z.hb dL_law_1476 (lv_at hl 0 rfl) ?_
      refine lv_i2l (v := x_.toInt64) Z.hx Z.hb dL_law_1478 rfl ?_
      refine z_lcmpE Z ((hf1_ hk9_).trans (by rw [hx2_ hk9_])) dL_law_1479 ?_
      refine lv_if_eq (tgt := 1485) Z.hx Z.hb dL_law_1480 (by decide) (fun c1480 => ?_) (fun c1480 => ?_)
      · skip
        refine lv_goto (tgt := 1551) Z.hx Z.hb dL_law_1485 (by decide) ?_
        refine W.widen (k := cells + 64) (n := slots + 4000) (by omega) (by omega) ?_
        exact kk _ _ _ _ _ _ _ H_2 _ ls hL hI2_ (lv_sub hl [2, 3, 4, 5, 6] rfl)
      · exact absurd (by decide) c1480
  · exact absurd rfl c1463
theorem mPost_val {G : zG} {H H1 : Heap} {o : Nat} {A : Nat → Nat} {N : Nat} {σ σ1 : zS} {code v v' : Int32} {r : Option Value} (h : mPost G H o A N σ σ1 code v r H1) (e : code = 0 → v' = v) : mPost G H o A N σ σ1 code v' r H1 := by
  obtain ⟨x, N', w, f, h1, h2, h3, h4, h5, h6, h7⟩ := h
  exact ⟨x, N', w, f, h1, h2, h3, h4, h5, h6, fun z => (h7 z).trans (e z).symm⟩
set_option maxHeartbeats 4000000 in
set_option maxRecDepth 100000 in
theorem law_18 {G : zG} {p : Program} {l : Launch} {e : Env} {R : Room} {s : State} {m : MethodId} {args : Array Value} {below : List Frame} {meth : Method} {c : Code} {H : Heap} {locs : List Loc} {cells slots : Nat} {Q : State → Prop} {ls : Array Slot} {b L i : Nat} {xs : Nat → Int32} {Rr : xRo} {A : Nat → Nat} {f : Nat → Nat → Int32} {fo : Nat → Int64} {σ : zS} {n N o mo out : Nat} {th : Int32} (hl0 : l.stackTraces = false) (Z : zC G p s m args meth c RX0 cL_law 7) (hXs : va_X b L xs s s.heap) (hbl : b < s.heap.size) (hbA : ¬ zA G b) (hi6 : i + 6 ≤ L) (hL3 : L ≤ 384) (hI : lInv G H Rr A f fo σ n N th o mo out) (hn : n < 64) (hL : zL G locs) (hl : lv_has ls 7 [(4, .int (nI i)), (3, .ref out), (2, .ref mo), (1, .ref o), (0, .ref b)]) (hcR : cells + 64 ≤ R.cells) (hsR : slots + 4000 ≤ R.slots) (hfR : 22 ≤ R.frames) (hlR : 10936 ≤ R.locals)
    (kk : ∀ (R1 : xRo) (A1 : Nat → Nat) (f1 : Nat → Nat → Int32) (fo1 : Nat → Int64) (σ1 : zS) (N1 : Nat) (th1 : Int32) (H1 : Heap) (locs1 : List Loc) (ls1 : Array Slot), zL G locs1 → lInv G H1 R1 A1 f1 fo1 σ1 (n + 1) N1 th1 o mo out → lv_has ls1 7 [(4, .int (nI i)), (3, .ref out), (2, .ref mo), (1, .ref o), (0, .ref b)] → W p l e R s m args below meth c H1 locs1 (cells + 64) (slots + 4000) Q (F0 m 1551 ls1 [])) : W p l e R s m args below meth c H locs cells slots Q (F0 m 1488 ls []) := by
  refine lv_aload_n Z.hx Z.hb dL_law_1488 rfl (lv_at hl 3 rfl) ?_
  refine lv_aload_n Z.hx Z.hb dL_law_1489 rfl (lv_at hl 4 rfl) ?_
  refine lv_iload Z.hx Z.hb dL_law_1490 (lv_at hl 0 rfl) ?_
  refine lv_iconst (v := 1) Z.hx Z.hb dL_law_1492 (by decide) ?_
  refine lv_iadd Z.hx Z.hb dL_law_1493 ?_
  refine z_top (x' := nI (i + 1)) (z_off i 1) ?_
  refine z_sldN Z hL hXs hbl hbA (k := (i + 1)) (by omega) hL3 dL_law_1494 ?_
  refine lv_aload_n Z.hx Z.hb dL_law_1495 rfl (lv_at hl 1 rfl) ?_
  -- LinkResolverLaw.isNeedless
  refine z_wcallSW (rest := []) (As := [.ref o, .int (xs (i + 1)), .ref out]) Z (w_isNeedless G l hl0 H Rr σ n o hI.1 hn hI.2.2.1 out fo hI.2.2.2.2.1.1 hI.2.2.2.2.2.1.1 hI.2.2.2.2.1.2 (xs (i + 1))) gw_X0_151 gd_X0_151 rfl hl.1 (Nat.le_of_ble_eq_true rfl) rfl dL_law_1496 ⟨⟨by omega, by omega⟩, by omega, by omega⟩ hL (fun H_1 locs hL hP_ => ?_)
  obtain ⟨R1_, f1_, hm_, hf1_⟩ := hI.w hP_
  refine lv_istore (lv' := [(5, .int (kPk σ (xs (i + 1)))), (4, .int (nI i)), (3, .ref out), (2, .ref mo), (1, .ref o), (0, .ref b)]) Z.hx Z.hb dL_law_1499 hl (by decide) rfl (fun ls hl => ?_)
  refine lv_aload_n Z.hx Z.hb dL_law_1501 rfl (lv_at hl 3 rfl) ?_
  refine lv_aload_n Z.hx Z.hb dL_law_1502 rfl (lv_at hl 5 rfl) ?_
  refine lv_iload Z.hx Z.hb dL_law_1503 (lv_at hl 1 rfl) ?_
  refine lv_iconst (v := 1) Z.hx Z.hb dL_law_1505 (by decide) ?_
  refine lv_iadd Z.hx Z.hb dL_law_1506 ?_
  refine z_top (x' := nI (i + 1)) (z_off i 1) ?_
  refine z_sldN Z hL hXs hbl hbA (k := (i + 1)) (by omega) hL3 dL_law_1507 ?_
  -- LinkResolverModel.isNeedless
  refine z_mcallV (rest := []) (As := [.int (xs (i + 1))]) Z (m_isNeedless G l H_1 mo A f hI.2.1.2.1 σ N th hm_.2.1 hI.2.1.2.2 hI.2.2.1 (Nat.lt_of_le_of_lt hI.2.2.2.1 (by omega)) (xs (i + 1))) gw_X0_153 gd_X0_153 rfl hm_.2.1.ob rfl hl.1 (Nat.le_of_ble_eq_true rfl) rfl dL_law_1508 ⟨⟨by omega, by omega⟩, by omega, by omega⟩ hL (fun x_ H_2 locs hL hP_ => ?_)
  have hwf_ : sWf (if kPk σ (xs (i + 1)) = 0 then σ else σ) := lWf hI.2.2.1 (fun hk => hI.2.2.1)
  have hP_ : mPost G H_1 mo A N σ σ (kPk σ (xs (i + 1))) (zb (sNeed σ (xs (i + 1)).toNatClampNeg)) (some (.int x_)) H_2 := mPost_val hP_ (fun hk => by rw [sNeed_eq hI.2.2.1 (lWf_p (k := 0) hI.2.2.1.2.2.1 (lk_kpk hk))])
  obtain ⟨v_, f2_, N2_, hM2_, hv2_, hx2_, hJ2_, hI2_⟩ := hI.m hm_ hP_ hwf_
  have hx01_ : kPk σ (xs (i + 1)) = 0 → x_ = 0 ∨ x_ = 1 := fun h => by rw [hx2_ h]; exact zb_01
  refine lv_istore (lv' := [(6, .int x_), (5, .int (kPk σ (xs (i + 1)))), (4, .int (nI i)), (3, .ref out), (2, .ref mo), (1, .ref o), (0, .ref b)]) Z.hx Z.hb dL_law_1511 hl (by decide) rfl (fun ls hl => ?_)
  refine lv_aload_n Z.hx Z.hb dL_law_1513 rfl (lv_at hl 4 rfl) ?_
  -- LinkResolverModel.thrown
  refine z_pcallV (rest := []) (As := []) Z (m_thrown G l H_2 mo A v_ f2_ hM2_) gw_X0_89 gd_X0_89 rfl hM2_.ob rfl hl.1 (Nat.le_of_ble_eq_true rfl) rfl dL_law_1514 ⟨⟨by omega, by omega⟩, by omega, by omega⟩ hL (fun locs hL => ?_)
  refine z_top (x' := kPk σ (xs (i + 1))) hv2_ ?_
  refine lv_iload Z.hx Z.hb dL_law_1517 (lv_at hl 1 rfl) ?_
  refine lv_icmp_eq (tgt := 1524) Z.hx Z.hb dL_law_1519 (by decide) (fun c1519 => ?_) (fun c1519 => ?_)
  · skip
    refine lv_iload Z.hx Z.hb dL_law_1524 (lv_at hl 1 rfl) ?_
    refine lv_if_ne (tgt := 1548) Z.hx Z.hb dL_law_1526 (by decide) (fun c1526 => ?_) (fun c1526 => ?_)
    · skip
      refine lv_goto (tgt := 1551) Z.hx Z.hb dL_law_1548 (by decide) ?_
      refine W.widen (k := cells + 64) (n := slots + 4000) (by omega) (by omega) ?_
      exact kk _ _ _ _ _ _ _ H_2 _ ls hL hI2_ (lv_sub hl [2, 3, 4, 5, 6] rfl)
    · skip
      have hk9_ : kPk σ (xs (i + 1)) = 0 := c1526
      refine lv_aload_n Z.hx Z.hb dL_law_1529 rfl (lv_at hl 3 rfl) ?_
      refine lv_iconst (v := 0) Z.hx Z.hb dL_law_1530 (by decide) ?_
      refine z_lald0 Z hJ2_ (by decide) dL_law_1531 ?_
      refine lv_iload Z.hx Z.hb dL_law_1532 (lv_at hl 0 rfl) ?_
      refine lv_if_eq (tgt := 1541) Z.hx Z.hb dL_law_1534 (by decide) (fun cb1534 => ?_) (fun cb1534 => ?_)
      · skip
        refine lv_lconst (v := 0) Z.hx Z.hb dL_law_1541 (by decide) ?_
        have hb9_ : x_ = 0 := cb1534
        refine z_lcmpE Z ((hf1_ hk9_).trans (by rw [← hx2_ hk9_, hb9_]; rfl)) dL_law_1542 ?_
        refine lv_if_eq (tgt := 1548) Z.hx Z.hb dL_law_1543 (by decide) (fun c1543 => ?_) (fun c1543 => ?_)
        · skip
          refine lv_goto (tgt := 1551) Z.hx Z.hb dL_law_1548 (by decide) ?_
          refine W.widen (k := cells + 64) (n := slots + 4000) (by omega) (by omega) ?_
          exact kk _ _ _ _ _ _ _ H_2 _ ls hL hI2_ (lv_sub hl [2, 3, 4, 5, 6] rfl)
        · exact absurd (by decide) c1543
      · skip
        refine lv_lconst (v := 1) Z.hx Z.hb dL_law_1537 (by decide) ?_
        refine lv_goto (tgt := 1542) Z.hx Z.hb dL_law_1538 (by decide) ?_
        have hb9_ : x_ = 1 := (hx01_ hk9_).resolve_left cb1534
        refine z_lcmpE Z ((hf1_ hk9_).trans (by rw [← hx2_ hk9_, hb9_]; rfl)) dL_law_1542 ?_
        refine lv_if_eq (tgt := 1548) Z.hx Z.hb dL_law_1543 (by decide) (fun c1543 => ?_) (fun c1543 => ?_)
        · skip
          refine lv_goto (tgt := 1551) Z.hx Z.hb dL_law_1548 (by decide) ?_
          refine W.widen (k := cells + 64) (n := slots + 4000) (by omega) (by omega) ?_
          exact kk _ _ _ _ _ _ _ H_2 _ ls hL hI2_ (lv_sub hl [2, 3, 4, 5, 6] rfl)
        · exact absurd (by decide) c1543
  · exact absurd rfl c1519
set_option maxHeartbeats 4000000 in
set_option maxRecDepth 100000 in
theorem law_8 {G : zG} {p : Program} {l : Launch} {e : Env} {R : Room} {s : State} {m : MethodId} {args : Array Value} {below : List Frame} {meth : Method} {c : Code} {H : Heap} {locs : List Loc} {cells slots : Nat} {Q : State → Prop} {ls : Array Slot} {b L i : Nat} {xs : Nat → Int32} {Rr : xRo} {A : Nat → Nat} {f : Nat → Nat → Int32} {fo : Nat → Int64} {σ : zS} {n N o mo out : Nat} {th : Int32} (hl0 : l.stackTraces = false) (Z : zC G p s m args meth c RX0 cL_law 7) (hXs : va_X b L xs s s.heap) (hbl : b < s.heap.size) (hbA : ¬ zA G b) (hi6 : i + 6 ≤ L) (hL3 : L ≤ 384) (hI : lInv G H Rr A f fo σ n N th o mo out) (hn : n < 64) (hL : zL G locs) (hl : lv_has ls 7 [(4, .int (nI i)), (3, .ref out), (2, .ref mo), (1, .ref o), (0, .ref b)]) (hcR : cells + 64 ≤ R.cells) (hsR : slots + 4000 ≤ R.slots) (hfR : 22 ≤ R.frames) (hlR : 10936 ≤ R.locals)
    (kk : ∀ (R1 : xRo) (A1 : Nat → Nat) (f1 : Nat → Nat → Int32) (fo1 : Nat → Int64) (σ1 : zS) (N1 : Nat) (th1 : Int32) (H1 : Heap) (locs1 : List Loc) (ls1 : Array Slot), zL G locs1 → lInv G H1 R1 A1 f1 fo1 σ1 (n + 1) N1 th1 o mo out → lv_has ls1 7 [(4, .int (nI i)), (3, .ref out), (2, .ref mo), (1, .ref o), (0, .ref b)] → W p l e R s m args below meth c H1 locs1 (cells + 64) (slots + 4000) Q (F0 m 1551 ls1 [])) : W p l e R s m args below meth c H locs cells slots Q (F0 m 734 ls []) := by
  refine lv_aload_n Z.hx Z.hb dL_law_734 rfl (lv_at hl 3 rfl) ?_
  obtain ⟨tl, pl, ts, ps, hO9⟩ := hI.1.op
  -- LinkResolver.today
  refine z_pcallV (rest := []) (As := []) Z (x_today G l H Rr σ n o tl pl ts ps hO9 (by omega) hI.2.2.1) gw_X0_119 gd_X0_119 rfl hO9.ob rfl hl.1 (Nat.le_of_ble_eq_true rfl) rfl dL_law_735 ⟨⟨by omega, by omega⟩, by omega, by omega⟩ hL (fun locs hL => ?_)
  refine lv_aload_n Z.hx Z.hb dL_law_738 rfl (lv_at hl 2 rfl) ?_
  -- LinkResolverModel.today
  refine z_mcallV (rest := [.int (sT σ)]) (As := []) Z (m_today G l H mo A f hI.2.1.2.1 σ N th hI.2.1.1 hI.2.1.2.2 hI.2.2.1 (Nat.lt_of_le_of_lt hI.2.2.2.1 (by omega))) gw_X0_122 gd_X0_122 rfl hI.2.1.1.ob rfl hl.1 (Nat.le_of_ble_eq_true rfl) rfl dL_law_739 ⟨⟨by omega, by omega⟩, by omega, by omega⟩ hL (fun x_ H_2 locs hL hP_ => ?_)
  have hm_ : lMid G H Rr A f fo σ (if (0 : Int32) = 0 then σ else σ) n N th o mo out := by
    rw [if_pos rfl]
    exact ⟨hI.1.more (Nat.le_succ n), hI.2.1.1, hI.2.2.2.2.1.1, hI.2.2.2.2.2.1⟩
  obtain ⟨v_, f2_, N2_, hM2_, hv2_, hx2_, hJ2_, hI2_⟩ := hI.m hm_ hP_ (lWf hI.2.2.1 (fun _ => hI.2.2.1))
  refine z_top (x' := sT σ) (hx2_ rfl) ?_
  refine lv_icmp_eq (tgt := 1551) Z.hx Z.hb dL_law_742 (by decide) (fun c742 => ?_) (fun c742 => ?_)
  · skip
    refine W.widen (k := cells + 64) (n := slots + 4000) (by omega) (by omega) ?_
    exact kk _ _ _ _ _ _ _ H_2 _ ls hL hI2_ (lv_sub hl [0, 1, 2, 3, 4] rfl)
  · exact absurd rfl c742
