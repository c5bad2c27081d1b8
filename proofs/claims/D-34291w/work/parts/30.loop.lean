/-! THE CLAIM OUT OF ONE WALK OF THE LAW'S BODY. Your part is whole_start (and what it stands on); all else here is the same for every law, but numbers. -/
def R_law : String := "LinkResolverLaw"
def lw_P (b : Addr) (xs : List Int32) (args : Array Value) (s : State) : Prop := args = #[.ref b] ∧ s.IntsAt b xs ∧ xs.length ≤ 384 ∧ (Jvm.Cond.and given_1 narrow_1).before args s = true
def lw_Q (_ : Array Value) (s : State) (o : Outcome) (t : State) : Prop := o = .returned (some (.int 1)) ∧ Framed s o t [] 603072 7166058
def lw_Z (below : List Frame) (a : Array Value) (s : State) : State → Prop := fun t => ∃ o, t.status = .running ∧ Ended t below o ∧ lw_Q a s o t
/-- the law's own end, with 1 on the stack, nothing written that was there before, its room as the claim has it -/
theorem lw_ret {p : Program} {l : Launch} {e : Env} {s : State} {m : MethodId} {below : List Frame} {meth : Method} {c : Code} {b : Nat} (hx : p.tables.exec = Jvm.exec) (hb : c.code = code) (hr : meth.sig.returnType = ret) (hlocks : meth.locks = false) {pc : Nat} {H : Heap} {ls : Array Slot} (hdg : decode code pc = .ok (.ireturn, 1)) : W p l e room_1 s m #[Value.ref b] below meth c H [] 603072 7166058 (lw_Z below #[Value.ref b] s) (F0 m pc ls [.int 1]) := by
  intro T hT X
  obtain ⟨fs, hret, hrun, hended, hW, hframe⟩ := X.leave (v := some (.int 1)) (hlocks := hlocks) (fun h => by rw [hr] at h; cases h)
  have hmeth' : T.vm.method? m = some meth := X.method'
  refine ⟨T.setFrames fs, ?_, .returned (some (.int 1)), hrun, hended, rfl, ⟨_, rfl⟩, hW, hframe⟩
  jvm_step X.here [X.here.top, hx, hb, hdg, hmeth', hr, ret, narrow_b1]
  (try refine ⟨rfl, ?_⟩); (try refine ⟨rfl, ?_⟩)
  first | (intro acts; rw [hret _ acts rfl rfl rfl]) | rw [hret _ _ rfl rfl rfl]
  exact Steps.refl _
/-- what holds at the law's entry: the machine, the code, the tables' words (any of lw_tbl by 'hts w (by decide +kernel)'), the script of L ints xs at the cell b, what the Statement gives of the start (any of its parts by flat_of_before) -/
def lw_At (p : Program) (s : State) (m : MethodId) (meth : Method) (c : Code) (b L : Nat) (xs : Nat → Int32) : Prop :=
  p.tables.exec = Jvm.exec ∧ c.code = code ∧ meth.sig.returnType = ret ∧ c.maxLocals = 7 ∧ s.vm.findClass R_law = some m.cls ∧ (∀ w ∈ lw_tbl, w.before #[Value.ref b] s = true) ∧ va_X b L xs s s.heap ∧ b < s.heap.size ∧ meth.locks = false ∧ (Jvm.Cond.and given_1 narrow_1).before #[Value.ref b] s = true
/-! the law's loop -/
theorem lw_gt {L i : Nat} (hL : L ≤ 384) (hi : i ≤ 390) : nI L - 6 < nI i ↔ L < i + 6 := by
  have h1 : (nI L - 6).toInt = (L : Int) - 6 := by
    rw [Int32.toInt_sub, nI_toInt (by omega), show (6 : Int32).toInt = 6 from by decide]
    rw [Int.bmod_eq_of_le] <;> omega
  rw [Int32.lt_iff_toInt_lt, h1, nI_toInt (by omega)]
  omega
theorem lw_31 (x : Int32) : ∃ k : Nat, k < 32 ∧ x &&& 31 = nI k := by
  have h : (x &&& 31) = nI ((x &&& 31).toUInt32.toNat) := by
    apply Int32.toBitVec_inj.mp
    show _ = BitVec.ofNat 32 _
    simp
  refine ⟨(x &&& 31).toUInt32.toNat, ?_, h⟩
  have h2 : (x &&& 31).toUInt32.toNat = x.toUInt32.toNat &&& 31 := rfl
  rw [h2]
  have := Nat.and_le_right (n := x.toUInt32.toNat) (m := 31)
  omega
theorem lInv.more {G : zG} {H : Heap} {R : xRo} {A : Nat → Nat} {f : Nat → Nat → Int32} {fo : Nat → Int64} {σ : zS} {n N o mo out : Nat} {th : Int32} (h : lInv G H R A f fo σ n N th o mo out) : lInv G H R A f fo σ (n + 1) N th o mo out := by
  obtain ⟨h1, h2, h3, h4, h5⟩ := h
  exact ⟨h1.more (Nat.le_succ n), h2, h3, Nat.le_succ_of_le h4, h5⟩
set_option maxHeartbeats 4000000 in
set_option maxRecDepth 100000 in
/-- the loop: n calls are done -/
theorem law_loop {G : zG} {p : Program} {l : Launch} {e : Env} {s : State} {m : MethodId} {below : List Frame} {meth : Method} {c : Code} {b L : Nat} {xs : Nat → Int32} {o mo out : Nat} {c0 s0 : Nat} (hl0 : l.stackTraces = false) (Z : zC G p s m #[Value.ref b] meth c RX0 cL_law 7) (hr : meth.sig.returnType = ret) (hXs : va_X b L xs s s.heap) (hbl : b < s.heap.size) (hbA : ¬ zA G b) (hGB : s.heap.size ≤ (zHB G).size) (hL3 : L ≤ 384) (hc0 : c0 + 64 * 66 ≤ 603072) (hs0 : s0 + 4000 * 66 ≤ 7166058) :
    ∀ (r n : Nat), L < 6 * n + 6 * r + 6 → 6 * n ≤ L + 5 → ∀ (H : Heap) (Rr : xRo) (A : Nat → Nat) (f : Nat → Nat → Int32) (fo : Nat → Int64) (σ : zS) (N : Nat) (th : Int32) (locs : List Loc) (ls : Array Slot), zL G locs → lInv G H Rr A f fo σ n N th o mo out → lv_has ls 7 [(4, .int (nI (6 * n))), (3, .ref out), (2, .ref mo), (1, .ref o), (0, .ref b)] →
      W p l e room_1 s m #[Value.ref b] below meth c H locs (c0 + 64 * n) (s0 + 4000 * n) (lw_Z below #[Value.ref b] s) (F0 m 23 ls []) := by
  intro r
  induction r with
  | zero =>
    intro n hn hn2 H Rr A f fo σ N th locs ls hL hI hl
    refine lv_iload Z.hx Z.hb dL_law_23 (lv_at hl 0 rfl) ?_
    refine lv_aload_n Z.hx Z.hb dL_law_25 rfl (lv_at hl 4 rfl) ?_
    refine z_slen Z hL hXs hbl hbA dL_law_26 ?_
    refine lv_bipush (v := 6) Z.hx Z.hb dL_law_27 (by decide) ?_
    refine lv_isub Z.hx Z.hb dL_law_29 ?_
    refine lv_icmp_gt (tgt := 1557) Z.hx Z.hb dL_law_30 (by decide) (fun c30 => ?_) (fun c30 => ?_)
    · refine lv_iconst (v := 1) Z.hx Z.hb dL_law_1557 (by decide) ?_
      refine va_forget (fun q hq => Nat.le_trans hGB (hL q hq)) ?_
      refine W.widen (k := 603072) (n := 7166058) (by omega) (by omega) ?_
      exact lw_ret Z.hx Z.hb hr Z.lk dL_law_1558
    · exact absurd ((lw_gt hL3 (by omega)).mpr (by omega)) c30
  | succ r ih =>
    intro n hn hn2 H Rr A f fo σ N th locs ls hL hI hl
    refine lv_iload Z.hx Z.hb dL_law_23 (lv_at hl 0 rfl) ?_
    refine lv_aload_n Z.hx Z.hb dL_law_25 rfl (lv_at hl 4 rfl) ?_
    refine z_slen Z hL hXs hbl hbA dL_law_26 ?_
    refine lv_bipush (v := 6) Z.hx Z.hb dL_law_27 (by decide) ?_
    refine lv_isub Z.hx Z.hb dL_law_29 ?_
    refine lv_icmp_gt (tgt := 1557) Z.hx Z.hb dL_law_30 (by decide) (fun c30 => ?_) (fun c30 => ?_)
    · refine lv_iconst (v := 1) Z.hx Z.hb dL_law_1557 (by decide) ?_
      refine va_forget (fun q hq => Nat.le_trans hGB (hL q hq)) ?_
      refine W.widen (k := 603072) (n := 7166058) (by omega) (by omega) ?_
      exact lw_ret Z.hx Z.hb hr Z.lk dL_law_1558
    · have hi6 : 6 * n + 6 ≤ L := by
        rcases Nat.lt_or_ge L (6 * n + 6) with g | g
        · exact absurd ((lw_gt hL3 (by omega)).mpr g) c30
        · exact g
      have kk : ∀ (R1 : xRo) (A1 : Nat → Nat) (f1 : Nat → Nat → Int32) (fo1 : Nat → Int64) (σ1 : zS) (N1 : Nat) (th1 : Int32) (H1 : Heap) (locs1 : List Loc) (ls1 : Array Slot), zL G locs1 → lInv G H1 R1 A1 f1 fo1 σ1 (n + 1) N1 th1 o mo out → lv_has ls1 7 [(4, .int (nI (6 * n))), (3, .ref out), (2, .ref mo), (1, .ref o), (0, .ref b)] → W p l e room_1 s m #[Value.ref b] below meth c H1 locs1 (c0 + 64 * n + 64) (s0 + 4000 * n + 4000) (lw_Z below #[Value.ref b] s) (F0 m 1551 ls1 []) := by
        intro R1 A1 f1 fo1 σ1 N1 th1 H1 locs1 ls1 hL hI hl
        have ih := ih (n + 1) (by omega) (by omega) H1 R1 A1 f1 fo1 σ1 N1 th1
        rw [show c0 + 64 * (n + 1) = c0 + 64 * n + 64 by omega, show s0 + 4000 * (n + 1) = s0 + 4000 * n + 4000 by omega] at ih
        refine lv_iinc (v := nI (6 * n) + 6) (lv' := [(4, .int (nI (6 * n) + 6)), (3, .ref out), (2, .ref mo), (1, .ref o), (0, .ref b)]) Z.hx Z.hb dL_law_1551 hl (k := 0) rfl rfl (by decide) rfl (fun ls hl => ?_)
        refine lv_goto (tgt := 23) Z.hx Z.hb dL_law_1554 (by decide) ?_
        exact ih _ ls hL hI (z_loc hl (by rw [show nI (6 * (n + 1)) = nI (6 * n) + 6 from (z_off (6 * n) 6).symm]))
      refine lv_aload_n Z.hx Z.hb dL_law_33 rfl (lv_at hl 4 rfl) ?_
      refine lv_iload Z.hx Z.hb dL_law_34 (lv_at hl 0 rfl) ?_
      refine z_sldN Z hL hXs hbl hbA (k := 6 * n) (by omega) hL3 dL_law_36 ?_
      refine lv_bipush (v := 31) Z.hx Z.hb dL_law_37 (by decide) ?_
      refine lv_iand Z.hx Z.hb dL_law_39 ?_
      obtain ⟨k, hk, hk2⟩ := lw_31 (xs (6 * n))
      refine z_top (x' := nI k) hk2 ?_
      rcases (show k = 0 ∨ k = 1 ∨ k = 2 ∨ k = 3 ∨ k = 4 ∨ k = 5 ∨ k = 6 ∨ k = 7 ∨ k = 8 ∨ k = 9 ∨ k = 10 ∨ k = 11 ∨ k = 12 ∨ k = 13 ∨ k = 14 ∨ k = 15 ∨ k = 16 ∨ k = 17 ∨ k = 18 ∨ 18 < k by omega) with rfl | rfl | rfl | rfl | rfl | rfl | rfl | rfl | rfl | rfl | rfl | rfl | rfl | rfl | rfl | rfl | rfl | rfl | rfl | hk18
      · exact lv_tableIn (tgt := 132) Z.hx Z.hb dL_law_40 (by decide) (by decide) (off := 92) (by decide) (by decide) (law_0 hl0 Z hXs hbl hbA hi6 hL3 hI (by omega) hL hl (by show _ ≤ 603072; omega) (by show _ ≤ 7166058; omega) (by show 22 ≤ 22; omega) (by show 10936 ≤ 10936; omega) kk)
      · exact lv_tableIn (tgt := 200) Z.hx Z.hb dL_law_40 (by decide) (by decide) (off := 160) (by decide) (by decide) (law_1 hl0 Z hXs hbl hbA hi6 hL3 hI (by omega) hL hl (by show _ ≤ 603072; omega) (by show _ ≤ 7166058; omega) (by show 22 ≤ 22; omega) (by show 10936 ≤ 10936; omega) kk)
      · exact lv_tableIn (tgt := 268) Z.hx Z.hb dL_law_40 (by decide) (by decide) (off := 228) (by decide) (by decide) (law_2 hl0 Z hXs hbl hbA hi6 hL3 hI (by omega) hL hl (by show _ ≤ 603072; omega) (by show _ ≤ 7166058; omega) (by show 22 ≤ 22; omega) (by show 10936 ≤ 10936; omega) kk)
      · exact lv_tableIn (tgt := 336) Z.hx Z.hb dL_law_40 (by decide) (by decide) (off := 296) (by decide) (by decide) (law_3 hl0 Z hXs hbl hbA hi6 hL3 hI (by omega) hL hl (by show _ ≤ 603072; omega) (by show _ ≤ 7166058; omega) (by show 22 ≤ 22; omega) (by show 10936 ≤ 10936; omega) kk)
      · exact lv_tableIn (tgt := 428) Z.hx Z.hb dL_law_40 (by decide) (by decide) (off := 388) (by decide) (by decide) (law_4 hl0 Z hXs hbl hbA hi6 hL3 hI (by omega) hL hl (by show _ ≤ 603072; omega) (by show _ ≤ 7166058; omega) (by show 22 ≤ 22; omega) (by show 10936 ≤ 10936; omega) kk)
      · exact lv_tableIn (tgt := 519) Z.hx Z.hb dL_law_40 (by decide) (by decide) (off := 479) (by decide) (by decide) (law_5 hl0 Z hXs hbl hbA hi6 hL3 hI (by omega) hL hl (by show _ ≤ 603072; omega) (by show _ ≤ 7166058; omega) (by show 22 ≤ 22; omega) (by show 10936 ≤ 10936; omega) kk)
      · exact lv_tableIn (tgt := 630) Z.hx Z.hb dL_law_40 (by decide) (by decide) (off := 590) (by decide) (by decide) (law_6 hl0 Z hXs hbl hbA hi6 hL3 hI (by omega) hL hl (by show _ ≤ 603072; omega) (by show _ ≤ 7166058; omega) (by show 22 ≤ 22; omega) (by show 10936 ≤ 10936; omega) kk)
      · exact lv_tableIn (tgt := 678) Z.hx Z.hb dL_law_40 (by decide) (by decide) (off := 638) (by decide) (by decide) (law_7 hl0 Z hXs hbl hbA hi6 hL3 hI (by omega) hL hl (by show _ ≤ 603072; omega) (by show _ ≤ 7166058; omega) (by show 22 ≤ 22; omega) (by show 10936 ≤ 10936; omega) kk)
      · exact lv_tableIn (tgt := 734) Z.hx Z.hb dL_law_40 (by decide) (by decide) (off := 694) (by decide) (by decide) (law_8 hl0 Z hXs hbl hbA hi6 hL3 hI (by omega) hL hl (by show _ ≤ 603072; omega) (by show _ ≤ 7166058; omega) (by show 22 ≤ 22; omega) (by show 10936 ≤ 10936; omega) kk)
      · exact lv_tableIn (tgt := 747) Z.hx Z.hb dL_law_40 (by decide) (by decide) (off := 707) (by decide) (by decide) (law_9 hl0 Z hXs hbl hbA hi6 hL3 hI (by omega) hL hl (by show _ ≤ 603072; omega) (by show _ ≤ 7166058; omega) (by show 22 ≤ 22; omega) (by show 10936 ≤ 10936; omega) kk)
      · exact lv_tableIn (tgt := 822) Z.hx Z.hb dL_law_40 (by decide) (by decide) (off := 782) (by decide) (by decide) (law_10 hl0 Z hXs hbl hbA hi6 hL3 hI (by omega) hL hl (by show _ ≤ 603072; omega) (by show _ ≤ 7166058; omega) (by show 22 ≤ 22; omega) (by show 10936 ≤ 10936; omega) kk)
      · exact lv_tableIn (tgt := 909) Z.hx Z.hb dL_law_40 (by decide) (by decide) (off := 869) (by decide) (by decide) (law_11 hl0 Z hXs hbl hbA hi6 hL3 hI (by omega) hL hl (by show _ ≤ 603072; omega) (by show _ ≤ 7166058; omega) (by show 22 ≤ 22; omega) (by show 10936 ≤ 10936; omega) kk)
      · exact lv_tableIn (tgt := 977) Z.hx Z.hb dL_law_40 (by decide) (by decide) (off := 937) (by decide) (by decide) (law_12 hl0 Z hXs hbl hbA hi6 hL3 hI (by omega) hL hl (by show _ ≤ 603072; omega) (by show _ ≤ 7166058; omega) (by show 22 ≤ 22; omega) (by show 10936 ≤ 10936; omega) kk)
      · exact lv_tableIn (tgt := 1045) Z.hx Z.hb dL_law_40 (by decide) (by decide) (off := 1005) (by decide) (by decide) (law_13 hl0 Z hXs hbl hbA hi6 hL3 hI (by omega) hL hl (by show _ ≤ 603072; omega) (by show _ ≤ 7166058; omega) (by show 22 ≤ 22; omega) (by show 10936 ≤ 10936; omega) kk)
      · exact lv_tableIn (tgt := 1156) Z.hx Z.hb dL_law_40 (by decide) (by decide) (off := 1116) (by decide) (by decide) (law_14 hl0 Z hXs hbl hbA hi6 hL3 hI (by omega) hL hl (by show _ ≤ 603072; omega) (by show _ ≤ 7166058; omega) (by show 22 ≤ 22; omega) (by show 10936 ≤ 10936; omega) kk)
      · exact lv_tableIn (tgt := 1248) Z.hx Z.hb dL_law_40 (by decide) (by decide) (off := 1208) (by decide) (by decide) (law_15 hl0 Z hXs hbl hbA hi6 hL3 hI (by omega) hL hl (by show _ ≤ 603072; omega) (by show _ ≤ 7166058; omega) (by show 22 ≤ 22; omega) (by show 10936 ≤ 10936; omega) kk)
      · exact lv_tableIn (tgt := 1352) Z.hx Z.hb dL_law_40 (by decide) (by decide) (off := 1312) (by decide) (by decide) (law_16 hl0 Z hXs hbl hbA hi6 hL3 hI (by omega) hL hl (by show _ ≤ 603072; omega) (by show _ ≤ 7166058; omega) (by show 22 ≤ 22; omega) (by show 10936 ≤ 10936; omega) kk)
      · exact lv_tableIn (tgt := 1420) Z.hx Z.hb dL_law_40 (by decide) (by decide) (off := 1380) (by decide) (by decide) (law_17 hl0 Z hXs hbl hbA hi6 hL3 hI (by omega) hL hl (by show _ ≤ 603072; omega) (by show _ ≤ 7166058; omega) (by show 22 ≤ 22; omega) (by show 10936 ≤ 10936; omega) kk)
      · exact lv_tableIn (tgt := 1488) Z.hx Z.hb dL_law_40 (by decide) (by decide) (off := 1448) (by decide) (by decide) (law_18 hl0 Z hXs hbl hbA hi6 hL3 hI (by omega) hL hl (by show _ ≤ 603072; omega) (by show _ ≤ 7166058; omega) (by show 22 ≤ 22; omega) (by show 10936 ≤ 10936; omega) kk)
      · refine lv_tableOut (tgt := 1551) Z.hx Z.hb dL_law_40 (Or.inr ?_) (by decide) ?_
        · rw [nI_toInt (by omega)]
          omega
        · refine W.widen (k := c0 + 64 * n + 64) (n := s0 + 4000 * n + 4000) (by omega) (by omega) ?_
          exact kk _ _ _ _ _ _ _ H _ ls hL hI.more hl
