/-! the law's wrappers: each catches what its call throws -/
/-- a method with handlers, from its walk -/
theorem zMW.of {G : zG} {l : Launch} {y : MethodName} {cc : ByteArray} {nL : Nat} {ret : Option FieldType} {hh : List (Nat × Nat × Nat × Nat)} {d mc ms : Nat} {av : List Value} {H0 : Heap} {P : Option Value → Heap → Prop} (hy : plainName y.cls = true) (hlen : (lg_sl av).length ≤ nL)
    (body : ∀ (p : Program) (e : Env) (s : State) (m : MethodId) (args : Array Value) (below : List Frame) (meth : Method) (c : Code), zC G p s m args meth c y.cls cc nL → meth.sig.returnType = ret → c.exceptionTable.toList = tableOf hh → s.heap = H0 → ∀ ls : Array Slot, lv_has ls nL (lv_args 0 av) →
      W p l e (zr d mc ms) s m args below meth c H0 [] 0 0 (MQ below (zQ P) args s mc ms (zA G)) (F0 m 0 ls [])) : zMW G l y cc nL ret hh d mc ms av H0 P := by
  show Met l y (wsW_ y cc nL ret hh) (zr d mc ms) (zPc G av H0) (zQ P) mc ms (zA G)
  refine MetFree.of_bodyS (code := cc) (maxLocals := nL) (ret := ret) hy ?_ ?_
  · intro args s m h hn
    obtain ⟨m9, meth, c, h0, h1, h2, h3, h4, -, h5, h6, -⟩ := Cond.codeWith_spec (atoms_spec (ws := wsW_ y cc nL ret hh) h _ List.mem_cons_self)
    cases Option.some.inj (h0.symm.trans hn)
    exact ⟨meth, c, h1, h2, h3, h4, h5, h6⟩
  · intro p e s m args below meth c s₁ B hml hv _
    have hh0 : s₁.heap = s.heap := by rw [B.state]; rfl
    obtain ⟨rfl, hH, hK, hB⟩ := hv
    have hts := atoms_spec (ws := wsW_ y cc nL ret hh) B.pre
    have hxt := vx_table (x := y) B (hts _ List.mem_cons_self)
    have hts : ∀ w ∈ lw_all, w.before _ s = true := fun w h => hts w (List.mem_cons_of_mem _ h)
    have hl := lv_entry av hlen
    rw [← hH] at hB
    have k := body p e s m _ below meth c ⟨⟨B.exec, B.bytes, hml, findClass_of_methodNamed B.named, hts⟩, hK, hB, B.notSynchronized⟩ B.returns hxt hH _ hl
    obtain ⟨t, a1, o, b1, b2, b3⟩ := k s₁ (hh0.trans hH) (Stand.of_body B)
    exact ⟨t, o, by rw [lg_entry_eq]; exact a1, b1, b2, ⟨b3.1, b3.2⟩⟩
section ZW
variable {G : zG} {p : Program} {l : Launch} {e : Env} {R : Room} {s : State} {m : MethodId} {args : Array Value} {below : List Frame} {meth : Method} {c : Code} {H : Heap} {locs : List Loc} {cells slots : Nat} {Q : State → Prop} {own : String} {cc : ByteArray} {nL pc : Nat} {ls : Array Slot} {rest : List Value}
theorem z_catch1 (Z : zC G p s m args meth c own cc nL) {a b h k : Nat} {hs : List (Nat × Nat × Nat × Nat)} (hxt : c.exceptionTable.toList = tableOf ((a, b, h, k) :: hs)) {E : String} {ce : Cell} {q : Addr} (hcov : covers ⟨a, b, h, k⟩ pc = true) (h0 : k ≠ 0) (hlink : Cond.classLink own k E ∈ lw_all) (hcast : Cond.castable E E ∈ lw_tbl) (hcell : H[q]? = some ce) (hv : ce.vm = .none) (hcl : s.vm.findClass E = some ce.cls)
    (kk : W p l e R s m args below meth c H locs cells slots Q (F0 m h ls [.ref q])) : vx_W p l e R s m args below meth c H locs cells slots Q (F0 m pc ls rest) q :=
  vx_catch Z.hown [] ⟨a, b, h, k⟩ (tableOf hs) hxt (fun z hz => absurd hz List.not_mem_nil) hcov h0 (Z.hts _ hlink) (va_Nw.use rfl (Z.nw hcast rfl)) hcell hv hcl kk
theorem z_catch2 (Z : zC G p s m args meth c own cc nL) {a b h k a2 b2 h2 k2 : Nat} {hs : List (Nat × Nat × Nat × Nat)} (hxt : c.exceptionTable.toList = tableOf ((a, b, h, k) :: (a2, b2, h2, k2) :: hs)) {E E1 : String} {ce : Cell} {q : Addr} (h01 : k ≠ 0) (hlink1 : Cond.classLink own k E1 ∈ lw_all) (hN : va_Nc E E1 s) (hcov : covers ⟨a2, b2, h2, k2⟩ pc = true) (h0 : k2 ≠ 0) (hlink : Cond.classLink own k2 E ∈ lw_all) (hcast : Cond.castable E E ∈ lw_tbl) (hcell : H[q]? = some ce) (hv : ce.vm = .none) (hcl : s.vm.findClass E = some ce.cls)
    (kk : W p l e R s m args below meth c H locs cells slots Q (F0 m h2 ls [.ref q])) : vx_W p l e R s m args below meth c H locs cells slots Q (F0 m pc ls rest) q :=
  vx_catch Z.hown [⟨a, b, h, k⟩] ⟨a2, b2, h2, k2⟩ (tableOf hs) hxt (fun z hz => by rw [List.mem_singleton.mp hz]; exact Or.inr ⟨h01, E1, Z.hts _ hlink1, hN⟩) hcov h0 (Z.hts _ hlink) (va_Nw.use rfl (Z.nw hcast rfl)) hcell hv hcl kk
end ZW
/-- what a wrapper leaves: out[0] the answer, if nothing was thrown -/
def wPost (G : zG) (H : Heap) (R : xRo) (σ σ1 : zS) (n o out : Nat) (code v : Int32) (r : Option Value) (H1 : Heap) : Prop := r = some (.int code) ∧ ∃ R1, xRep G H1 R1 (if code = 0 then σ1 else σ) (n + 1) o ∧ H.size ≤ H1.size ∧ (∀ q, q < H.size → R1 q = R q) ∧ (∀ q, q < H.size → q ≠ out → R q = (0, 0, 0) → H1[q]? = H[q]?) ∧ ∃ f1, zJ G H1 out 1 f1 ∧ (code = 0 → f1 0 = v.toInt64)
theorem xNx.rf {G : zG} {H : Heap} {R : xRo} {σ : zS} {n o : Nat} (h : xRep G H R σ n o) : xNx G H R σ (n + 1) o H := ⟨R, h.more (Nat.le_succ n), Nat.le_refl _, fun _ _ => rfl, fun _ _ _ => rfl⟩
theorem xNx.J {G : zG} {H H1 : Heap} {R : xRo} {σ1 : zS} {n o out : Nat} (h : xNx G H R σ1 n o H1) {f : Nat → Int64} (hJ : zJ G H out 1 f) (hR : R out = (0, 0, 0)) : zJ G H1 out 1 f := by
  obtain ⟨R1, -, -, -, g⟩ := h
  exact hJ.kept (g out hJ.lt hR)
theorem wPost.thr {G : zG} {H H1 : Heap} {R : xRo} {σ σ1 : zS} {n o out : Nat} {code v c : Int32} (hX : xRep G H R σ n o) (hk : zKeep H H1) {f : Nat → Int64} (hJ : zJ G H out 1 f) (hc : code = c) (h0 : c ≠ 0) : wPost G H R σ σ1 n o out code v (some (.int c)) H1 := by
  subst hc
  refine ⟨rfl, R, ?_, hk.1, fun _ _ => rfl, fun q h1 _ _ => hk.2 q h1, f, hJ.kept (hk.2 out hJ.lt), fun z => absurd z h0⟩
  rw [if_neg h0]
  exact (hX.keep hk).more (Nat.le_succ n)
theorem wPost.ok {G : zG} {H H1 H2 : Heap} {R : xRo} {σ σ1 : zS} {n o out : Nat} {code v x : Int32} {f f2 : Nat → Int64} (hN : xNx G H R σ1 (n + 1) o H1) (hJ0 : zJ G H out 1 f) (hR : R out = (0, 0, 0)) (hJ : zJ G H2 out 1 f2) (hz : H2.size = H1.size) (hq : ∀ q : Nat, q ≠ out → H2[q]? = H1[q]?) (hc : code = 0) (hv : f2 0 = x.toInt64) (hx : x = v) : wPost G H R σ σ1 n o out code v (some (.int 0)) H2 := by
  subst hc
  subst hx
  obtain ⟨R1, g1, g2, g3, g4⟩ := hN
  refine ⟨rfl, R1, ?_, by omega, g3, fun q h1 h2 h3 => (hq q h2).trans (g4 q h1 h3), f2, hJ, fun _ => hv⟩
  rw [if_pos rfl]
  exact xRep.ch ⟨by omega, fun _ _ => rfl, fun q _ h2 => hq q (fun e => h2 (by rw [e, g3 out hJ0.lt, hR]))⟩ g1
/-- what counts when nothing is answered -/
def wPost0 (G : zG) (H : Heap) (R : xRo) (σ σ1 : zS) (n o : Nat) (code : Int32) (r : Option Value) (H1 : Heap) : Prop := r = some (.int code) ∧ xNx G H R (if code = 0 then σ1 else σ) (n + 1) o H1
section LK
variable {G : zG} {p : Program} {l : Launch} {e : Env} {R : Room} {s : State} {m : MethodId} {args : Array Value} {below : List Frame} {meth : Method} {c : Code} {H : Heap} {locs : List Loc} {cells slots : Nat} {Q : State → Prop} {cc : ByteArray} {nL pc : Nat} {ls : Array Slot} {rest : List Value}
end LK
theorem gw_X0_79 : GoodIn lw_all (ws_ yX1_init cX1_init 1 none) := lw_meth q57
theorem gd_X0_79 : zhd yX1_init 0 := by decide +kernel
theorem gw_X0_119 : GoodIn lw_all (wsV RX0 119 RX1 yX1_today (ws_ yX1_today cX1_today 1 (Option.some Jvm.ClassFile.FieldType.int))) := lw_V q97 q98 q99 q29 q100
theorem gd_X0_119 : yX1_today.cls = RX1 ∧ zhd yX1_today 0 := by decide +kernel
theorem gw_X0_83 : GoodIn lw_all (va_wsS RX0 83 yX0_addTitle (wsW_ yX0_addTitle cX0_addTitle 5 (Option.some Jvm.ClassFile.FieldType.int) [(0, 10, 13, 13), (0, 10, 17, 15)])) := lw_SW q101 q102 q28 q103
theorem gd_X0_83 : zhd yX0_addTitle 4 := by decide +kernel
theorem gw_X0_7 : GoodIn lw_all (wsV RX0 7 RX1 yX1_addTitle (ws_ yX1_addTitle cX1_addTitle 3 (Option.some Jvm.ClassFile.FieldType.int))) := lw_V q106 q107 q108 q29 q109
theorem gd_X0_7 : yX1_addTitle.cls = RX1 ∧ zhd yX1_addTitle 2 := by decide +kernel
theorem gw_X0_93 : GoodIn lw_all (va_wsS RX0 93 yX0_yearOf (wsW_ yX0_yearOf cX0_yearOf 5 (Option.some Jvm.ClassFile.FieldType.int) [(0, 10, 13, 20), (0, 10, 17, 13)])) := lw_SW q285 q286 q28 q287
theorem gd_X0_93 : zhd yX0_yearOf 4 := by decide +kernel
theorem gw_X0_17 : GoodIn lw_all (wsV RX0 17 RX1 yX1_yearOf (ws_ yX1_yearOf cX1_yearOf 4 (Option.some Jvm.ClassFile.FieldType.int))) := lw_V q321 q322 q323 q29 q324
theorem gd_X0_17 : yX1_yearOf.cls = RX1 ∧ zhd yX1_yearOf 2 := by decide +kernel
theorem gw_X0_96 : GoodIn lw_all (va_wsS RX0 96 yX0_volumeOf (wsW_ yX0_volumeOf cX0_volumeOf 5 (Option.some Jvm.ClassFile.FieldType.int) [(0, 10, 13, 20), (0, 10, 17, 13)])) := lw_SW q374 q375 q28 q376
theorem gd_X0_96 : zhd yX0_volumeOf 4 := by decide +kernel
theorem gw_X0_22 : GoodIn lw_all (wsV RX0 22 RX1 yX1_volumeOf (ws_ yX1_volumeOf cX1_volumeOf 4 (Option.some Jvm.ClassFile.FieldType.int))) := lw_V q377 q378 q379 q29 q380
theorem gd_X0_22 : yX1_volumeOf.cls = RX1 ∧ zhd yX1_volumeOf 2 := by decide +kernel
theorem gw_X0_99 : GoodIn lw_all (va_wsS RX0 99 yX0_addPackage (wsW_ yX0_addPackage cX0_addPackage 7 (Option.some Jvm.ClassFile.FieldType.int) [(0, 14, 17, 13), (0, 14, 21, 15)])) := lw_SW q381 q382 q28 q383
theorem gd_X0_99 : zhd yX0_addPackage 6 := by decide +kernel
theorem gw_X0_25 : GoodIn lw_all (wsV RX0 25 RX1 yX1_addPackage (ws_ yX1_addPackage cX1_addPackage 5 (Option.some Jvm.ClassFile.FieldType.int))) := lw_V q384 q385 q386 q29 q387
theorem gd_X0_25 : yX1_addPackage.cls = RX1 ∧ zhd yX1_addPackage 4 := by decide +kernel
theorem gw_X0_103 : GoodIn lw_all (va_wsS RX0 103 yX0_subscribe (wsW_ yX0_subscribe cX0_subscribe 5 (Option.some Jvm.ClassFile.FieldType.int) [(0, 17, 20, 20)])) := lw_SW q427 q428 q28 q429
theorem gd_X0_103 : zhd yX0_subscribe 4 := by decide +kernel
theorem gw_X0_29 : GoodIn lw_all (wsV RX0 29 RX1 yX1_subscribe (ws_ yX1_subscribe cX1_subscribe 5 (Option.some Jvm.ClassFile.FieldType.boolean))) := lw_V q430 q431 q432 q29 q433
theorem gd_X0_29 : yX1_subscribe.cls = RX1 ∧ zhd yX1_subscribe 2 := by decide +kernel
theorem gw_X0_107 : GoodIn lw_all (va_wsS RX0 107 yX0_come (wsW_ yX0_come cX0_come 8 (Option.some Jvm.ClassFile.FieldType.int) [(0, 23, 26, 20), (0, 23, 30, 13)])) := lw_SW q468 q469 q28 q470
theorem gd_X0_107 : zhd yX0_come 7 := by decide +kernel
theorem gw_X0_33 : GoodIn lw_all (wsV RX0 33 RX1 yX1_come (ws_ yX1_come cX1_come 8 (Option.some Jvm.ClassFile.FieldType.boolean))) := lw_V q471 q472 q473 q29 q474
theorem gd_X0_33 : yX1_come.cls = RX1 ∧ zhd yX1_come 5 := by decide +kernel
theorem gw_X0_111 : GoodIn lw_all (va_wsS RX0 111 yX0_go (wsW_ yX0_go cX0_go 4 (Option.some Jvm.ClassFile.FieldType.int) [(0, 6, 9, 20), (0, 6, 12, 15)])) := lw_SW q520 q521 q28 q522
theorem gd_X0_111 : zhd yX0_go 3 := by decide +kernel
theorem gw_X0_37 : GoodIn lw_all (wsV RX0 37 RX1 yX1_go (ws_ yX1_go cX1_go 4 (Option.none : Option Jvm.ClassFile.FieldType))) := lw_V q523 q524 q525 q29 q526
theorem gd_X0_37 : yX1_go.cls = RX1 ∧ zhd yX1_go 2 := by decide +kernel
theorem gw_X0_115 : GoodIn lw_all (va_wsS RX0 115 yX0_pass (wsW_ yX0_pass cX0_pass 4 (Option.some Jvm.ClassFile.FieldType.int) [(0, 9, 12, 13), (0, 9, 15, 15)])) := lw_SW q527 q528 q28 q529
theorem gd_X0_115 : zhd yX0_pass 3 := by decide +kernel
theorem gw_X0_41 : GoodIn lw_all (wsV RX0 41 RX1 yX1_pass (ws_ yX1_pass cX1_pass 2 (Option.some Jvm.ClassFile.FieldType.int))) := lw_V q530 q531 q532 q29 q533
theorem gd_X0_41 : yX1_pass.cls = RX1 ∧ zhd yX1_pass 1 := by decide +kernel
theorem gw_X0_123 : GoodIn lw_all (va_wsS RX0 123 yX0_isSubscribed (wsW_ yX0_isSubscribed cX0_isSubscribed 5 (Option.some Jvm.ClassFile.FieldType.int) [(0, 17, 20, 20), (0, 17, 24, 13)])) := lw_SW q534 q535 q28 q536
theorem gd_X0_123 : zhd yX0_isSubscribed 4 := by decide +kernel
theorem gw_X0_45 : GoodIn lw_all (wsV RX0 45 RX1 yX1_isSubscribed (ws_ yX1_isSubscribed cX1_isSubscribed 4 (Option.some Jvm.ClassFile.FieldType.boolean))) := lw_V q537 q538 q539 q29 q540
theorem gd_X0_45 : yX1_isSubscribed.cls = RX1 ∧ zhd yX1_isSubscribed 2 := by decide +kernel
theorem gw_X0_126 : GoodIn lw_all (va_wsS RX0 126 yX0_isIn (wsW_ yX0_isIn cX0_isIn 6 (Option.some Jvm.ClassFile.FieldType.int) [(0, 19, 22, 20), (0, 19, 26, 13)])) := lw_SW q541 q542 q28 q543
theorem gd_X0_126 : zhd yX0_isIn 5 := by decide +kernel
theorem gw_X0_49 : GoodIn lw_all (wsV RX0 49 RX1 yX1_isIn (ws_ yX1_isIn cX1_isIn 5 (Option.some Jvm.ClassFile.FieldType.boolean))) := lw_V q544 q545 q546 q29 q547
theorem gd_X0_49 : yX1_isIn.cls = RX1 ∧ zhd yX1_isIn 3 := by decide +kernel
theorem gw_X0_130 : GoodIn lw_all (va_wsS RX0 130 yX0_report (wsW_ yX0_report cX0_report 5 (Option.some Jvm.ClassFile.FieldType.int) [(0, 10, 13, 20)])) := lw_SW q548 q549 q28 q550
theorem gd_X0_130 : zhd yX0_report 4 := by decide +kernel
theorem gw_X0_53 : GoodIn lw_all (wsV RX0 53 RX1 yX1_report (ws_ yX1_report cX1_report 4 (Option.some Jvm.ClassFile.FieldType.int))) := lw_V q551 q552 q553 q29 q554
theorem gd_X0_53 : yX1_report.cls = RX1 ∧ zhd yX1_report 2 := by decide +kernel
theorem gw_X0_133 : GoodIn lw_all (va_wsS RX0 133 yX0_mend (wsW_ yX0_mend cX0_mend 5 (Option.some Jvm.ClassFile.FieldType.int) [(0, 10, 13, 20)])) := lw_SW q555 q556 q28 q557
theorem gd_X0_133 : zhd yX0_mend 4 := by decide +kernel
theorem gw_X0_56 : GoodIn lw_all (wsV RX0 56 RX1 yX1_mend (ws_ yX1_mend cX1_mend 5 (Option.some Jvm.ClassFile.FieldType.int))) := lw_V q558 q559 q560 q29 q561
theorem gd_X0_56 : yX1_mend.cls = RX1 ∧ zhd yX1_mend 2 := by decide +kernel
theorem gw_X0_136 : GoodIn lw_all (va_wsS RX0 136 yX0_covers (wsW_ yX0_covers cX0_covers 8 (Option.some Jvm.ClassFile.FieldType.int) [(0, 23, 26, 20), (0, 23, 30, 13)])) := lw_SW q562 q563 q28 q564
theorem gd_X0_136 : zhd yX0_covers 7 := by decide +kernel
theorem gw_X0_59 : GoodIn lw_all (wsV RX0 59 RX1 yX1_covers (ws_ yX1_covers cX1_covers 7 (Option.some Jvm.ClassFile.FieldType.boolean))) := lw_V q565 q566 q567 q29 q568
theorem gd_X0_59 : yX1_covers.cls = RX1 ∧ zhd yX1_covers 5 := by decide +kernel
theorem gw_X0_139 : GoodIn lw_all (va_wsS RX0 139 yX0_ways (wsW_ yX0_ways cX0_ways 7 (Option.some Jvm.ClassFile.FieldType.int) [(0, 14, 17, 20), (0, 14, 21, 13)])) := lw_SW q601 q602 q28 q603
theorem gd_X0_139 : zhd yX0_ways 6 := by decide +kernel
theorem gw_X0_62 : GoodIn lw_all (wsV RX0 62 RX1 yX1_ways (ws_ yX1_ways cX1_ways 5 (Option.some Jvm.ClassFile.FieldType.int))) := lw_V q604 q605 q606 q29 q607
theorem gd_X0_62 : yX1_ways.cls = RX1 ∧ zhd yX1_ways 4 := by decide +kernel
theorem gw_X0_142 : GoodIn lw_all (va_wsS RX0 142 yX0_wayAt (wsW_ yX0_wayAt cX0_wayAt 8 (Option.some Jvm.ClassFile.FieldType.int) [(0, 16, 19, 13), (0, 16, 23, 20)])) := lw_SW q612 q613 q28 q614
theorem gd_X0_142 : zhd yX0_wayAt 7 := by decide +kernel
theorem gw_X0_65 : GoodIn lw_all (wsV RX0 65 RX1 yX1_wayAt (ws_ yX1_wayAt cX1_wayAt 8 (Option.some Jvm.ClassFile.FieldType.int))) := lw_V q615 q616 q617 q29 q618
theorem gd_X0_65 : yX1_wayAt.cls = RX1 ∧ zhd yX1_wayAt 5 := by decide +kernel
theorem gw_X0_145 : GoodIn lw_all (va_wsS RX0 145 yX0_gap (wsW_ yX0_gap cX0_gap 5 (Option.some Jvm.ClassFile.FieldType.int) [(0, 10, 13, 20), (0, 10, 17, 13)])) := lw_SW q627 q628 q28 q629
theorem gd_X0_145 : zhd yX0_gap 4 := by decide +kernel
theorem gw_X0_69 : GoodIn lw_all (wsV RX0 69 RX1 yX1_gap (ws_ yX1_gap cX1_gap 5 (Option.some Jvm.ClassFile.FieldType.int))) := lw_V q630 q631 q632 q29 q633
theorem gd_X0_69 : yX1_gap.cls = RX1 ∧ zhd yX1_gap 2 := by decide +kernel
theorem gw_X0_148 : GoodIn lw_all (va_wsS RX0 148 yX0_doubles (wsW_ yX0_doubles cX0_doubles 5 (Option.some Jvm.ClassFile.FieldType.int) [(0, 10, 13, 20), (0, 10, 17, 13)])) := lw_SW q639 q640 q28 q641
theorem gd_X0_148 : zhd yX0_doubles 4 := by decide +kernel
theorem gw_X0_72 : GoodIn lw_all (wsV RX0 72 RX1 yX1_doubles (ws_ yX1_doubles cX1_doubles 6 (Option.some Jvm.ClassFile.FieldType.int))) := lw_V q642 q643 q644 q29 q645
theorem gd_X0_72 : yX1_doubles.cls = RX1 ∧ zhd yX1_doubles 2 := by decide +kernel
theorem gw_X0_151 : GoodIn lw_all (va_wsS RX0 151 yX0_isNeedless (wsW_ yX0_isNeedless cX0_isNeedless 4 (Option.some Jvm.ClassFile.FieldType.int) [(0, 16, 19, 20)])) := lw_SW q646 q647 q28 q648
theorem gd_X0_151 : zhd yX0_isNeedless 3 := by decide +kernel
theorem gw_X0_75 : GoodIn lw_all (wsV RX0 75 RX1 yX1_isNeedless (ws_ yX1_isNeedless cX1_isNeedless 7 (Option.some Jvm.ClassFile.FieldType.boolean))) := lw_V q649 q650 q651 q29 q652
theorem gd_X0_75 : yX1_isNeedless.cls = RX1 ∧ zhd yX1_isNeedless 1 := by decide +kernel
theorem gw_X0_82 : GoodIn lw_all (ws_ yX2_init cX2_init 1 none) := lw_meth q662
theorem gd_X0_82 : zhd yX2_init 0 := by decide +kernel
theorem gw_X0_89 : GoodIn lw_all (wsV RX0 89 RX2 yX2_thrown (ws_ yX2_thrown cX2_thrown 1 (Option.some Jvm.ClassFile.FieldType.int))) := lw_V q720 q721 q722 q33 q723
theorem gd_X0_89 : yX2_thrown.cls = RX2 ∧ zhd yX2_thrown 0 := by decide +kernel
theorem gw_X0_88 : GoodIn lw_all (wsV RX0 88 RX2 yX2_addTitle (ws_ yX2_addTitle cX2_addTitle 3 (Option.some Jvm.ClassFile.FieldType.int))) := lw_V q724 q725 q726 q33 q727
theorem gd_X0_88 : yX2_addTitle.cls = RX2 ∧ zhd yX2_addTitle 2 := by decide +kernel
theorem gw_X0_95 : GoodIn lw_all (wsV RX0 95 RX2 yX2_yearOf (ws_ yX2_yearOf cX2_yearOf 4 (Option.some Jvm.ClassFile.FieldType.int))) := lw_V q735 q736 q737 q33 q738
theorem gd_X0_95 : yX2_yearOf.cls = RX2 ∧ zhd yX2_yearOf 2 := by decide +kernel
theorem gw_X0_98 : GoodIn lw_all (wsV RX0 98 RX2 yX2_volumeOf (ws_ yX2_volumeOf cX2_volumeOf 4 (Option.some Jvm.ClassFile.FieldType.int))) := lw_V q743 q744 q745 q33 q746
theorem gd_X0_98 : yX2_volumeOf.cls = RX2 ∧ zhd yX2_volumeOf 2 := by decide +kernel
theorem gw_X0_102 : GoodIn lw_all (wsV RX0 102 RX2 yX2_addPackage (ws_ yX2_addPackage cX2_addPackage 6 (Option.some Jvm.ClassFile.FieldType.int))) := lw_V q747 q748 q749 q33 q750
theorem gd_X0_102 : yX2_addPackage.cls = RX2 ∧ zhd yX2_addPackage 4 := by decide +kernel
theorem gw_X0_106 : GoodIn lw_all (wsV RX0 106 RX2 yX2_subscribe (ws_ yX2_subscribe cX2_subscribe 3 (Option.some Jvm.ClassFile.FieldType.boolean))) := lw_V q751 q752 q753 q33 q754
theorem gd_X0_106 : yX2_subscribe.cls = RX2 ∧ zhd yX2_subscribe 2 := by decide +kernel
theorem gw_X0_110 : GoodIn lw_all (wsV RX0 110 RX2 yX2_come (ws_ yX2_come cX2_come 8 (Option.some Jvm.ClassFile.FieldType.boolean))) := lw_V q770 q771 q772 q33 q773
theorem gd_X0_110 : yX2_come.cls = RX2 ∧ zhd yX2_come 5 := by decide +kernel
theorem gw_X0_114 : GoodIn lw_all (wsV RX0 114 RX2 yX2_go (ws_ yX2_go cX2_go 5 (Option.none : Option Jvm.ClassFile.FieldType))) := lw_V q774 q775 q776 q33 q777
theorem gd_X0_114 : yX2_go.cls = RX2 ∧ zhd yX2_go 2 := by decide +kernel
theorem gw_X0_118 : GoodIn lw_all (wsV RX0 118 RX2 yX2_pass (ws_ yX2_pass cX2_pass 2 (Option.some Jvm.ClassFile.FieldType.int))) := lw_V q782 q783 q784 q33 q785
theorem gd_X0_118 : yX2_pass.cls = RX2 ∧ zhd yX2_pass 1 := by decide +kernel
theorem gw_X0_122 : GoodIn lw_all (wsV RX0 122 RX2 yX2_today (ws_ yX2_today cX2_today 1 (Option.some Jvm.ClassFile.FieldType.int))) := lw_V q786 q787 q788 q33 q789
theorem gd_X0_122 : yX2_today.cls = RX2 ∧ zhd yX2_today 0 := by decide +kernel
theorem gw_X0_125 : GoodIn lw_all (wsV RX0 125 RX2 yX2_isSubscribed (ws_ yX2_isSubscribed cX2_isSubscribed 3 (Option.some Jvm.ClassFile.FieldType.boolean))) := lw_V q790 q791 q792 q33 q793
theorem gd_X0_125 : yX2_isSubscribed.cls = RX2 ∧ zhd yX2_isSubscribed 2 := by decide +kernel
theorem gw_X0_129 : GoodIn lw_all (wsV RX0 129 RX2 yX2_isIn (ws_ yX2_isIn cX2_isIn 4 (Option.some Jvm.ClassFile.FieldType.boolean))) := lw_V q794 q795 q796 q33 q797
theorem gd_X0_129 : yX2_isIn.cls = RX2 ∧ zhd yX2_isIn 3 := by decide +kernel
theorem gw_X0_132 : GoodIn lw_all (wsV RX0 132 RX2 yX2_report (ws_ yX2_report cX2_report 3 (Option.some Jvm.ClassFile.FieldType.int))) := lw_V q798 q799 q800 q33 q801
theorem gd_X0_132 : yX2_report.cls = RX2 ∧ zhd yX2_report 2 := by decide +kernel
theorem gw_X0_135 : GoodIn lw_all (wsV RX0 135 RX2 yX2_mend (ws_ yX2_mend cX2_mend 4 (Option.some Jvm.ClassFile.FieldType.int))) := lw_V q802 q803 q804 q33 q805
theorem gd_X0_135 : yX2_mend.cls = RX2 ∧ zhd yX2_mend 2 := by decide +kernel
theorem gw_X0_138 : GoodIn lw_all (wsV RX0 138 RX2 yX2_covers (ws_ yX2_covers cX2_covers 7 (Option.some Jvm.ClassFile.FieldType.boolean))) := lw_V q806 q807 q808 q33 q809
theorem gd_X0_138 : yX2_covers.cls = RX2 ∧ zhd yX2_covers 5 := by decide +kernel
theorem gw_X0_141 : GoodIn lw_all (wsV RX0 141 RX2 yX2_ways (ws_ yX2_ways cX2_ways 5 (Option.some Jvm.ClassFile.FieldType.int))) := lw_V q830 q831 q832 q33 q833
theorem gd_X0_141 : yX2_ways.cls = RX2 ∧ zhd yX2_ways 4 := by decide +kernel
theorem gw_X0_144 : GoodIn lw_all (wsV RX0 144 RX2 yX2_wayAt (ws_ yX2_wayAt cX2_wayAt 12 (Option.some Jvm.ClassFile.FieldType.int))) := lw_V q838 q839 q840 q33 q841
theorem gd_X0_144 : yX2_wayAt.cls = RX2 ∧ zhd yX2_wayAt 5 := by decide +kernel
theorem gw_X0_147 : GoodIn lw_all (wsV RX0 147 RX2 yX2_gap (ws_ yX2_gap cX2_gap 5 (Option.some Jvm.ClassFile.FieldType.int))) := lw_V q846 q847 q848 q33 q849
theorem gd_X0_147 : yX2_gap.cls = RX2 ∧ zhd yX2_gap 2 := by decide +kernel
theorem gw_X0_150 : GoodIn lw_all (wsV RX0 150 RX2 yX2_doubles (ws_ yX2_doubles cX2_doubles 5 (Option.some Jvm.ClassFile.FieldType.int))) := lw_V q854 q855 q856 q33 q857
theorem gd_X0_150 : yX2_doubles.cls = RX2 ∧ zhd yX2_doubles 2 := by decide +kernel
theorem gw_X0_153 : GoodIn lw_all (wsV RX0 153 RX2 yX2_isNeedless (ws_ yX2_isNeedless cX2_isNeedless 6 (Option.some Jvm.ClassFile.FieldType.boolean))) := lw_V q858 q859 q860 q33 q861
theorem gd_X0_153 : yX2_isNeedless.cls = RX2 ∧ zhd yX2_isNeedless 1 := by decide +kernel
set_option maxHeartbeats 4000000 in
set_option maxRecDepth 100000 in
theorem w_addTitle (G : zG) (l : Launch) (hl0 : l.stackTraces = false) (H : Heap) (R : xRo) (σ : zS) (n o : Nat) (hX : xRep G H R σ n o) (hn64 : n < 64) (hW : sWf σ) (out : Nat) (f : Nat → Int64) (hJ : zJ G H out 1 f) (hRo : R out = (0, 0, 0)) (hoB : (zHB G).size ≤ out) (a b : Int32) : zMW G l yX0_addTitle cX0_addTitle 5 (Option.some Jvm.ClassFile.FieldType.int) [(0, 10, 13, 13), (0, 10, 17, 15)] 10 16 400 [.ref o, .int a, .int b, .ref out] H (wPost G H R σ (sAddT σ a b) n o out (kAddT σ a b) (nI (sN σ))) := by
  obtain ⟨tl, pl, ts, ps, hO9⟩ := hX.op
  refine zMW.of (by decide +kernel) (Nat.le_of_ble_eq_true rfl) ?_
  intro p0 e0 s0 m0 args0 below0 meth0 c0 Z hr hxt hH ls hl
  have Z : zC G p0 s0 m0 args0 meth0 c0 RX0 cX0_addTitle 5 := Z
  have hl : lv_has ls 5 [(0, .ref o), (1, .int a), (2, .int b), (3, .ref out)] := hl
  have hL : zL G [] := zL.nil
  refine lv_aload_n Z.hx Z.hb dX0_addTitle_0 rfl (lv_at hl 3 rfl) ?_
  refine lv_iconst (v := 0) Z.hx Z.hb dX0_addTitle_1 (by decide) ?_
  refine lv_aload_n Z.hx Z.hb dX0_addTitle_2 rfl (lv_at hl 0 rfl) ?_
  refine lv_iload_n Z.hx Z.hb dX0_addTitle_3 rfl (lv_at hl 1 rfl) ?_
  refine lv_iload_n Z.hx Z.hb dX0_addTitle_4 rfl (lv_at hl 2 rfl) ?_
  -- LinkResolver.addTitle
  refine z_xgcallV (rest := [.int 0, .ref out]) (As := [.int a, .int b]) Z (x_addTitle G l hl0 H R σ n o tl pl ts ps hO9 (by omega) hW a b) gw_X0_7 gd_X0_7 rfl hO9.ob rfl hl.1 (Nat.le_of_ble_eq_true rfl) rfl dX0_addTitle_5 ⟨⟨Nat.le_of_ble_eq_true rfl, Nat.le_of_ble_eq_true rfl⟩, Nat.le_of_ble_eq_true rfl, Nat.le_of_ble_eq_true rfl⟩ hL (fun E_ ce_ q_ H_ locs hL hk_ hx_ h1_ h2_ h3_ => ?_) (fun H_1 locs hL hP_ => ?_)
  · skip
    rcases hx_ with ⟨rfl, hc_⟩ | ⟨rfl, hc_⟩
    · skip
      refine z_catch1 Z hxt (E := RJ6) (by decide) (by decide) q104 q115 h1_ h2_ h3_ ?_
      refine lv_astore (lv' := [(4, .ref q_), (0, .ref o), (1, .int a), (2, .int b), (3, .ref out)]) Z.hx Z.hb dX0_addTitle_13 hl (by decide) rfl (fun ls hl => ?_)
      refine lv_iconst (v := 1) Z.hx Z.hb dX0_addTitle_15 (by decide) ?_
      exact z_iret Z hr hL (wPost.thr hX hk_ hJ hc_ (by decide)) (Nat.le_of_ble_eq_true rfl) (Nat.le_of_ble_eq_true rfl) dX0_addTitle_16
    · skip
      refine z_catch2 Z hxt (E := RJ7) (E1 := RJ6) (by decide) q104 Z.K.2.2.2.2.2.2.1 (by decide) (by decide) q105 q193 h1_ h2_ h3_ ?_
      refine lv_astore (lv' := [(4, .ref q_), (0, .ref o), (1, .int a), (2, .int b), (3, .ref out)]) Z.hx Z.hb dX0_addTitle_17 hl (by decide) rfl (fun ls hl => ?_)
      refine lv_iconst (v := 2) Z.hx Z.hb dX0_addTitle_19 (by decide) ?_
      exact z_iret Z hr hL (wPost.thr hX hk_ hJ hc_ (by decide)) (Nat.le_of_ble_eq_true rfl) (Nat.le_of_ble_eq_true rfl) dX0_addTitle_20
  refine lv_i2l (v := (nI (sN σ)).toInt64) Z.hx Z.hb dX0_addTitle_8 rfl ?_
  have hJ1_ := hP_.2.J hJ hRo
  refine z_last0 Z hJ1_ (by decide) hL hoB dX0_addTitle_9 (fun H_2 locs hL hJ2_ hz2_ hq2_ => ?_)
  refine lv_goto (tgt := 21) Z.hx Z.hb dX0_addTitle_10 (by decide) ?_
  refine lv_iconst (v := 0) Z.hx Z.hb dX0_addTitle_21 (by decide) ?_
  exact z_iret Z hr hL (wPost.ok (x := nI (sN σ)) (hP_.2) hJ hRo hJ2_ hz2_ hq2_ hP_.1 rfl rfl) (Nat.le_of_ble_eq_true rfl) (Nat.le_of_ble_eq_true rfl) dX0_addTitle_22
set_option maxHeartbeats 4000000 in
set_option maxRecDepth 100000 in
theorem w_yearOf (G : zG) (l : Launch) (hl0 : l.stackTraces = false) (H : Heap) (R : xRo) (σ : zS) (n o : Nat) (hX : xRep G H R σ n o) (hn64 : n < 64) (hW : sWf σ) (out : Nat) (f : Nat → Int64) (hJ : zJ G H out 1 f) (hRo : R out = (0, 0, 0)) (hoB : (zHB G).size ≤ out) (t w : Int32) : zMW G l yX0_yearOf cX0_yearOf 5 (Option.some Jvm.ClassFile.FieldType.int) [(0, 10, 13, 20), (0, 10, 17, 13)] 10 8 48 [.ref o, .int t, .int w, .ref out] H (wPost G H R σ σ n o out (kYear σ t w) (sA σ 0 t.toNatClampNeg + (w - 1) / sA σ 1 t.toNatClampNeg)) := by
  obtain ⟨tl, pl, ts, ps, hO9⟩ := hX.op
  refine zMW.of (by decide +kernel) (Nat.le_of_ble_eq_true rfl) ?_
  intro p0 e0 s0 m0 args0 below0 meth0 c0 Z hr hxt hH ls hl
  have Z : zC G p0 s0 m0 args0 meth0 c0 RX0 cX0_yearOf 5 := Z
  have hl : lv_has ls 5 [(0, .ref o), (1, .int t), (2, .int w), (3, .ref out)] := hl
  have hL : zL G [] := zL.nil
  refine lv_aload_n Z.hx Z.hb dX0_yearOf_0 rfl (lv_at hl 3 rfl) ?_
  refine lv_iconst (v := 0) Z.hx Z.hb dX0_yearOf_1 (by decide) ?_
  refine lv_aload_n Z.hx Z.hb dX0_yearOf_2 rfl (lv_at hl 0 rfl) ?_
  refine lv_iload_n Z.hx Z.hb dX0_yearOf_3 rfl (lv_at hl 1 rfl) ?_
  refine lv_iload_n Z.hx Z.hb dX0_yearOf_4 rfl (lv_at hl 2 rfl) ?_
  -- LinkResolver.yearOf
  refine z_xpcallV (rest := [.int 0, .ref out]) (As := [.int t, .int w]) Z (x_yearOf G l hl0 H R σ n o tl pl ts ps hO9 (by omega) hW t w) gw_X0_17 gd_X0_17 rfl hO9.ob rfl hl.1 (Nat.le_of_ble_eq_true rfl) rfl dX0_yearOf_5 ⟨⟨Nat.le_of_ble_eq_true rfl, Nat.le_of_ble_eq_true rfl⟩, Nat.le_of_ble_eq_true rfl, Nat.le_of_ble_eq_true rfl⟩ hL (fun E_ ce_ q_ H_ locs hL hk_ hx_ h1_ h2_ h3_ => ?_) (fun locs hL hk0_ => ?_)
  · skip
    rcases hx_ with ⟨rfl, hc_⟩ | ⟨rfl, hc_⟩
    · skip
      refine z_catch1 Z hxt (E := RJ12) (by decide) (by decide) q288 q334 h1_ h2_ h3_ ?_
      refine lv_astore (lv' := [(4, .ref q_), (0, .ref o), (1, .int t), (2, .int w), (3, .ref out)]) Z.hx Z.hb dX0_yearOf_13 hl (by decide) rfl (fun ls hl => ?_)
      refine lv_iconst (v := 1) Z.hx Z.hb dX0_yearOf_15 (by decide) ?_
      exact z_iret Z hr hL (wPost.thr hX hk_ hJ hc_ (by decide)) (Nat.le_of_ble_eq_true rfl) (Nat.le_of_ble_eq_true rfl) dX0_yearOf_16
    · skip
      refine z_catch2 Z hxt (E := RJ6) (E1 := RJ12) (by decide) q288 Z.K.2.2.2.2.2.2.2.1 (by decide) (by decide) q104 q115 h1_ h2_ h3_ ?_
      refine lv_astore (lv' := [(4, .ref q_), (0, .ref o), (1, .int t), (2, .int w), (3, .ref out)]) Z.hx Z.hb dX0_yearOf_17 hl (by decide) rfl (fun ls hl => ?_)
      refine lv_iconst (v := 2) Z.hx Z.hb dX0_yearOf_19 (by decide) ?_
      exact z_iret Z hr hL (wPost.thr hX hk_ hJ hc_ (by decide)) (Nat.le_of_ble_eq_true rfl) (Nat.le_of_ble_eq_true rfl) dX0_yearOf_20
  refine lv_i2l (v := (sA σ 0 t.toNatClampNeg + (w - 1) / sA σ 1 t.toNatClampNeg).toInt64) Z.hx Z.hb dX0_yearOf_8 rfl ?_
  refine z_last0 Z hJ (by decide) hL hoB dX0_yearOf_9 (fun H_2 locs hL hJ2_ hz2_ hq2_ => ?_)
  refine lv_goto (tgt := 21) Z.hx Z.hb dX0_yearOf_10 (by decide) ?_
  refine lv_iconst (v := 0) Z.hx Z.hb dX0_yearOf_21 (by decide) ?_
  exact z_iret Z hr hL (wPost.ok (x := sA σ 0 t.toNatClampNeg + (w - 1) / sA σ 1 t.toNatClampNeg) (xNx.rf hX) hJ hRo hJ2_ hz2_ hq2_ hk0_ rfl rfl) (Nat.le_of_ble_eq_true rfl) (Nat.le_of_ble_eq_true rfl) dX0_yearOf_22
set_option maxHeartbeats 4000000 in
set_option maxRecDepth 100000 in
theorem w_volumeOf (G : zG) (l : Launch) (hl0 : l.stackTraces = false) (H : Heap) (R : xRo) (σ : zS) (n o : Nat) (hX : xRep G H R σ n o) (hn64 : n < 64) (hW : sWf σ) (out : Nat) (f : Nat → Int64) (hJ : zJ G H out 1 f) (hRo : R out = (0, 0, 0)) (hoB : (zHB G).size ≤ out) (t y : Int32) : zMW G l yX0_volumeOf cX0_volumeOf 5 (Option.some Jvm.ClassFile.FieldType.int) [(0, 10, 13, 20), (0, 10, 17, 13)] 10 8 48 [.ref o, .int t, .int y, .ref out] H (wPost G H R σ σ n o out (kVol σ t y) ((y - sA σ 0 t.toNatClampNeg) * sA σ 1 t.toNatClampNeg + 1)) := by
  obtain ⟨tl, pl, ts, ps, hO9⟩ := hX.op
  refine zMW.of (by decide +kernel) (Nat.le_of_ble_eq_true rfl) ?_
  intro p0 e0 s0 m0 args0 below0 meth0 c0 Z hr hxt hH ls hl
  have Z : zC G p0 s0 m0 args0 meth0 c0 RX0 cX0_volumeOf 5 := Z
  have hl : lv_has ls 5 [(0, .ref o), (1, .int t), (2, .int y), (3, .ref out)] := hl
  have hL : zL G [] := zL.nil
  refine lv_aload_n Z.hx Z.hb dX0_volumeOf_0 rfl (lv_at hl 3 rfl) ?_
  refine lv_iconst (v := 0) Z.hx Z.hb dX0_volumeOf_1 (by decide) ?_
  refine lv_aload_n Z.hx Z.hb dX0_volumeOf_2 rfl (lv_at hl 0 rfl) ?_
  refine lv_iload_n Z.hx Z.hb dX0_volumeOf_3 rfl (lv_at hl 1 rfl) ?_
  refine lv_iload_n Z.hx Z.hb dX0_volumeOf_4 rfl (lv_at hl 2 rfl) ?_
  -- LinkResolver.volumeOf
  refine z_xpcallV (rest := [.int 0, .ref out]) (As := [.int t, .int y]) Z (x_volumeOf G l hl0 H R σ n o tl pl ts ps hO9 (by omega) hW t y) gw_X0_22 gd_X0_22 rfl hO9.ob rfl hl.1 (Nat.le_of_ble_eq_true rfl) rfl dX0_volumeOf_5 ⟨⟨Nat.le_of_ble_eq_true rfl, Nat.le_of_ble_eq_true rfl⟩, Nat.le_of_ble_eq_true rfl, Nat.le_of_ble_eq_true rfl⟩ hL (fun E_ ce_ q_ H_ locs hL hk_ hx_ h1_ h2_ h3_ => ?_) (fun locs hL hk0_ => ?_)
  · skip
    rcases hx_ with ⟨rfl, hc_⟩ | ⟨rfl, hc_⟩
    · skip
      refine z_catch1 Z hxt (E := RJ12) (by decide) (by decide) q288 q334 h1_ h2_ h3_ ?_
      refine lv_astore (lv' := [(4, .ref q_), (0, .ref o), (1, .int t), (2, .int y), (3, .ref out)]) Z.hx Z.hb dX0_volumeOf_13 hl (by decide) rfl (fun ls hl => ?_)
      refine lv_iconst (v := 1) Z.hx Z.hb dX0_volumeOf_15 (by decide) ?_
      exact z_iret Z hr hL (wPost.thr hX hk_ hJ hc_ (by decide)) (Nat.le_of_ble_eq_true rfl) (Nat.le_of_ble_eq_true rfl) dX0_volumeOf_16
    · skip
      refine z_catch2 Z hxt (E := RJ6) (E1 := RJ12) (by decide) q288 Z.K.2.2.2.2.2.2.2.1 (by decide) (by decide) q104 q115 h1_ h2_ h3_ ?_
      refine lv_astore (lv' := [(4, .ref q_), (0, .ref o), (1, .int t), (2, .int y), (3, .ref out)]) Z.hx Z.hb dX0_volumeOf_17 hl (by decide) rfl (fun ls hl => ?_)
      refine lv_iconst (v := 2) Z.hx Z.hb dX0_volumeOf_19 (by decide) ?_
      exact z_iret Z hr hL (wPost.thr hX hk_ hJ hc_ (by decide)) (Nat.le_of_ble_eq_true rfl) (Nat.le_of_ble_eq_true rfl) dX0_volumeOf_20
  refine lv_i2l (v := ((y - sA σ 0 t.toNatClampNeg) * sA σ 1 t.toNatClampNeg + 1).toInt64) Z.hx Z.hb dX0_volumeOf_8 rfl ?_
  refine z_last0 Z hJ (by decide) hL hoB dX0_volumeOf_9 (fun H_2 locs hL hJ2_ hz2_ hq2_ => ?_)
  refine lv_goto (tgt := 21) Z.hx Z.hb dX0_volumeOf_10 (by decide) ?_
  refine lv_iconst (v := 0) Z.hx Z.hb dX0_volumeOf_21 (by decide) ?_
  exact z_iret Z hr hL (wPost.ok (x := (y - sA σ 0 t.toNatClampNeg) * sA σ 1 t.toNatClampNeg + 1) (xNx.rf hX) hJ hRo hJ2_ hz2_ hq2_ hk0_ rfl rfl) (Nat.le_of_ble_eq_true rfl) (Nat.le_of_ble_eq_true rfl) dX0_volumeOf_22
set_option maxHeartbeats 4000000 in
set_option maxRecDepth 100000 in
theorem w_addPackage (G : zG) (l : Launch) (hl0 : l.stackTraces = false) (H : Heap) (R : xRo) (σ : zS) (n o : Nat) (hX : xRep G H R σ n o) (hn64 : n < 64) (hW : sWf σ) (out : Nat) (f : Nat → Int64) (hJ : zJ G H out 1 f) (hRo : R out = (0, 0, 0)) (hoB : (zHB G).size ≤ out) (a b g k : Int32) : zMW G l yX0_addPackage cX0_addPackage 7 (Option.some Jvm.ClassFile.FieldType.int) [(0, 14, 17, 13), (0, 14, 21, 15)] 10 64 4000 [.ref o, .int a, .int b, .int g, .int k, .ref out] H (wPost G H R σ (sAddP σ a b g k) n o out (kAddP σ a b g k) (nI (sP σ))) := by
  obtain ⟨tl, pl, ts, ps, hO9⟩ := hX.op
  refine zMW.of (by decide +kernel) (Nat.le_of_ble_eq_true rfl) ?_
  intro p0 e0 s0 m0 args0 below0 meth0 c0 Z hr hxt hH ls hl
  have Z : zC G p0 s0 m0 args0 meth0 c0 RX0 cX0_addPackage 7 := Z
  have hl : lv_has ls 7 [(0, .ref o), (1, .int a), (2, .int b), (3, .int g), (4, .int k), (5, .ref out)] := hl
  have hL : zL G [] := zL.nil
  refine lv_aload Z.hx Z.hb dX0_addPackage_0 (lv_at hl 5 rfl) ?_
  refine lv_iconst (v := 0) Z.hx Z.hb dX0_addPackage_2 (by decide) ?_
  refine lv_aload_n Z.hx Z.hb dX0_addPackage_3 rfl (lv_at hl 0 rfl) ?_
  refine lv_iload_n Z.hx Z.hb dX0_addPackage_4 rfl (lv_at hl 1 rfl) ?_
  refine lv_iload_n Z.hx Z.hb dX0_addPackage_5 rfl (lv_at hl 2 rfl) ?_
  refine lv_iload_n Z.hx Z.hb dX0_addPackage_6 rfl (lv_at hl 3 rfl) ?_
  refine lv_iload Z.hx Z.hb dX0_addPackage_7 (lv_at hl 4 rfl) ?_
  -- LinkResolver.addPackage
  refine z_xgcallV (rest := [.int 0, .ref out]) (As := [.int a, .int b, .int g, .int k]) Z (x_addPackage G l hl0 H R σ n o tl pl ts ps hO9 (by omega) hW a b g k) gw_X0_25 gd_X0_25 rfl hO9.ob rfl hl.1 (Nat.le_of_ble_eq_true rfl) rfl dX0_addPackage_9 ⟨⟨Nat.le_of_ble_eq_true rfl, Nat.le_of_ble_eq_true rfl⟩, Nat.le_of_ble_eq_true rfl, Nat.le_of_ble_eq_true rfl⟩ hL (fun E_ ce_ q_ H_ locs hL hk_ hx_ h1_ h2_ h3_ => ?_) (fun H_1 locs hL hP_ => ?_)
  · skip
    rcases hx_ with ⟨rfl, hc_⟩ | ⟨rfl, hc_⟩
    · skip
      refine z_catch1 Z hxt (E := RJ6) (by decide) (by decide) q104 q115 h1_ h2_ h3_ ?_
      refine lv_astore (lv' := [(6, .ref q_), (0, .ref o), (1, .int a), (2, .int b), (3, .int g), (4, .int k), (5, .ref out)]) Z.hx Z.hb dX0_addPackage_17 hl (by decide) rfl (fun ls hl => ?_)
      refine lv_iconst (v := 1) Z.hx Z.hb dX0_addPackage_19 (by decide) ?_
      exact z_iret Z hr hL (wPost.thr hX hk_ hJ hc_ (by decide)) (Nat.le_of_ble_eq_true rfl) (Nat.le_of_ble_eq_true rfl) dX0_addPackage_20
    · skip
      refine z_catch2 Z hxt (E := RJ7) (E1 := RJ6) (by decide) q104 Z.K.2.2.2.2.2.2.1 (by decide) (by decide) q105 q193 h1_ h2_ h3_ ?_
      refine lv_astore (lv' := [(6, .ref q_), (0, .ref o), (1, .int a), (2, .int b), (3, .int g), (4, .int k), (5, .ref out)]) Z.hx Z.hb dX0_addPackage_21 hl (by decide) rfl (fun ls hl => ?_)
      refine lv_iconst (v := 2) Z.hx Z.hb dX0_addPackage_23 (by decide) ?_
      exact z_iret Z hr hL (wPost.thr hX hk_ hJ hc_ (by decide)) (Nat.le_of_ble_eq_true rfl) (Nat.le_of_ble_eq_true rfl) dX0_addPackage_24
  refine lv_i2l (v := (nI (sP σ)).toInt64) Z.hx Z.hb dX0_addPackage_12 rfl ?_
  have hJ1_ := hP_.2.J hJ hRo
  refine z_last0 Z hJ1_ (by decide) hL hoB dX0_addPackage_13 (fun H_2 locs hL hJ2_ hz2_ hq2_ => ?_)
  refine lv_goto (tgt := 25) Z.hx Z.hb dX0_addPackage_14 (by decide) ?_
  refine lv_iconst (v := 0) Z.hx Z.hb dX0_addPackage_25 (by decide) ?_
  exact z_iret Z hr hL (wPost.ok (x := nI (sP σ)) (hP_.2) hJ hRo hJ2_ hz2_ hq2_ hP_.1 rfl rfl) (Nat.le_of_ble_eq_true rfl) (Nat.le_of_ble_eq_true rfl) dX0_addPackage_26
set_option maxHeartbeats 4000000 in
set_option maxRecDepth 100000 in
theorem w_subscribe (G : zG) (l : Launch) (hl0 : l.stackTraces = false) (H : Heap) (R : xRo) (σ : zS) (n o : Nat) (hX : xRep G H R σ n o) (hn64 : n < 64) (hW : sWf σ) (out : Nat) (f : Nat → Int64) (hJ : zJ G H out 1 f) (hRo : R out = (0, 0, 0)) (hoB : (zHB G).size ≤ out) (p on : Int32) (hon : on = 0 ∨ on = 1) : zMW G l yX0_subscribe cX0_subscribe 5 (Option.some Jvm.ClassFile.FieldType.int) [(0, 17, 20, 20)] 10 16 400 [.ref o, .int p, .int on, .ref out] H (wPost G H R σ (sNote σ p.toNatClampNeg 20 on 0 0 0) n o out (kPk σ p) (zb (sOn (sL σ p.toNatClampNeg 20 (sT σ))))) := by
  obtain ⟨tl, pl, ts, ps, hO9⟩ := hX.op
  refine zMW.of (by decide +kernel) (Nat.le_of_ble_eq_true rfl) ?_
  intro p0 e0 s0 m0 args0 below0 meth0 c0 Z hr hxt hH ls hl
  have Z : zC G p0 s0 m0 args0 meth0 c0 RX0 cX0_subscribe 5 := Z
  have hl : lv_has ls 5 [(0, .ref o), (1, .int p), (2, .int on), (3, .ref out)] := hl
  have hL : zL G [] := zL.nil
  refine lv_aload_n Z.hx Z.hb dX0_subscribe_0 rfl (lv_at hl 3 rfl) ?_
  refine lv_iconst (v := 0) Z.hx Z.hb dX0_subscribe_1 (by decide) ?_
  refine lv_aload_n Z.hx Z.hb dX0_subscribe_2 rfl (lv_at hl 0 rfl) ?_
  refine lv_iload_n Z.hx Z.hb dX0_subscribe_3 rfl (lv_at hl 1 rfl) ?_
  refine lv_iload_n Z.hx Z.hb dX0_subscribe_4 rfl (lv_at hl 2 rfl) ?_
  -- LinkResolver.subscribe
  refine z_xgcallV (rest := [.int 0, .ref out]) (As := [.int p, .int on]) Z (x_subscribe G l hl0 H R σ n o tl pl ts ps hO9 (by omega) hW p on hon) gw_X0_29 gd_X0_29 rfl hO9.ob rfl hl.1 (Nat.le_of_ble_eq_true rfl) rfl dX0_subscribe_5 ⟨⟨Nat.le_of_ble_eq_true rfl, Nat.le_of_ble_eq_true rfl⟩, Nat.le_of_ble_eq_true rfl, Nat.le_of_ble_eq_true rfl⟩ hL (fun E_ ce_ q_ H_ locs hL hk_ hx_ h1_ h2_ h3_ => ?_) (fun H_1 locs hL hP_ => ?_)
  · skip
    obtain ⟨rfl, hc_⟩ := hx_
    refine z_catch1 Z hxt (E := RJ12) (by decide) (by decide) q288 q334 h1_ h2_ h3_ ?_
    refine lv_astore (lv' := [(4, .ref q_), (0, .ref o), (1, .int p), (2, .int on), (3, .ref out)]) Z.hx Z.hb dX0_subscribe_20 hl (by decide) rfl (fun ls hl => ?_)
    refine lv_iconst (v := 1) Z.hx Z.hb dX0_subscribe_22 (by decide) ?_
    exact z_iret Z hr hL (wPost.thr hX hk_ hJ hc_ (by decide)) (Nat.le_of_ble_eq_true rfl) (Nat.le_of_ble_eq_true rfl) dX0_subscribe_23
  refine lv_if_eq (tgt := 15) Z.hx Z.hb dX0_subscribe_8 (by decide) (fun c8 => ?_) (fun c8 => ?_)
  · skip
    have c8 : (sOn (sL σ p.toNatClampNeg 20 (sT σ))) = false := zb_0.mp c8
    refine lv_lconst (v := 0) Z.hx Z.hb dX0_subscribe_15 (by decide) ?_
    have hJ1_ := hP_.2.J hJ hRo
    refine z_last0 Z hJ1_ (by decide) hL hoB dX0_subscribe_16 (fun H_2 locs hL hJ2_ hz2_ hq2_ => ?_)
    refine lv_goto (tgt := 24) Z.hx Z.hb dX0_subscribe_17 (by decide) ?_
    refine lv_iconst (v := 0) Z.hx Z.hb dX0_subscribe_24 (by decide) ?_
    exact z_iret Z hr hL (wPost.ok (x := 0) (hP_.2) hJ hRo hJ2_ hz2_ hq2_ hP_.1 rfl (by rw [c8]; rfl)) (Nat.le_of_ble_eq_true rfl) (Nat.le_of_ble_eq_true rfl) dX0_subscribe_25
  · skip
    have c8 : (sOn (sL σ p.toNatClampNeg 20 (sT σ))) = true := zb_n.mp c8
    refine lv_lconst (v := 1) Z.hx Z.hb dX0_subscribe_11 (by decide) ?_
    refine lv_goto (tgt := 16) Z.hx Z.hb dX0_subscribe_12 (by decide) ?_
    have hJ1_ := hP_.2.J hJ hRo
    refine z_last0 Z hJ1_ (by decide) hL hoB dX0_subscribe_16 (fun H_2 locs hL hJ2_ hz2_ hq2_ => ?_)
    refine lv_goto (tgt := 24) Z.hx Z.hb dX0_subscribe_17 (by decide) ?_
    refine lv_iconst (v := 0) Z.hx Z.hb dX0_subscribe_24 (by decide) ?_
    exact z_iret Z hr hL (wPost.ok (x := 1) (hP_.2) hJ hRo hJ2_ hz2_ hq2_ hP_.1 rfl (by rw [c8]; rfl)) (Nat.le_of_ble_eq_true rfl) (Nat.le_of_ble_eq_true rfl) dX0_subscribe_25
set_option maxHeartbeats 4000000 in
set_option maxRecDepth 100000 in
theorem w_come (G : zG) (l : Launch) (hl0 : l.stackTraces = false) (H : Heap) (R : xRo) (σ : zS) (n o : Nat) (hX : xRep G H R σ n o) (hn64 : n < 64) (hW : sWf σ) (out : Nat) (f : Nat → Int64) (hJ : zJ G H out 1 f) (hRo : R out = (0, 0, 0)) (hoB : (zHB G).size ≤ out) (p t fi la wa : Int32) : zMW G l yX0_come cX0_come 8 (Option.some Jvm.ClassFile.FieldType.int) [(0, 23, 26, 20), (0, 23, 30, 13)] 10 16 400 [.ref o, .int p, .int t, .int fi, .int la, .int wa, .ref out] H (wPost G H R σ (sNote σ p.toNatClampNeg t.toNatClampNeg 1 fi la wa) n o out (kCome σ p t fi la wa) (zb (sOn (sL σ p.toNatClampNeg t.toNatClampNeg (sT σ))))) := by
  obtain ⟨tl, pl, ts, ps, hO9⟩ := hX.op
  refine zMW.of (by decide +kernel) (Nat.le_of_ble_eq_true rfl) ?_
  intro p0 e0 s0 m0 args0 below0 meth0 c0 Z hr hxt hH ls hl
  have Z : zC G p0 s0 m0 args0 meth0 c0 RX0 cX0_come 8 := Z
  have hl : lv_has ls 8 [(0, .ref o), (1, .int p), (2, .int t), (3, .int fi), (4, .int la), (5, .int wa), (6, .ref out)] := hl
  have hL : zL G [] := zL.nil
  refine lv_aload Z.hx Z.hb dX0_come_0 (lv_at hl 6 rfl) ?_
  refine lv_iconst (v := 0) Z.hx Z.hb dX0_come_2 (by decide) ?_
  refine lv_aload_n Z.hx Z.hb dX0_come_3 rfl (lv_at hl 0 rfl) ?_
  refine lv_iload_n Z.hx Z.hb dX0_come_4 rfl (lv_at hl 1 rfl) ?_
  refine lv_iload_n Z.hx Z.hb dX0_come_5 rfl (lv_at hl 2 rfl) ?_
  refine lv_iload_n Z.hx Z.hb dX0_come_6 rfl (lv_at hl 3 rfl) ?_
  refine lv_iload Z.hx Z.hb dX0_come_7 (lv_at hl 4 rfl) ?_
  refine lv_iload Z.hx Z.hb dX0_come_9 (lv_at hl 5 rfl) ?_
  -- LinkResolver.come
  refine z_xgcallV (rest := [.int 0, .ref out]) (As := [.int p, .int t, .int fi, .int la, .int wa]) Z (x_come G l hl0 H R σ n o tl pl ts ps hO9 (by omega) hW p t fi la wa) gw_X0_33 gd_X0_33 rfl hO9.ob rfl hl.1 (Nat.le_of_ble_eq_true rfl) rfl dX0_come_11 ⟨⟨Nat.le_of_ble_eq_true rfl, Nat.le_of_ble_eq_true rfl⟩, Nat.le_of_ble_eq_true rfl, Nat.le_of_ble_eq_true rfl⟩ hL (fun E_ ce_ q_ H_ locs hL hk_ hx_ h1_ h2_ h3_ => ?_) (fun H_1 locs hL hP_ => ?_)
  · skip
    rcases hx_ with ⟨rfl, hc_⟩ | ⟨rfl, hc_⟩
    · skip
      refine z_catch1 Z hxt (E := RJ12) (by decide) (by decide) q288 q334 h1_ h2_ h3_ ?_
      refine lv_astore (lv' := [(7, .ref q_), (0, .ref o), (1, .int p), (2, .int t), (3, .int fi), (4, .int la), (5, .int wa), (6, .ref out)]) Z.hx Z.hb dX0_come_26 hl (by decide) rfl (fun ls hl => ?_)
      refine lv_iconst (v := 1) Z.hx Z.hb dX0_come_28 (by decide) ?_
      exact z_iret Z hr hL (wPost.thr hX hk_ hJ hc_ (by decide)) (Nat.le_of_ble_eq_true rfl) (Nat.le_of_ble_eq_true rfl) dX0_come_29
    · skip
      refine z_catch2 Z hxt (E := RJ6) (E1 := RJ12) (by decide) q288 Z.K.2.2.2.2.2.2.2.1 (by decide) (by decide) q104 q115 h1_ h2_ h3_ ?_
      refine lv_astore (lv' := [(7, .ref q_), (0, .ref o), (1, .int p), (2, .int t), (3, .int fi), (4, .int la), (5, .int wa), (6, .ref out)]) Z.hx Z.hb dX0_come_30 hl (by decide) rfl (fun ls hl => ?_)
      refine lv_iconst (v := 2) Z.hx Z.hb dX0_come_32 (by decide) ?_
      exact z_iret Z hr hL (wPost.thr hX hk_ hJ hc_ (by decide)) (Nat.le_of_ble_eq_true rfl) (Nat.le_of_ble_eq_true rfl) dX0_come_33
  refine lv_if_eq (tgt := 21) Z.hx Z.hb dX0_come_14 (by decide) (fun c14 => ?_) (fun c14 => ?_)
  · skip
    have c14 : (sOn (sL σ p.toNatClampNeg t.toNatClampNeg (sT σ))) = false := zb_0.mp c14
    refine lv_lconst (v := 0) Z.hx Z.hb dX0_come_21 (by decide) ?_
    have hJ1_ := hP_.2.J hJ hRo
    refine z_last0 Z hJ1_ (by decide) hL hoB dX0_come_22 (fun H_2 locs hL hJ2_ hz2_ hq2_ => ?_)
    refine lv_goto (tgt := 34) Z.hx Z.hb dX0_come_23 (by decide) ?_
    refine lv_iconst (v := 0) Z.hx Z.hb dX0_come_34 (by decide) ?_
    exact z_iret Z hr hL (wPost.ok (x := 0) (hP_.2) hJ hRo hJ2_ hz2_ hq2_ hP_.1 rfl (by rw [c14]; rfl)) (Nat.le_of_ble_eq_true rfl) (Nat.le_of_ble_eq_true rfl) dX0_come_35
  · skip
    have c14 : (sOn (sL σ p.toNatClampNeg t.toNatClampNeg (sT σ))) = true := zb_n.mp c14
    refine lv_lconst (v := 1) Z.hx Z.hb dX0_come_17 (by decide) ?_
    refine lv_goto (tgt := 22) Z.hx Z.hb dX0_come_18 (by decide) ?_
    have hJ1_ := hP_.2.J hJ hRo
    refine z_last0 Z hJ1_ (by decide) hL hoB dX0_come_22 (fun H_2 locs hL hJ2_ hz2_ hq2_ => ?_)
    refine lv_goto (tgt := 34) Z.hx Z.hb dX0_come_23 (by decide) ?_
    refine lv_iconst (v := 0) Z.hx Z.hb dX0_come_34 (by decide) ?_
    exact z_iret Z hr hL (wPost.ok (x := 1) (hP_.2) hJ hRo hJ2_ hz2_ hq2_ hP_.1 rfl (by rw [c14]; rfl)) (Nat.le_of_ble_eq_true rfl) (Nat.le_of_ble_eq_true rfl) dX0_come_35
set_option maxHeartbeats 4000000 in
set_option maxRecDepth 100000 in
theorem w_go (G : zG) (l : Launch) (hl0 : l.stackTraces = false) (H : Heap) (R : xRo) (σ : zS) (n o : Nat) (hX : xRep G H R σ n o) (hn64 : n < 64) (hW : sWf σ) (out : Nat) (f : Nat → Int64) (hJ : zJ G H out 1 f) (hRo : R out = (0, 0, 0)) (hoB : (zHB G).size ≤ out) (p t : Int32) : zMW G l yX0_go cX0_go 4 (Option.some Jvm.ClassFile.FieldType.int) [(0, 6, 9, 20), (0, 6, 12, 15)] 10 16 400 [.ref o, .int p, .int t] H (wPost0 G H R σ (sNote σ p.toNatClampNeg t.toNatClampNeg 0 0 0 0) n o (kGo σ p t)) := by
  obtain ⟨tl, pl, ts, ps, hO9⟩ := hX.op
  refine zMW.of (by decide +kernel) (Nat.le_of_ble_eq_true rfl) ?_
  intro p0 e0 s0 m0 args0 below0 meth0 c0 Z hr hxt hH ls hl
  have Z : zC G p0 s0 m0 args0 meth0 c0 RX0 cX0_go 4 := Z
  have hl : lv_has ls 4 [(0, .ref o), (1, .int p), (2, .int t)] := hl
  have hL : zL G [] := zL.nil
  refine lv_aload_n Z.hx Z.hb dX0_go_0 rfl (lv_at hl 0 rfl) ?_
  refine lv_iload_n Z.hx Z.hb dX0_go_1 rfl (lv_at hl 1 rfl) ?_
  refine lv_iload_n Z.hx Z.hb dX0_go_2 rfl (lv_at hl 2 rfl) ?_
  -- LinkResolver.go
  refine z_xgcallV0 (rest := []) (As := [.int p, .int t]) Z (x_go G l hl0 H R σ n o tl pl ts ps hO9 (by omega) hW p t) gw_X0_37 gd_X0_37 rfl hO9.ob rfl hl.1 (Nat.le_of_ble_eq_true rfl) rfl dX0_go_3 ⟨⟨Nat.le_of_ble_eq_true rfl, Nat.le_of_ble_eq_true rfl⟩, Nat.le_of_ble_eq_true rfl, Nat.le_of_ble_eq_true rfl⟩ hL (fun E_ ce_ q_ H_ locs hL hk_ hx_ h1_ h2_ h3_ => ?_) (fun H_1 locs hL hP_ => ?_)
  · skip
    rcases hx_ with ⟨rfl, hc_⟩ | ⟨rfl, hc_⟩
    · skip
      refine z_catch1 Z hxt (E := RJ12) (by decide) (by decide) q288 q334 h1_ h2_ h3_ ?_
      refine lv_astore_n (lv' := [(3, .ref q_), (0, .ref o), (1, .int p), (2, .int t)]) Z.hx Z.hb dX0_go_9 rfl hl (by decide) rfl (fun ls hl => ?_)
      refine lv_iconst (v := 1) Z.hx Z.hb dX0_go_10 (by decide) ?_
      exact z_iret Z hr hL (⟨by rw [hc_], by rw [hc_, if_neg (by decide)]; exact ⟨R, (hX.keep hk_).more (Nat.le_succ n), hk_.1, fun _ _ => rfl, fun q h1 _ => hk_.2 q h1⟩⟩) (Nat.le_of_ble_eq_true rfl) (Nat.le_of_ble_eq_true rfl) dX0_go_11
    · skip
      refine z_catch2 Z hxt (E := RJ7) (E1 := RJ12) (by decide) q288 Z.K.2.2.2.2.2.2.2.2.2 (by decide) (by decide) q105 q193 h1_ h2_ h3_ ?_
      refine lv_astore_n (lv' := [(3, .ref q_), (0, .ref o), (1, .int p), (2, .int t)]) Z.hx Z.hb dX0_go_12 rfl hl (by decide) rfl (fun ls hl => ?_)
      refine lv_iconst (v := 2) Z.hx Z.hb dX0_go_13 (by decide) ?_
      exact z_iret Z hr hL (⟨by rw [hc_], by rw [hc_, if_neg (by decide)]; exact ⟨R, (hX.keep hk_).more (Nat.le_succ n), hk_.1, fun _ _ => rfl, fun q h1 _ => hk_.2 q h1⟩⟩) (Nat.le_of_ble_eq_true rfl) (Nat.le_of_ble_eq_true rfl) dX0_go_14
  refine lv_goto (tgt := 15) Z.hx Z.hb dX0_go_6 (by decide) ?_
  refine lv_iconst (v := 0) Z.hx Z.hb dX0_go_15 (by decide) ?_
  exact z_iret Z hr hL (⟨by rw [hP_.1], by rw [hP_.1, if_pos rfl]; exact hP_.2⟩) (Nat.le_of_ble_eq_true rfl) (Nat.le_of_ble_eq_true rfl) dX0_go_16
set_option maxHeartbeats 4000000 in
set_option maxRecDepth 100000 in
theorem w_pass (G : zG) (l : Launch) (hl0 : l.stackTraces = false) (H : Heap) (R : xRo) (σ : zS) (n o : Nat) (hX : xRep G H R σ n o) (hn64 : n < 64) (hW : sWf σ) (out : Nat) (f : Nat → Int64) (hJ : zJ G H out 1 f) (hRo : R out = (0, 0, 0)) (hoB : (zHB G).size ≤ out) (d : Int32) : zMW G l yX0_pass cX0_pass 4 (Option.some Jvm.ClassFile.FieldType.int) [(0, 9, 12, 13), (0, 9, 15, 15)] 10 16 400 [.ref o, .int d, .ref out] H (wPost G H R σ (sPass σ d) n o out (kPass σ d) (sT σ + d)) := by
  obtain ⟨tl, pl, ts, ps, hO9⟩ := hX.op
  refine zMW.of (by decide +kernel) (Nat.le_of_ble_eq_true rfl) ?_
  intro p0 e0 s0 m0 args0 below0 meth0 c0 Z hr hxt hH ls hl
  have Z : zC G p0 s0 m0 args0 meth0 c0 RX0 cX0_pass 4 := Z
  have hl : lv_has ls 4 [(0, .ref o), (1, .int d), (2, .ref out)] := hl
  have hL : zL G [] := zL.nil
  refine lv_aload_n Z.hx Z.hb dX0_pass_0 rfl (lv_at hl 2 rfl) ?_
  refine lv_iconst (v := 0) Z.hx Z.hb dX0_pass_1 (by decide) ?_
  refine lv_aload_n Z.hx Z.hb dX0_pass_2 rfl (lv_at hl 0 rfl) ?_
  refine lv_iload_n Z.hx Z.hb dX0_pass_3 rfl (lv_at hl 1 rfl) ?_
  -- LinkResolver.pass
  refine z_xgcallV (rest := [.int 0, .ref out]) (As := [.int d]) Z (x_pass G l hl0 H R σ n o tl pl ts ps hO9 (by omega) hW d) gw_X0_41 gd_X0_41 rfl hO9.ob rfl hl.1 (Nat.le_of_ble_eq_true rfl) rfl dX0_pass_4 ⟨⟨Nat.le_of_ble_eq_true rfl, Nat.le_of_ble_eq_true rfl⟩, Nat.le_of_ble_eq_true rfl, Nat.le_of_ble_eq_true rfl⟩ hL (fun E_ ce_ q_ H_ locs hL hk_ hx_ h1_ h2_ h3_ => ?_) (fun H_1 locs hL hP_ => ?_)
  · skip
    rcases hx_ with ⟨rfl, hc_⟩ | ⟨rfl, hc_⟩
    · skip
      refine z_catch1 Z hxt (E := RJ6) (by decide) (by decide) q104 q115 h1_ h2_ h3_ ?_
      refine lv_astore_n (lv' := [(3, .ref q_), (0, .ref o), (1, .int d), (2, .ref out)]) Z.hx Z.hb dX0_pass_12 rfl hl (by decide) rfl (fun ls hl => ?_)
      refine lv_iconst (v := 1) Z.hx Z.hb dX0_pass_13 (by decide) ?_
      exact z_iret Z hr hL (wPost.thr hX hk_ hJ hc_ (by decide)) (Nat.le_of_ble_eq_true rfl) (Nat.le_of_ble_eq_true rfl) dX0_pass_14
    · skip
      refine z_catch2 Z hxt (E := RJ7) (E1 := RJ6) (by decide) q104 Z.K.2.2.2.2.2.2.1 (by decide) (by decide) q105 q193 h1_ h2_ h3_ ?_
      refine lv_astore_n (lv' := [(3, .ref q_), (0, .ref o), (1, .int d), (2, .ref out)]) Z.hx Z.hb dX0_pass_15 rfl hl (by decide) rfl (fun ls hl => ?_)
      refine lv_iconst (v := 2) Z.hx Z.hb dX0_pass_16 (by decide) ?_
      exact z_iret Z hr hL (wPost.thr hX hk_ hJ hc_ (by decide)) (Nat.le_of_ble_eq_true rfl) (Nat.le_of_ble_eq_true rfl) dX0_pass_17
  refine lv_i2l (v := (sT σ + d).toInt64) Z.hx Z.hb dX0_pass_7 rfl ?_
  have hJ1_ := hP_.2.J hJ hRo
  refine z_last0 Z hJ1_ (by decide) hL hoB dX0_pass_8 (fun H_2 locs hL hJ2_ hz2_ hq2_ => ?_)
  refine lv_goto (tgt := 18) Z.hx Z.hb dX0_pass_9 (by decide) ?_
  refine lv_iconst (v := 0) Z.hx Z.hb dX0_pass_18 (by decide) ?_
  exact z_iret Z hr hL (wPost.ok (x := sT σ + d) (hP_.2) hJ hRo hJ2_ hz2_ hq2_ hP_.1 rfl rfl) (Nat.le_of_ble_eq_true rfl) (Nat.le_of_ble_eq_true rfl) dX0_pass_19
set_option maxHeartbeats 4000000 in
set_option maxRecDepth 100000 in
theorem w_isSubscribed (G : zG) (l : Launch) (hl0 : l.stackTraces = false) (H : Heap) (R : xRo) (σ : zS) (n o : Nat) (hX : xRep G H R σ n o) (hn64 : n < 64) (hW : sWf σ) (out : Nat) (f : Nat → Int64) (hJ : zJ G H out 1 f) (hRo : R out = (0, 0, 0)) (hoB : (zHB G).size ≤ out) (p d : Int32) : zMW G l yX0_isSubscribed cX0_isSubscribed 5 (Option.some Jvm.ClassFile.FieldType.int) [(0, 17, 20, 20), (0, 17, 24, 13)] 10 8 48 [.ref o, .int p, .int d, .ref out] H (wPost G H R σ σ n o out (kSub σ p d) (zb (sOn (sL σ p.toNatClampNeg 20 d)))) := by
  obtain ⟨tl, pl, ts, ps, hO9⟩ := hX.op
  refine zMW.of (by decide +kernel) (Nat.le_of_ble_eq_true rfl) ?_
  intro p0 e0 s0 m0 args0 below0 meth0 c0 Z hr hxt hH ls hl
  have Z : zC G p0 s0 m0 args0 meth0 c0 RX0 cX0_isSubscribed 5 := Z
  have hl : lv_has ls 5 [(0, .ref o), (1, .int p), (2, .int d), (3, .ref out)] := hl
  have hL : zL G [] := zL.nil
  refine lv_aload_n Z.hx Z.hb dX0_isSubscribed_0 rfl (lv_at hl 3 rfl) ?_
  refine lv_iconst (v := 0) Z.hx Z.hb dX0_isSubscribed_1 (by decide) ?_
  refine lv_aload_n Z.hx Z.hb dX0_isSubscribed_2 rfl (lv_at hl 0 rfl) ?_
  refine lv_iload_n Z.hx Z.hb dX0_isSubscribed_3 rfl (lv_at hl 1 rfl) ?_
  refine lv_iload_n Z.hx Z.hb dX0_isSubscribed_4 rfl (lv_at hl 2 rfl) ?_
  -- LinkResolver.isSubscribed
  refine z_xpcallV (rest := [.int 0, .ref out]) (As := [.int p, .int d]) Z (x_isSubscribed G l hl0 H R σ n o tl pl ts ps hO9 (by omega) hW p d) gw_X0_45 gd_X0_45 rfl hO9.ob rfl hl.1 (Nat.le_of_ble_eq_true rfl) rfl dX0_isSubscribed_5 ⟨⟨Nat.le_of_ble_eq_true rfl, Nat.le_of_ble_eq_true rfl⟩, Nat.le_of_ble_eq_true rfl, Nat.le_of_ble_eq_true rfl⟩ hL (fun E_ ce_ q_ H_ locs hL hk_ hx_ h1_ h2_ h3_ => ?_) (fun locs hL hk0_ => ?_)
  · skip
    rcases hx_ with ⟨rfl, hc_⟩ | ⟨rfl, hc_⟩
    · skip
      refine z_catch1 Z hxt (E := RJ12) (by decide) (by decide) q288 q334 h1_ h2_ h3_ ?_
      refine lv_astore (lv' := [(4, .ref q_), (0, .ref o), (1, .int p), (2, .int d), (3, .ref out)]) Z.hx Z.hb dX0_isSubscribed_20 hl (by decide) rfl (fun ls hl => ?_)
      refine lv_iconst (v := 1) Z.hx Z.hb dX0_isSubscribed_22 (by decide) ?_
      exact z_iret Z hr hL (wPost.thr hX hk_ hJ hc_ (by decide)) (Nat.le_of_ble_eq_true rfl) (Nat.le_of_ble_eq_true rfl) dX0_isSubscribed_23
    · skip
      refine z_catch2 Z hxt (E := RJ6) (E1 := RJ12) (by decide) q288 Z.K.2.2.2.2.2.2.2.1 (by decide) (by decide) q104 q115 h1_ h2_ h3_ ?_
      refine lv_astore (lv' := [(4, .ref q_), (0, .ref o), (1, .int p), (2, .int d), (3, .ref out)]) Z.hx Z.hb dX0_isSubscribed_24 hl (by decide) rfl (fun ls hl => ?_)
      refine lv_iconst (v := 2) Z.hx Z.hb dX0_isSubscribed_26 (by decide) ?_
      exact z_iret Z hr hL (wPost.thr hX hk_ hJ hc_ (by decide)) (Nat.le_of_ble_eq_true rfl) (Nat.le_of_ble_eq_true rfl) dX0_isSubscribed_27
  refine lv_if_eq (tgt := 15) Z.hx Z.hb dX0_isSubscribed_8 (by decide) (fun c8 => ?_) (fun c8 => ?_)
  · skip
    have c8 : (sOn (sL σ p.toNatClampNeg 20 d)) = false := zb_0.mp c8
    refine lv_lconst (v := 0) Z.hx Z.hb dX0_isSubscribed_15 (by decide) ?_
    refine z_last0 Z hJ (by decide) hL hoB dX0_isSubscribed_16 (fun H_2 locs hL hJ2_ hz2_ hq2_ => ?_)
    refine lv_goto (tgt := 28) Z.hx Z.hb dX0_isSubscribed_17 (by decide) ?_
    refine lv_iconst (v := 0) Z.hx Z.hb dX0_isSubscribed_28 (by decide) ?_
    exact z_iret Z hr hL (wPost.ok (x := 0) (xNx.rf hX) hJ hRo hJ2_ hz2_ hq2_ hk0_ rfl (by rw [c8]; rfl)) (Nat.le_of_ble_eq_true rfl) (Nat.le_of_ble_eq_true rfl) dX0_isSubscribed_29
  · skip
    have c8 : (sOn (sL σ p.toNatClampNeg 20 d)) = true := zb_n.mp c8
    refine lv_lconst (v := 1) Z.hx Z.hb dX0_isSubscribed_11 (by decide) ?_
    refine lv_goto (tgt := 16) Z.hx Z.hb dX0_isSubscribed_12 (by decide) ?_
    refine z_last0 Z hJ (by decide) hL hoB dX0_isSubscribed_16 (fun H_2 locs hL hJ2_ hz2_ hq2_ => ?_)
    refine lv_goto (tgt := 28) Z.hx Z.hb dX0_isSubscribed_17 (by decide) ?_
    refine lv_iconst (v := 0) Z.hx Z.hb dX0_isSubscribed_28 (by decide) ?_
    exact z_iret Z hr hL (wPost.ok (x := 1) (xNx.rf hX) hJ hRo hJ2_ hz2_ hq2_ hk0_ rfl (by rw [c8]; rfl)) (Nat.le_of_ble_eq_true rfl) (Nat.le_of_ble_eq_true rfl) dX0_isSubscribed_29
set_option maxHeartbeats 4000000 in
set_option maxRecDepth 100000 in
theorem w_isIn (G : zG) (l : Launch) (hl0 : l.stackTraces = false) (H : Heap) (R : xRo) (σ : zS) (n o : Nat) (hX : xRep G H R σ n o) (hn64 : n < 64) (hW : sWf σ) (out : Nat) (f : Nat → Int64) (hJ : zJ G H out 1 f) (hRo : R out = (0, 0, 0)) (hoB : (zHB G).size ≤ out) (p t d : Int32) : zMW G l yX0_isIn cX0_isIn 6 (Option.some Jvm.ClassFile.FieldType.int) [(0, 19, 22, 20), (0, 19, 26, 13)] 10 8 48 [.ref o, .int p, .int t, .int d, .ref out] H (wPost G H R σ σ n o out (kIn σ p t d) (zb (sOn (sL σ p.toNatClampNeg t.toNatClampNeg d)))) := by
  obtain ⟨tl, pl, ts, ps, hO9⟩ := hX.op
  refine zMW.of (by decide +kernel) (Nat.le_of_ble_eq_true rfl) ?_
  intro p0 e0 s0 m0 args0 below0 meth0 c0 Z hr hxt hH ls hl
  have Z : zC G p0 s0 m0 args0 meth0 c0 RX0 cX0_isIn 6 := Z
  have hl : lv_has ls 6 [(0, .ref o), (1, .int p), (2, .int t), (3, .int d), (4, .ref out)] := hl
  have hL : zL G [] := zL.nil
  refine lv_aload Z.hx Z.hb dX0_isIn_0 (lv_at hl 4 rfl) ?_
  refine lv_iconst (v := 0) Z.hx Z.hb dX0_isIn_2 (by decide) ?_
  refine lv_aload_n Z.hx Z.hb dX0_isIn_3 rfl (lv_at hl 0 rfl) ?_
  refine lv_iload_n Z.hx Z.hb dX0_isIn_4 rfl (lv_at hl 1 rfl) ?_
  refine lv_iload_n Z.hx Z.hb dX0_isIn_5 rfl (lv_at hl 2 rfl) ?_
  refine lv_iload_n Z.hx Z.hb dX0_isIn_6 rfl (lv_at hl 3 rfl) ?_
  -- LinkResolver.isIn
  refine z_xpcallV (rest := [.int 0, .ref out]) (As := [.int p, .int t, .int d]) Z (x_isIn G l hl0 H R σ n o tl pl ts ps hO9 (by omega) hW p t d) gw_X0_49 gd_X0_49 rfl hO9.ob rfl hl.1 (Nat.le_of_ble_eq_true rfl) rfl dX0_isIn_7 ⟨⟨Nat.le_of_ble_eq_true rfl, Nat.le_of_ble_eq_true rfl⟩, Nat.le_of_ble_eq_true rfl, Nat.le_of_ble_eq_true rfl⟩ hL (fun E_ ce_ q_ H_ locs hL hk_ hx_ h1_ h2_ h3_ => ?_) (fun locs hL hk0_ => ?_)
  · skip
    rcases hx_ with ⟨rfl, hc_⟩ | ⟨rfl, hc_⟩
    · skip
      refine z_catch1 Z hxt (E := RJ12) (by decide) (by decide) q288 q334 h1_ h2_ h3_ ?_
      refine lv_astore (lv' := [(5, .ref q_), (0, .ref o), (1, .int p), (2, .int t), (3, .int d), (4, .ref out)]) Z.hx Z.hb dX0_isIn_22 hl (by decide) rfl (fun ls hl => ?_)
      refine lv_iconst (v := 1) Z.hx Z.hb dX0_isIn_24 (by decide) ?_
      exact z_iret Z hr hL (wPost.thr hX hk_ hJ hc_ (by decide)) (Nat.le_of_ble_eq_true rfl) (Nat.le_of_ble_eq_true rfl) dX0_isIn_25
    · skip
      refine z_catch2 Z hxt (E := RJ6) (E1 := RJ12) (by decide) q288 Z.K.2.2.2.2.2.2.2.1 (by decide) (by decide) q104 q115 h1_ h2_ h3_ ?_
      refine lv_astore (lv' := [(5, .ref q_), (0, .ref o), (1, .int p), (2, .int t), (3, .int d), (4, .ref out)]) Z.hx Z.hb dX0_isIn_26 hl (by decide) rfl (fun ls hl => ?_)
      refine lv_iconst (v := 2) Z.hx Z.hb dX0_isIn_28 (by decide) ?_
      exact z_iret Z hr hL (wPost.thr hX hk_ hJ hc_ (by decide)) (Nat.le_of_ble_eq_true rfl) (Nat.le_of_ble_eq_true rfl) dX0_isIn_29
  refine lv_if_eq (tgt := 17) Z.hx Z.hb dX0_isIn_10 (by decide) (fun c10 => ?_) (fun c10 => ?_)
  · skip
    have c10 : (sOn (sL σ p.toNatClampNeg t.toNatClampNeg d)) = false := zb_0.mp c10
    refine lv_lconst (v := 0) Z.hx Z.hb dX0_isIn_17 (by decide) ?_
    refine z_last0 Z hJ (by decide) hL hoB dX0_isIn_18 (fun H_2 locs hL hJ2_ hz2_ hq2_ => ?_)
    refine lv_goto (tgt := 30) Z.hx Z.hb dX0_isIn_19 (by decide) ?_
    refine lv_iconst (v := 0) Z.hx Z.hb dX0_isIn_30 (by decide) ?_
    exact z_iret Z hr hL (wPost.ok (x := 0) (xNx.rf hX) hJ hRo hJ2_ hz2_ hq2_ hk0_ rfl (by rw [c10]; rfl)) (Nat.le_of_ble_eq_true rfl) (Nat.le_of_ble_eq_true rfl) dX0_isIn_31
  · skip
    have c10 : (sOn (sL σ p.toNatClampNeg t.toNatClampNeg d)) = true := zb_n.mp c10
    refine lv_lconst (v := 1) Z.hx Z.hb dX0_isIn_13 (by decide) ?_
    refine lv_goto (tgt := 18) Z.hx Z.hb dX0_isIn_14 (by decide) ?_
    refine z_last0 Z hJ (by decide) hL hoB dX0_isIn_18 (fun H_2 locs hL hJ2_ hz2_ hq2_ => ?_)
    refine lv_goto (tgt := 30) Z.hx Z.hb dX0_isIn_19 (by decide) ?_
    refine lv_iconst (v := 0) Z.hx Z.hb dX0_isIn_30 (by decide) ?_
    exact z_iret Z hr hL (wPost.ok (x := 1) (xNx.rf hX) hJ hRo hJ2_ hz2_ hq2_ hk0_ rfl (by rw [c10]; rfl)) (Nat.le_of_ble_eq_true rfl) (Nat.le_of_ble_eq_true rfl) dX0_isIn_31
set_option maxHeartbeats 4000000 in
set_option maxRecDepth 100000 in
theorem w_report (G : zG) (l : Launch) (hl0 : l.stackTraces = false) (H : Heap) (R : xRo) (σ : zS) (n o : Nat) (hX : xRep G H R σ n o) (hn64 : n < 64) (hW : sWf σ) (out : Nat) (f : Nat → Int64) (hJ : zJ G H out 1 f) (hRo : R out = (0, 0, 0)) (hoB : (zHB G).size ≤ out) (p t : Int32) : zMW G l yX0_report cX0_report 5 (Option.some Jvm.ClassFile.FieldType.int) [(0, 10, 13, 20)] 10 16 400 [.ref o, .int p, .int t, .ref out] H (wPost G H R σ (sPutB σ p.toNatClampNeg t.toNatClampNeg (sB σ p.toNatClampNeg t.toNatClampNeg + 1)) n o out (kRep σ p t) (sB σ p.toNatClampNeg t.toNatClampNeg + 1)) := by
  obtain ⟨tl, pl, ts, ps, hO9⟩ := hX.op
  refine zMW.of (by decide +kernel) (Nat.le_of_ble_eq_true rfl) ?_
  intro p0 e0 s0 m0 args0 below0 meth0 c0 Z hr hxt hH ls hl
  have Z : zC G p0 s0 m0 args0 meth0 c0 RX0 cX0_report 5 := Z
  have hl : lv_has ls 5 [(0, .ref o), (1, .int p), (2, .int t), (3, .ref out)] := hl
  have hL : zL G [] := zL.nil
  refine lv_aload_n Z.hx Z.hb dX0_report_0 rfl (lv_at hl 3 rfl) ?_
  refine lv_iconst (v := 0) Z.hx Z.hb dX0_report_1 (by decide) ?_
  refine lv_aload_n Z.hx Z.hb dX0_report_2 rfl (lv_at hl 0 rfl) ?_
  refine lv_iload_n Z.hx Z.hb dX0_report_3 rfl (lv_at hl 1 rfl) ?_
  refine lv_iload_n Z.hx Z.hb dX0_report_4 rfl (lv_at hl 2 rfl) ?_
  -- LinkResolver.report
  refine z_xgcallV (rest := [.int 0, .ref out]) (As := [.int p, .int t]) Z (x_report G l hl0 H R σ n o tl pl ts ps hO9 (by omega) hW p t) gw_X0_53 gd_X0_53 rfl hO9.ob rfl hl.1 (Nat.le_of_ble_eq_true rfl) rfl dX0_report_5 ⟨⟨Nat.le_of_ble_eq_true rfl, Nat.le_of_ble_eq_true rfl⟩, Nat.le_of_ble_eq_true rfl, Nat.le_of_ble_eq_true rfl⟩ hL (fun E_ ce_ q_ H_ locs hL hk_ hx_ h1_ h2_ h3_ => ?_) (fun H_1 locs hL hP_ => ?_)
  · skip
    obtain ⟨rfl, hc_⟩ := hx_
    refine z_catch1 Z hxt (E := RJ12) (by decide) (by decide) q288 q334 h1_ h2_ h3_ ?_
    refine lv_astore (lv' := [(4, .ref q_), (0, .ref o), (1, .int p), (2, .int t), (3, .ref out)]) Z.hx Z.hb dX0_report_13 hl (by decide) rfl (fun ls hl => ?_)
    refine lv_iconst (v := 1) Z.hx Z.hb dX0_report_15 (by decide) ?_
    exact z_iret Z hr hL (wPost.thr hX hk_ hJ hc_ (by decide)) (Nat.le_of_ble_eq_true rfl) (Nat.le_of_ble_eq_true rfl) dX0_report_16
  refine lv_i2l (v := (sB σ p.toNatClampNeg t.toNatClampNeg + 1).toInt64) Z.hx Z.hb dX0_report_8 rfl ?_
  have hJ1_ := hP_.2.J hJ hRo
  refine z_last0 Z hJ1_ (by decide) hL hoB dX0_report_9 (fun H_2 locs hL hJ2_ hz2_ hq2_ => ?_)
  refine lv_goto (tgt := 17) Z.hx Z.hb dX0_report_10 (by decide) ?_
  refine lv_iconst (v := 0) Z.hx Z.hb dX0_report_17 (by decide) ?_
  exact z_iret Z hr hL (wPost.ok (x := sB σ p.toNatClampNeg t.toNatClampNeg + 1) (hP_.2) hJ hRo hJ2_ hz2_ hq2_ hP_.1 rfl rfl) (Nat.le_of_ble_eq_true rfl) (Nat.le_of_ble_eq_true rfl) dX0_report_18
set_option maxHeartbeats 4000000 in
set_option maxRecDepth 100000 in
theorem w_mend (G : zG) (l : Launch) (hl0 : l.stackTraces = false) (H : Heap) (R : xRo) (σ : zS) (n o : Nat) (hX : xRep G H R σ n o) (hn64 : n < 64) (hW : sWf σ) (out : Nat) (f : Nat → Int64) (hJ : zJ G H out 1 f) (hRo : R out = (0, 0, 0)) (hoB : (zHB G).size ≤ out) (p t : Int32) : zMW G l yX0_mend cX0_mend 5 (Option.some Jvm.ClassFile.FieldType.int) [(0, 10, 13, 20)] 10 16 400 [.ref o, .int p, .int t, .ref out] H (wPost G H R σ (sPutB σ p.toNatClampNeg t.toNatClampNeg 0) n o out (kRep σ p t) (sB σ p.toNatClampNeg t.toNatClampNeg)) := by
  obtain ⟨tl, pl, ts, ps, hO9⟩ := hX.op
  refine zMW.of (by decide +kernel) (Nat.le_of_ble_eq_true rfl) ?_
  intro p0 e0 s0 m0 args0 below0 meth0 c0 Z hr hxt hH ls hl
  have Z : zC G p0 s0 m0 args0 meth0 c0 RX0 cX0_mend 5 := Z
  have hl : lv_has ls 5 [(0, .ref o), (1, .int p), (2, .int t), (3, .ref out)] := hl
  have hL : zL G [] := zL.nil
  refine lv_aload_n Z.hx Z.hb dX0_mend_0 rfl (lv_at hl 3 rfl) ?_
  refine lv_iconst (v := 0) Z.hx Z.hb dX0_mend_1 (by decide) ?_
  refine lv_aload_n Z.hx Z.hb dX0_mend_2 rfl (lv_at hl 0 rfl) ?_
  refine lv_iload_n Z.hx Z.hb dX0_mend_3 rfl (lv_at hl 1 rfl) ?_
  refine lv_iload_n Z.hx Z.hb dX0_mend_4 rfl (lv_at hl 2 rfl) ?_
  -- LinkResolver.mend
  refine z_xgcallV (rest := [.int 0, .ref out]) (As := [.int p, .int t]) Z (x_mend G l hl0 H R σ n o tl pl ts ps hO9 (by omega) hW p t) gw_X0_56 gd_X0_56 rfl hO9.ob rfl hl.1 (Nat.le_of_ble_eq_true rfl) rfl dX0_mend_5 ⟨⟨Nat.le_of_ble_eq_true rfl, Nat.le_of_ble_eq_true rfl⟩, Nat.le_of_ble_eq_true rfl, Nat.le_of_ble_eq_true rfl⟩ hL (fun E_ ce_ q_ H_ locs hL hk_ hx_ h1_ h2_ h3_ => ?_) (fun H_1 locs hL hP_ => ?_)
  · skip
    obtain ⟨rfl, hc_⟩ := hx_
    refine z_catch1 Z hxt (E := RJ12) (by decide) (by decide) q288 q334 h1_ h2_ h3_ ?_
    refine lv_astore (lv' := [(4, .ref q_), (0, .ref o), (1, .int p), (2, .int t), (3, .ref out)]) Z.hx Z.hb dX0_mend_13 hl (by decide) rfl (fun ls hl => ?_)
    refine lv_iconst (v := 1) Z.hx Z.hb dX0_mend_15 (by decide) ?_
    exact z_iret Z hr hL (wPost.thr hX hk_ hJ hc_ (by decide)) (Nat.le_of_ble_eq_true rfl) (Nat.le_of_ble_eq_true rfl) dX0_mend_16
  refine lv_i2l (v := (sB σ p.toNatClampNeg t.toNatClampNeg).toInt64) Z.hx Z.hb dX0_mend_8 rfl ?_
  have hJ1_ := hP_.2.J hJ hRo
  refine z_last0 Z hJ1_ (by decide) hL hoB dX0_mend_9 (fun H_2 locs hL hJ2_ hz2_ hq2_ => ?_)
  refine lv_goto (tgt := 17) Z.hx Z.hb dX0_mend_10 (by decide) ?_
  refine lv_iconst (v := 0) Z.hx Z.hb dX0_mend_17 (by decide) ?_
  exact z_iret Z hr hL (wPost.ok (x := sB σ p.toNatClampNeg t.toNatClampNeg) (hP_.2) hJ hRo hJ2_ hz2_ hq2_ hP_.1 rfl rfl) (Nat.le_of_ble_eq_true rfl) (Nat.le_of_ble_eq_true rfl) dX0_mend_18
set_option maxHeartbeats 4000000 in
set_option maxRecDepth 100000 in
theorem w_covers (G : zG) (l : Launch) (hl0 : l.stackTraces = false) (H : Heap) (R : xRo) (σ : zS) (n o : Nat) (hX : xRep G H R σ n o) (hn64 : n < 64) (hW : sWf σ) (out : Nat) (f : Nat → Int64) (hJ : zJ G H out 1 f) (hRo : R out = (0, 0, 0)) (hoB : (zHB G).size ≤ out) (p t y g d : Int32) : zMW G l yX0_covers cX0_covers 8 (Option.some Jvm.ClassFile.FieldType.int) [(0, 23, 26, 20), (0, 23, 30, 13)] 10 8 48 [.ref o, .int p, .int t, .int y, .int g, .int d, .ref out] H (wPost G H R σ σ n o out (kCov σ p t y g d) (zb (sWay σ p.toNatClampNeg t.toNatClampNeg y g d))) := by
  obtain ⟨tl, pl, ts, ps, hO9⟩ := hX.op
  refine zMW.of (by decide +kernel) (Nat.le_of_ble_eq_true rfl) ?_
  intro p0 e0 s0 m0 args0 below0 meth0 c0 Z hr hxt hH ls hl
  have Z : zC G p0 s0 m0 args0 meth0 c0 RX0 cX0_covers 8 := Z
  have hl : lv_has ls 8 [(0, .ref o), (1, .int p), (2, .int t), (3, .int y), (4, .int g), (5, .int d), (6, .ref out)] := hl
  have hL : zL G [] := zL.nil
  refine lv_aload Z.hx Z.hb dX0_covers_0 (lv_at hl 6 rfl) ?_
  refine lv_iconst (v := 0) Z.hx Z.hb dX0_covers_2 (by decide) ?_
  refine lv_aload_n Z.hx Z.hb dX0_covers_3 rfl (lv_at hl 0 rfl) ?_
  refine lv_iload_n Z.hx Z.hb dX0_covers_4 rfl (lv_at hl 1 rfl) ?_
  refine lv_iload_n Z.hx Z.hb dX0_covers_5 rfl (lv_at hl 2 rfl) ?_
  refine lv_iload_n Z.hx Z.hb dX0_covers_6 rfl (lv_at hl 3 rfl) ?_
  refine lv_iload Z.hx Z.hb dX0_covers_7 (lv_at hl 4 rfl) ?_
  refine lv_iload Z.hx Z.hb dX0_covers_9 (lv_at hl 5 rfl) ?_
  -- LinkResolver.covers
  refine z_xpcallV (rest := [.int 0, .ref out]) (As := [.int p, .int t, .int y, .int g, .int d]) Z (x_covers G l hl0 H R σ n o tl pl ts ps hO9 (by omega) hW p t y g d) gw_X0_59 gd_X0_59 rfl hO9.ob rfl hl.1 (Nat.le_of_ble_eq_true rfl) rfl dX0_covers_11 ⟨⟨Nat.le_of_ble_eq_true rfl, Nat.le_of_ble_eq_true rfl⟩, Nat.le_of_ble_eq_true rfl, Nat.le_of_ble_eq_true rfl⟩ hL (fun E_ ce_ q_ H_ locs hL hk_ hx_ h1_ h2_ h3_ => ?_) (fun locs hL hk0_ => ?_)
  · skip
    rcases hx_ with ⟨rfl, hc_⟩ | ⟨rfl, hc_⟩
    · skip
      refine z_catch1 Z hxt (E := RJ12) (by decide) (by decide) q288 q334 h1_ h2_ h3_ ?_
      refine lv_astore (lv' := [(7, .ref q_), (0, .ref o), (1, .int p), (2, .int t), (3, .int y), (4, .int g), (5, .int d), (6, .ref out)]) Z.hx Z.hb dX0_covers_26 hl (by decide) rfl (fun ls hl => ?_)
      refine lv_iconst (v := 1) Z.hx Z.hb dX0_covers_28 (by decide) ?_
      exact z_iret Z hr hL (wPost.thr hX hk_ hJ hc_ (by decide)) (Nat.le_of_ble_eq_true rfl) (Nat.le_of_ble_eq_true rfl) dX0_covers_29
    · skip
      refine z_catch2 Z hxt (E := RJ6) (E1 := RJ12) (by decide) q288 Z.K.2.2.2.2.2.2.2.1 (by decide) (by decide) q104 q115 h1_ h2_ h3_ ?_
      refine lv_astore (lv' := [(7, .ref q_), (0, .ref o), (1, .int p), (2, .int t), (3, .int y), (4, .int g), (5, .int d), (6, .ref out)]) Z.hx Z.hb dX0_covers_30 hl (by decide) rfl (fun ls hl => ?_)
      refine lv_iconst (v := 2) Z.hx Z.hb dX0_covers_32 (by decide) ?_
      exact z_iret Z hr hL (wPost.thr hX hk_ hJ hc_ (by decide)) (Nat.le_of_ble_eq_true rfl) (Nat.le_of_ble_eq_true rfl) dX0_covers_33
  refine lv_if_eq (tgt := 21) Z.hx Z.hb dX0_covers_14 (by decide) (fun c14 => ?_) (fun c14 => ?_)
  · skip
    have c14 : (sWay σ p.toNatClampNeg t.toNatClampNeg y g d) = false := zb_0.mp c14
    refine lv_lconst (v := 0) Z.hx Z.hb dX0_covers_21 (by decide) ?_
    refine z_last0 Z hJ (by decide) hL hoB dX0_covers_22 (fun H_2 locs hL hJ2_ hz2_ hq2_ => ?_)
    refine lv_goto (tgt := 34) Z.hx Z.hb dX0_covers_23 (by decide) ?_
    refine lv_iconst (v := 0) Z.hx Z.hb dX0_covers_34 (by decide) ?_
    exact z_iret Z hr hL (wPost.ok (x := 0) (xNx.rf hX) hJ hRo hJ2_ hz2_ hq2_ hk0_ rfl (by rw [c14]; rfl)) (Nat.le_of_ble_eq_true rfl) (Nat.le_of_ble_eq_true rfl) dX0_covers_35
  · skip
    have c14 : (sWay σ p.toNatClampNeg t.toNatClampNeg y g d) = true := zb_n.mp c14
    refine lv_lconst (v := 1) Z.hx Z.hb dX0_covers_17 (by decide) ?_
    refine lv_goto (tgt := 22) Z.hx Z.hb dX0_covers_18 (by decide) ?_
    refine z_last0 Z hJ (by decide) hL hoB dX0_covers_22 (fun H_2 locs hL hJ2_ hz2_ hq2_ => ?_)
    refine lv_goto (tgt := 34) Z.hx Z.hb dX0_covers_23 (by decide) ?_
    refine lv_iconst (v := 0) Z.hx Z.hb dX0_covers_34 (by decide) ?_
    exact z_iret Z hr hL (wPost.ok (x := 1) (xNx.rf hX) hJ hRo hJ2_ hz2_ hq2_ hk0_ rfl (by rw [c14]; rfl)) (Nat.le_of_ble_eq_true rfl) (Nat.le_of_ble_eq_true rfl) dX0_covers_35
set_option maxHeartbeats 4000000 in
set_option maxRecDepth 100000 in
theorem w_ways (G : zG) (l : Launch) (hl0 : l.stackTraces = false) (H : Heap) (R : xRo) (σ : zS) (n o : Nat) (hX : xRep G H R σ n o) (hn64 : n < 64) (hW : sWf σ) (out : Nat) (f : Nat → Int64) (hJ : zJ G H out 1 f) (hRo : R out = (0, 0, 0)) (hoB : (zHB G).size ≤ out) (t y g d : Int32) : zMW G l yX0_ways cX0_ways 7 (Option.some Jvm.ClassFile.FieldType.int) [(0, 14, 17, 20), (0, 14, 21, 13)] 10 8 48 [.ref o, .int t, .int y, .int g, .int d, .ref out] H (wPost G H R σ σ n o out (kWays σ t y g d) (nI (sCnt σ t.toNatClampNeg y g d))) := by
  obtain ⟨tl, pl, ts, ps, hO9⟩ := hX.op
  refine zMW.of (by decide +kernel) (Nat.le_of_ble_eq_true rfl) ?_
  intro p0 e0 s0 m0 args0 below0 meth0 c0 Z hr hxt hH ls hl
  have Z : zC G p0 s0 m0 args0 meth0 c0 RX0 cX0_ways 7 := Z
  have hl : lv_has ls 7 [(0, .ref o), (1, .int t), (2, .int y), (3, .int g), (4, .int d), (5, .ref out)] := hl
  have hL : zL G [] := zL.nil
  refine lv_aload Z.hx Z.hb dX0_ways_0 (lv_at hl 5 rfl) ?_
  refine lv_iconst (v := 0) Z.hx Z.hb dX0_ways_2 (by decide) ?_
  refine lv_aload_n Z.hx Z.hb dX0_ways_3 rfl (lv_at hl 0 rfl) ?_
  refine lv_iload_n Z.hx Z.hb dX0_ways_4 rfl (lv_at hl 1 rfl) ?_
  refine lv_iload_n Z.hx Z.hb dX0_ways_5 rfl (lv_at hl 2 rfl) ?_
  refine lv_iload_n Z.hx Z.hb dX0_ways_6 rfl (lv_at hl 3 rfl) ?_
  refine lv_iload Z.hx Z.hb dX0_ways_7 (lv_at hl 4 rfl) ?_
  -- LinkResolver.ways
  refine z_xpcallV (rest := [.int 0, .ref out]) (As := [.int t, .int y, .int g, .int d]) Z (x_ways G l hl0 H R σ n o tl pl ts ps hO9 (by omega) hW t y g d) gw_X0_62 gd_X0_62 rfl hO9.ob rfl hl.1 (Nat.le_of_ble_eq_true rfl) rfl dX0_ways_9 ⟨⟨Nat.le_of_ble_eq_true rfl, Nat.le_of_ble_eq_true rfl⟩, Nat.le_of_ble_eq_true rfl, Nat.le_of_ble_eq_true rfl⟩ hL (fun E_ ce_ q_ H_ locs hL hk_ hx_ h1_ h2_ h3_ => ?_) (fun locs hL hk0_ => ?_)
  · skip
    rcases hx_ with ⟨rfl, hc_⟩ | ⟨rfl, hc_⟩
    · skip
      refine z_catch1 Z hxt (E := RJ12) (by decide) (by decide) q288 q334 h1_ h2_ h3_ ?_
      refine lv_astore (lv' := [(6, .ref q_), (0, .ref o), (1, .int t), (2, .int y), (3, .int g), (4, .int d), (5, .ref out)]) Z.hx Z.hb dX0_ways_17 hl (by decide) rfl (fun ls hl => ?_)
      refine lv_iconst (v := 1) Z.hx Z.hb dX0_ways_19 (by decide) ?_
      exact z_iret Z hr hL (wPost.thr hX hk_ hJ hc_ (by decide)) (Nat.le_of_ble_eq_true rfl) (Nat.le_of_ble_eq_true rfl) dX0_ways_20
    · skip
      refine z_catch2 Z hxt (E := RJ6) (E1 := RJ12) (by decide) q288 Z.K.2.2.2.2.2.2.2.1 (by decide) (by decide) q104 q115 h1_ h2_ h3_ ?_
      refine lv_astore (lv' := [(6, .ref q_), (0, .ref o), (1, .int t), (2, .int y), (3, .int g), (4, .int d), (5, .ref out)]) Z.hx Z.hb dX0_ways_21 hl (by decide) rfl (fun ls hl => ?_)
      refine lv_iconst (v := 2) Z.hx Z.hb dX0_ways_23 (by decide) ?_
      exact z_iret Z hr hL (wPost.thr hX hk_ hJ hc_ (by decide)) (Nat.le_of_ble_eq_true rfl) (Nat.le_of_ble_eq_true rfl) dX0_ways_24
  refine lv_i2l (v := (nI (sCnt σ t.toNatClampNeg y g d)).toInt64) Z.hx Z.hb dX0_ways_12 rfl ?_
  refine z_last0 Z hJ (by decide) hL hoB dX0_ways_13 (fun H_2 locs hL hJ2_ hz2_ hq2_ => ?_)
  refine lv_goto (tgt := 25) Z.hx Z.hb dX0_ways_14 (by decide) ?_
  refine lv_iconst (v := 0) Z.hx Z.hb dX0_ways_25 (by decide) ?_
  exact z_iret Z hr hL (wPost.ok (x := nI (sCnt σ t.toNatClampNeg y g d)) (xNx.rf hX) hJ hRo hJ2_ hz2_ hq2_ hk0_ rfl rfl) (Nat.le_of_ble_eq_true rfl) (Nat.le_of_ble_eq_true rfl) dX0_ways_26
set_option maxHeartbeats 4000000 in
set_option maxRecDepth 100000 in
theorem w_wayAt (G : zG) (l : Launch) (hl0 : l.stackTraces = false) (H : Heap) (R : xRo) (σ : zS) (n o : Nat) (hX : xRep G H R σ n o) (hn64 : n < 64) (hW : sWf σ) (out : Nat) (f : Nat → Int64) (hJ : zJ G H out 1 f) (hRo : R out = (0, 0, 0)) (hoB : (zHB G).size ≤ out) (i t y g d : Int32) : zMW G l yX0_wayAt cX0_wayAt 8 (Option.some Jvm.ClassFile.FieldType.int) [(0, 16, 19, 13), (0, 16, 23, 20)] 10 8 48 [.ref o, .int i, .int t, .int y, .int g, .int d, .ref out] H (wPost G H R σ σ n o out (kAt σ i t y g d) (zLast (sAtOk σ i t.toNatClampNeg y g d) (sP σ))) := by
  obtain ⟨tl, pl, ts, ps, hO9⟩ := hX.op
  refine zMW.of (by decide +kernel) (Nat.le_of_ble_eq_true rfl) ?_
  intro p0 e0 s0 m0 args0 below0 meth0 c0 Z hr hxt hH ls hl
  have Z : zC G p0 s0 m0 args0 meth0 c0 RX0 cX0_wayAt 8 := Z
  have hl : lv_has ls 8 [(0, .ref o), (1, .int i), (2, .int t), (3, .int y), (4, .int g), (5, .int d), (6, .ref out)] := hl
  have hL : zL G [] := zL.nil
  refine lv_aload Z.hx Z.hb dX0_wayAt_0 (lv_at hl 6 rfl) ?_
  refine lv_iconst (v := 0) Z.hx Z.hb dX0_wayAt_2 (by decide) ?_
  refine lv_aload_n Z.hx Z.hb dX0_wayAt_3 rfl (lv_at hl 0 rfl) ?_
  refine lv_iload_n Z.hx Z.hb dX0_wayAt_4 rfl (lv_at hl 1 rfl) ?_
  refine lv_iload_n Z.hx Z.hb dX0_wayAt_5 rfl (lv_at hl 2 rfl) ?_
  refine lv_iload_n Z.hx Z.hb dX0_wayAt_6 rfl (lv_at hl 3 rfl) ?_
  refine lv_iload Z.hx Z.hb dX0_wayAt_7 (lv_at hl 4 rfl) ?_
  refine lv_iload Z.hx Z.hb dX0_wayAt_9 (lv_at hl 5 rfl) ?_
  -- LinkResolver.wayAt
  refine z_xpcallV (rest := [.int 0, .ref out]) (As := [.int i, .int t, .int y, .int g, .int d]) Z (x_wayAt G l hl0 H R σ n o tl pl ts ps hO9 (by omega) hW i t y g d) gw_X0_65 gd_X0_65 rfl hO9.ob rfl hl.1 (Nat.le_of_ble_eq_true rfl) rfl dX0_wayAt_11 ⟨⟨Nat.le_of_ble_eq_true rfl, Nat.le_of_ble_eq_true rfl⟩, Nat.le_of_ble_eq_true rfl, Nat.le_of_ble_eq_true rfl⟩ hL (fun E_ ce_ q_ H_ locs hL hk_ hx_ h1_ h2_ h3_ => ?_) (fun locs hL hk0_ => ?_)
  · skip
    rcases hx_ with ⟨rfl, hc_⟩ | ⟨rfl, hc_⟩
    · skip
      refine z_catch1 Z hxt (E := RJ6) (by decide) (by decide) q104 q115 h1_ h2_ h3_ ?_
      refine lv_astore (lv' := [(7, .ref q_), (0, .ref o), (1, .int i), (2, .int t), (3, .int y), (4, .int g), (5, .int d), (6, .ref out)]) Z.hx Z.hb dX0_wayAt_19 hl (by decide) rfl (fun ls hl => ?_)
      refine lv_iconst (v := 1) Z.hx Z.hb dX0_wayAt_21 (by decide) ?_
      exact z_iret Z hr hL (wPost.thr hX hk_ hJ hc_ (by decide)) (Nat.le_of_ble_eq_true rfl) (Nat.le_of_ble_eq_true rfl) dX0_wayAt_22
    · skip
      refine z_catch2 Z hxt (E := RJ12) (E1 := RJ6) (by decide) q104 Z.K.2.2.2.2.2.2.2.2.1 (by decide) (by decide) q288 q334 h1_ h2_ h3_ ?_
      refine lv_astore (lv' := [(7, .ref q_), (0, .ref o), (1, .int i), (2, .int t), (3, .int y), (4, .int g), (5, .int d), (6, .ref out)]) Z.hx Z.hb dX0_wayAt_23 hl (by decide) rfl (fun ls hl => ?_)
      refine lv_iconst (v := 2) Z.hx Z.hb dX0_wayAt_25 (by decide) ?_
      exact z_iret Z hr hL (wPost.thr hX hk_ hJ hc_ (by decide)) (Nat.le_of_ble_eq_true rfl) (Nat.le_of_ble_eq_true rfl) dX0_wayAt_26
  refine lv_i2l (v := (zLast (sAtOk σ i t.toNatClampNeg y g d) (sP σ)).toInt64) Z.hx Z.hb dX0_wayAt_14 rfl ?_
  refine z_last0 Z hJ (by decide) hL hoB dX0_wayAt_15 (fun H_2 locs hL hJ2_ hz2_ hq2_ => ?_)
  refine lv_goto (tgt := 27) Z.hx Z.hb dX0_wayAt_16 (by decide) ?_
  refine lv_iconst (v := 0) Z.hx Z.hb dX0_wayAt_27 (by decide) ?_
  exact z_iret Z hr hL (wPost.ok (x := zLast (sAtOk σ i t.toNatClampNeg y g d) (sP σ)) (xNx.rf hX) hJ hRo hJ2_ hz2_ hq2_ hk0_ rfl rfl) (Nat.le_of_ble_eq_true rfl) (Nat.le_of_ble_eq_true rfl) dX0_wayAt_28
set_option maxHeartbeats 4000000 in
set_option maxRecDepth 100000 in
theorem w_gap (G : zG) (l : Launch) (hl0 : l.stackTraces = false) (H : Heap) (R : xRo) (σ : zS) (n o : Nat) (hX : xRep G H R σ n o) (hn64 : n < 64) (hW : sWf σ) (out : Nat) (f : Nat → Int64) (hJ : zJ G H out 1 f) (hRo : R out = (0, 0, 0)) (hoB : (zHB G).size ≤ out) (t g : Int32) : zMW G l yX0_gap cX0_gap 5 (Option.some Jvm.ClassFile.FieldType.int) [(0, 10, 13, 20), (0, 10, 17, 13)] 10 8 48 [.ref o, .int t, .int g, .ref out] H (wPost G H R σ σ n o out (kTG σ t g) (sGap σ t.toNatClampNeg g (sF σ t.toNatClampNeg) (sYrs σ t.toNatClampNeg))) := by
  obtain ⟨tl, pl, ts, ps, hO9⟩ := hX.op
  refine zMW.of (by decide +kernel) (Nat.le_of_ble_eq_true rfl) ?_
  intro p0 e0 s0 m0 args0 below0 meth0 c0 Z hr hxt hH ls hl
  have Z : zC G p0 s0 m0 args0 meth0 c0 RX0 cX0_gap 5 := Z
  have hl : lv_has ls 5 [(0, .ref o), (1, .int t), (2, .int g), (3, .ref out)] := hl
  have hL : zL G [] := zL.nil
  refine lv_aload_n Z.hx Z.hb dX0_gap_0 rfl (lv_at hl 3 rfl) ?_
  refine lv_iconst (v := 0) Z.hx Z.hb dX0_gap_1 (by decide) ?_
  refine lv_aload_n Z.hx Z.hb dX0_gap_2 rfl (lv_at hl 0 rfl) ?_
  refine lv_iload_n Z.hx Z.hb dX0_gap_3 rfl (lv_at hl 1 rfl) ?_
  refine lv_iload_n Z.hx Z.hb dX0_gap_4 rfl (lv_at hl 2 rfl) ?_
  -- LinkResolver.gap
  refine z_xpcallV (rest := [.int 0, .ref out]) (As := [.int t, .int g]) Z (x_gap G l hl0 H R σ n o tl pl ts ps hO9 (by omega) hW t g) gw_X0_69 gd_X0_69 rfl hO9.ob rfl hl.1 (Nat.le_of_ble_eq_true rfl) rfl dX0_gap_5 ⟨⟨Nat.le_of_ble_eq_true rfl, Nat.le_of_ble_eq_true rfl⟩, Nat.le_of_ble_eq_true rfl, Nat.le_of_ble_eq_true rfl⟩ hL (fun E_ ce_ q_ H_ locs hL hk_ hx_ h1_ h2_ h3_ => ?_) (fun locs hL hk0_ => ?_)
  · skip
    rcases hx_ with ⟨rfl, hc_⟩ | ⟨rfl, hc_⟩
    · skip
      refine z_catch1 Z hxt (E := RJ12) (by decide) (by decide) q288 q334 h1_ h2_ h3_ ?_
      refine lv_astore (lv' := [(4, .ref q_), (0, .ref o), (1, .int t), (2, .int g), (3, .ref out)]) Z.hx Z.hb dX0_gap_13 hl (by decide) rfl (fun ls hl => ?_)
      refine lv_iconst (v := 1) Z.hx Z.hb dX0_gap_15 (by decide) ?_
      exact z_iret Z hr hL (wPost.thr hX hk_ hJ hc_ (by decide)) (Nat.le_of_ble_eq_true rfl) (Nat.le_of_ble_eq_true rfl) dX0_gap_16
    · skip
      refine z_catch2 Z hxt (E := RJ6) (E1 := RJ12) (by decide) q288 Z.K.2.2.2.2.2.2.2.1 (by decide) (by decide) q104 q115 h1_ h2_ h3_ ?_
      refine lv_astore (lv' := [(4, .ref q_), (0, .ref o), (1, .int t), (2, .int g), (3, .ref out)]) Z.hx Z.hb dX0_gap_17 hl (by decide) rfl (fun ls hl => ?_)
      refine lv_iconst (v := 2) Z.hx Z.hb dX0_gap_19 (by decide) ?_
      exact z_iret Z hr hL (wPost.thr hX hk_ hJ hc_ (by decide)) (Nat.le_of_ble_eq_true rfl) (Nat.le_of_ble_eq_true rfl) dX0_gap_20
  refine lv_i2l (v := (sGap σ t.toNatClampNeg g (sF σ t.toNatClampNeg) (sYrs σ t.toNatClampNeg)).toInt64) Z.hx Z.hb dX0_gap_8 rfl ?_
  refine z_last0 Z hJ (by decide) hL hoB dX0_gap_9 (fun H_2 locs hL hJ2_ hz2_ hq2_ => ?_)
  refine lv_goto (tgt := 21) Z.hx Z.hb dX0_gap_10 (by decide) ?_
  refine lv_iconst (v := 0) Z.hx Z.hb dX0_gap_21 (by decide) ?_
  exact z_iret Z hr hL (wPost.ok (x := sGap σ t.toNatClampNeg g (sF σ t.toNatClampNeg) (sYrs σ t.toNatClampNeg)) (xNx.rf hX) hJ hRo hJ2_ hz2_ hq2_ hk0_ rfl rfl) (Nat.le_of_ble_eq_true rfl) (Nat.le_of_ble_eq_true rfl) dX0_gap_22
set_option maxHeartbeats 4000000 in
set_option maxRecDepth 100000 in
theorem w_doubles (G : zG) (l : Launch) (hl0 : l.stackTraces = false) (H : Heap) (R : xRo) (σ : zS) (n o : Nat) (hX : xRep G H R σ n o) (hn64 : n < 64) (hW : sWf σ) (out : Nat) (f : Nat → Int64) (hJ : zJ G H out 1 f) (hRo : R out = (0, 0, 0)) (hoB : (zHB G).size ≤ out) (t g : Int32) : zMW G l yX0_doubles cX0_doubles 5 (Option.some Jvm.ClassFile.FieldType.int) [(0, 10, 13, 20), (0, 10, 17, 13)] 10 8 48 [.ref o, .int t, .int g, .ref out] H (wPost G H R σ σ n o out (kTG σ t g) (nI (sDbl σ t.toNatClampNeg g (sF σ t.toNatClampNeg) (sYrs σ t.toNatClampNeg)))) := by
  obtain ⟨tl, pl, ts, ps, hO9⟩ := hX.op
  refine zMW.of (by decide +kernel) (Nat.le_of_ble_eq_true rfl) ?_
  intro p0 e0 s0 m0 args0 below0 meth0 c0 Z hr hxt hH ls hl
  have Z : zC G p0 s0 m0 args0 meth0 c0 RX0 cX0_doubles 5 := Z
  have hl : lv_has ls 5 [(0, .ref o), (1, .int t), (2, .int g), (3, .ref out)] := hl
  have hL : zL G [] := zL.nil
  refine lv_aload_n Z.hx Z.hb dX0_doubles_0 rfl (lv_at hl 3 rfl) ?_
  refine lv_iconst (v := 0) Z.hx Z.hb dX0_doubles_1 (by decide) ?_
  refine lv_aload_n Z.hx Z.hb dX0_doubles_2 rfl (lv_at hl 0 rfl) ?_
  refine lv_iload_n Z.hx Z.hb dX0_doubles_3 rfl (lv_at hl 1 rfl) ?_
  refine lv_iload_n Z.hx Z.hb dX0_doubles_4 rfl (lv_at hl 2 rfl) ?_
  -- LinkResolver.doubles
  refine z_xpcallV (rest := [.int 0, .ref out]) (As := [.int t, .int g]) Z (x_doubles G l hl0 H R σ n o tl pl ts ps hO9 (by omega) hW t g) gw_X0_72 gd_X0_72 rfl hO9.ob rfl hl.1 (Nat.le_of_ble_eq_true rfl) rfl dX0_doubles_5 ⟨⟨Nat.le_of_ble_eq_true rfl, Nat.le_of_ble_eq_true rfl⟩, Nat.le_of_ble_eq_true rfl, Nat.le_of_ble_eq_true rfl⟩ hL (fun E_ ce_ q_ H_ locs hL hk_ hx_ h1_ h2_ h3_ => ?_) (fun locs hL hk0_ => ?_)
  · skip
    rcases hx_ with ⟨rfl, hc_⟩ | ⟨rfl, hc_⟩
    · skip
      refine z_catch1 Z hxt (E := RJ12) (by decide) (by decide) q288 q334 h1_ h2_ h3_ ?_
      refine lv_astore (lv' := [(4, .ref q_), (0, .ref o), (1, .int t), (2, .int g), (3, .ref out)]) Z.hx Z.hb dX0_doubles_13 hl (by decide) rfl (fun ls hl => ?_)
      refine lv_iconst (v := 1) Z.hx Z.hb dX0_doubles_15 (by decide) ?_
      exact z_iret Z hr hL (wPost.thr hX hk_ hJ hc_ (by decide)) (Nat.le_of_ble_eq_true rfl) (Nat.le_of_ble_eq_true rfl) dX0_doubles_16
    · skip
      refine z_catch2 Z hxt (E := RJ6) (E1 := RJ12) (by decide) q288 Z.K.2.2.2.2.2.2.2.1 (by decide) (by decide) q104 q115 h1_ h2_ h3_ ?_
      refine lv_astore (lv' := [(4, .ref q_), (0, .ref o), (1, .int t), (2, .int g), (3, .ref out)]) Z.hx Z.hb dX0_doubles_17 hl (by decide) rfl (fun ls hl => ?_)
      refine lv_iconst (v := 2) Z.hx Z.hb dX0_doubles_19 (by decide) ?_
      exact z_iret Z hr hL (wPost.thr hX hk_ hJ hc_ (by decide)) (Nat.le_of_ble_eq_true rfl) (Nat.le_of_ble_eq_true rfl) dX0_doubles_20
  refine lv_i2l (v := (nI (sDbl σ t.toNatClampNeg g (sF σ t.toNatClampNeg) (sYrs σ t.toNatClampNeg))).toInt64) Z.hx Z.hb dX0_doubles_8 rfl ?_
  refine z_last0 Z hJ (by decide) hL hoB dX0_doubles_9 (fun H_2 locs hL hJ2_ hz2_ hq2_ => ?_)
  refine lv_goto (tgt := 21) Z.hx Z.hb dX0_doubles_10 (by decide) ?_
  refine lv_iconst (v := 0) Z.hx Z.hb dX0_doubles_21 (by decide) ?_
  exact z_iret Z hr hL (wPost.ok (x := nI (sDbl σ t.toNatClampNeg g (sF σ t.toNatClampNeg) (sYrs σ t.toNatClampNeg))) (xNx.rf hX) hJ hRo hJ2_ hz2_ hq2_ hk0_ rfl rfl) (Nat.le_of_ble_eq_true rfl) (Nat.le_of_ble_eq_true rfl) dX0_doubles_22
set_option maxHeartbeats 4000000 in
set_option maxRecDepth 100000 in
theorem w_isNeedless (G : zG) (l : Launch) (hl0 : l.stackTraces = false) (H : Heap) (R : xRo) (σ : zS) (n o : Nat) (hX : xRep G H R σ n o) (hn64 : n < 64) (hW : sWf σ) (out : Nat) (f : Nat → Int64) (hJ : zJ G H out 1 f) (hRo : R out = (0, 0, 0)) (hoB : (zHB G).size ≤ out) (p : Int32) : zMW G l yX0_isNeedless cX0_isNeedless 4 (Option.some Jvm.ClassFile.FieldType.int) [(0, 16, 19, 20)] 10 8 48 [.ref o, .int p, .ref out] H (wPost G H R σ σ n o out (kPk σ p) (zb (sNeed σ p.toNatClampNeg))) := by
  obtain ⟨tl, pl, ts, ps, hO9⟩ := hX.op
  refine zMW.of (by decide +kernel) (Nat.le_of_ble_eq_true rfl) ?_
  intro p0 e0 s0 m0 args0 below0 meth0 c0 Z hr hxt hH ls hl
  have Z : zC G p0 s0 m0 args0 meth0 c0 RX0 cX0_isNeedless 4 := Z
  have hl : lv_has ls 4 [(0, .ref o), (1, .int p), (2, .ref out)] := hl
  have hL : zL G [] := zL.nil
  refine lv_aload_n Z.hx Z.hb dX0_isNeedless_0 rfl (lv_at hl 2 rfl) ?_
  refine lv_iconst (v := 0) Z.hx Z.hb dX0_isNeedless_1 (by decide) ?_
  refine lv_aload_n Z.hx Z.hb dX0_isNeedless_2 rfl (lv_at hl 0 rfl) ?_
  refine lv_iload_n Z.hx Z.hb dX0_isNeedless_3 rfl (lv_at hl 1 rfl) ?_
  -- LinkResolver.isNeedless
  refine z_xpcallV (rest := [.int 0, .ref out]) (As := [.int p]) Z (x_isNeedless G l hl0 H R σ n o tl pl ts ps hO9 (by omega) hW p) gw_X0_75 gd_X0_75 rfl hO9.ob rfl hl.1 (Nat.le_of_ble_eq_true rfl) rfl dX0_isNeedless_4 ⟨⟨Nat.le_of_ble_eq_true rfl, Nat.le_of_ble_eq_true rfl⟩, Nat.le_of_ble_eq_true rfl, Nat.le_of_ble_eq_true rfl⟩ hL (fun E_ ce_ q_ H_ locs hL hk_ hx_ h1_ h2_ h3_ => ?_) (fun locs hL hk0_ => ?_)
  · skip
    obtain ⟨rfl, hc_⟩ := hx_
    refine z_catch1 Z hxt (E := RJ12) (by decide) (by decide) q288 q334 h1_ h2_ h3_ ?_
    refine lv_astore_n (lv' := [(3, .ref q_), (0, .ref o), (1, .int p), (2, .ref out)]) Z.hx Z.hb dX0_isNeedless_19 rfl hl (by decide) rfl (fun ls hl => ?_)
    refine lv_iconst (v := 1) Z.hx Z.hb dX0_isNeedless_20 (by decide) ?_
    exact z_iret Z hr hL (wPost.thr hX hk_ hJ hc_ (by decide)) (Nat.le_of_ble_eq_true rfl) (Nat.le_of_ble_eq_true rfl) dX0_isNeedless_21
  refine lv_if_eq (tgt := 14) Z.hx Z.hb dX0_isNeedless_7 (by decide) (fun c7 => ?_) (fun c7 => ?_)
  · skip
    have c7 : (sNeed σ p.toNatClampNeg) = false := zb_0.mp c7
    refine lv_lconst (v := 0) Z.hx Z.hb dX0_isNeedless_14 (by decide) ?_
    refine z_last0 Z hJ (by decide) hL hoB dX0_isNeedless_15 (fun H_2 locs hL hJ2_ hz2_ hq2_ => ?_)
    refine lv_goto (tgt := 22) Z.hx Z.hb dX0_isNeedless_16 (by decide) ?_
    refine lv_iconst (v := 0) Z.hx Z.hb dX0_isNeedless_22 (by decide) ?_
    exact z_iret Z hr hL (wPost.ok (x := 0) (xNx.rf hX) hJ hRo hJ2_ hz2_ hq2_ hk0_ rfl (by rw [c7]; rfl)) (Nat.le_of_ble_eq_true rfl) (Nat.le_of_ble_eq_true rfl) dX0_isNeedless_23
  · skip
    have c7 : (sNeed σ p.toNatClampNeg) = true := zb_n.mp c7
    refine lv_lconst (v := 1) Z.hx Z.hb dX0_isNeedless_10 (by decide) ?_
    refine lv_goto (tgt := 15) Z.hx Z.hb dX0_isNeedless_11 (by decide) ?_
    refine z_last0 Z hJ (by decide) hL hoB dX0_isNeedless_15 (fun H_2 locs hL hJ2_ hz2_ hq2_ => ?_)
    refine lv_goto (tgt := 22) Z.hx Z.hb dX0_isNeedless_16 (by decide) ?_
    refine lv_iconst (v := 0) Z.hx Z.hb dX0_isNeedless_22 (by decide) ?_
    exact z_iret Z hr hL (wPost.ok (x := 1) (xNx.rf hX) hJ hRo hJ2_ hz2_ hq2_ hk0_ rfl (by rw [c7]; rfl)) (Nat.le_of_ble_eq_true rfl) (Nat.le_of_ble_eq_true rfl) dX0_isNeedless_23
