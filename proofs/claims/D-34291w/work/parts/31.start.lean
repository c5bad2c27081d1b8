/-! the law, from its entry -/
theorem zlen0 {args : Array Value} {s : State} {t : Term} {a : Addr} {cell : Cell} (ht : t.eval args s none [] s = some (.ref a)) (hc : s.heap[a]? = some cell) (h : (Cond.eq (.length t) (.int 0)).before args s = true) : cell.slots.size = 0 := by
  simp only [Cond.before, Cond.holds, Cond.value] at h
  cases hv : (Term.length t).eval args s none [] s with
  | none => simp [hv] at h
  | some v =>
    simp only [Term.eval, ht, Option.bind_eq_bind, Option.bind_some] at hv
    cases ha : s.arrayAt? a with
    | none => simp [ha] at hv
    | some c2 =>
      obtain ⟨h1, -⟩ := State.arrayAt?_spec ha
      rw [hc] at h1
      cases h1
      simp only [ha, Option.bind_some] at hv
      by_cases hs : cell.slots.size < 2 ^ 31
      · rw [if_pos hs] at hv
        cases hv
        simp [Term.eval, ha, ht, hs] at h
        have h1 : (Int32.ofNat cell.slots.size).toInt = cell.slots.size := Int32.toInt_ofNat_of_lt hs
        have h2 : Int32.ofNat cell.slots.size = 0 := h
        rw [h2] at h1
        have h3 : (0 : Int32).toInt = 0 := by decide
        omega
      · rw [if_neg hs] at hv
        cases hv
theorem zArr_of {args : Array Value} {s : State} {ty : FieldType} (h : (Cond.arrayClass ty).before args s = true) : ∃ c, ArrOfT s c ty ∧ s.vm.findClass ("[" ++ ty.toString) = some c := by
  obtain ⟨c, k, comp, h1, h2, h3⟩ := Cond.arrayClass_spec h
  exact ⟨c, fun n z => ⟨fun k hk => (by cases hk), k, h2, comp, h3⟩, h1⟩
theorem zArr_o {args : Array Value} {s : State} {C : String} (h : (Cond.arrayOver (.object C)).before args s = true) : ∃ c, ArrOfT s c (.object C) ∧ va_RA s c (.object C) := by
  obtain ⟨comp, c, k, h1, -, h3, h4, h5⟩ := Cond.arrayOver_spec h
  exact ⟨c, fun n z => ⟨fun k hk => (by cases hk), k, h3, comp, h4⟩, k, comp, h3, h4, h1, h5⟩
theorem zWk_on {w : Cond} (h : zWk w = true) : w.onTables = true := by
  revert h
  cases w <;> simp [zWk, Cond.onTables]
set_option maxHeartbeats 4000000 in
set_option maxRecDepth 100000 in
/-- what the tables say, at the start -/
theorem zK_start {args : Array Value} {s : State} (hts : ∀ w ∈ lw_tbl, w.before args s = true) (hgv : (Jvm.Cond.and given_1 narrow_1).before args s = true) : ∃ G : zG, zHB G = s.heap ∧ zK G s := by
  have ha : ∀ w ∈ lw_all, w.before args s = true := fun w h => hts w (lw_all_tbl h)
  have hg := flat_of_before _ hgv
  obtain ⟨c0, i0, hK0⟩ := u_known (C := RX1) (T := TX1) (N := 3) ha in_X1 (ha _ q54)
  obtain ⟨c1, i1, hK1⟩ := u_known (C := RX3) (T := TX3) (N := 2) ha in_X3 (ha _ q207)
  obtain ⟨c2, i2, hK2⟩ := u_known (C := RX4) (T := TX4) (N := 8) ha in_X4 (ha _ q389)
  obtain ⟨c3, i3, hK3⟩ := u_known (C := RX5) (T := TX5) (N := 2) ha in_X5 (ha _ q456)
  obtain ⟨c4, i4, hK4⟩ := u_known (C := RX6) (T := TX6) (N := 5) ha in_X6 (ha _ q499)
  obtain ⟨c5, i5, hK5⟩ := u_known (C := RX2) (T := TX2) (N := 18) ha in_X2 (ha _ q659)
  obtain ⟨c6, i6, hK6⟩ := u_known (C := RJ2) (T := TJ2) (N := 3) ha in_J2 (ha _ q62)
  obtain ⟨c7, i7, hK7⟩ := u_known (C := RJ6) (T := zT0) (N := 0) ha (fun w h => by simp [u_ws] at h) (ha _ q114)
  obtain ⟨c8, i8, hK8⟩ := u_known (C := RJ7) (T := zT0) (N := 0) ha (fun w h => by simp [u_ws] at h) (ha _ q192)
  obtain ⟨c9, i9, hK9⟩ := u_known (C := RJ12) (T := zT0) (N := 0) ha (fun w h => by simp [u_ws] at h) (ha _ q333)
  obtain ⟨f0, a0, r0⟩ := zArr_of (ha _ q426)
  obtain ⟨f1, a1, r1⟩ := zArr_of (ha _ q719)
  obtain ⟨f2, a2, r2⟩ := zArr_of (ha _ q866)
  obtain ⟨f3, a3, r3⟩ := zArr_o (hts _ q275)
  obtain ⟨mi, hmi⟩ := va_Mi.of (C := "[Ljava/lang/Object;") (hg _ (by decide +kernel))
  have he1 : (Cond.exactly (.static "java/util/ArrayList" "DEFAULTCAPACITY_EMPTY_ELEMENTDATA" "[Ljava/lang/Object;") "[Ljava/lang/Object;").before args s = true := hg _ (by decide +kernel)
  have he2 : (Cond.arrayOf (.static "java/util/ArrayList" "DEFAULTCAPACITY_EMPTY_ELEMENTDATA" "[Ljava/lang/Object;") (.object "java/lang/Object")).before args s = true := hg _ (by decide +kernel)
  have he3 : (Cond.eq (.length (.static "java/util/ArrayList" "DEFAULTCAPACITY_EMPTY_ELEMENTDATA" "[Ljava/lang/Object;")) (.int 0)).before args s = true := hg _ (by decide +kernel)
  obtain ⟨de, ce, cell, ke, ht, -, hcell, -⟩ := Cond.exactly_spec he1
  have harr := (Cond.arrayOf_spec he2 ht hcell).1
  have hz := zlen0 ht hcell he3
  have hA : ∀ a : Nat, a < s.heap.size → ¬ (fun q : Nat => s.heap.size ≤ q) a := fun a h => Nat.not_le.mpr h
  obtain ⟨D1, hD1⟩ : ∃ D1 : Nat → ClassId, D1 = fun k => [c0, c1, c2, c3, c4, c5, c6, c7, c8, c9].getD k c0 := ⟨_, rfl⟩
  obtain ⟨D2, hD2⟩ : ∃ D2 : Nat → Nat → Nat, D2 = fun k => [i0, i1, i2, i3, i4, i5, i6, i7, i8, i9].getD k i0 := ⟨_, rfl⟩
  refine ⟨((D1, D2), (fun k => [f0, f1, f2, f3].getD k f0), (de, mi), s.heap), rfl, ⟨fun k q hq => ?_, fun k q hq => ?_⟩, fun w hw hk => va_Nw.of (zWk_on hk) (hts w hw), ⟨va_Fw.of (hts _ q181) (hts _ q180) (hts _ q186) (hts _ q184) (hts _ q182), va_Fw.of (hts _ q225) (hts _ q224) (hts _ q229) (hts _ q227) (hts _ q182), va_Fw.of (hts _ q350) (hts _ q349) (hts _ q354) (hts _ q352) (hts _ q182)⟩,
    ⟨va_AO.of (hts _ q275), hmi, cell, hcell, harr, hz⟩, va_Zof (hts _ q74) (ha _ q32) ht hA, ⟨vx_Zqof (hts _ q140) (ha _ q34) (hg _ (by decide +kernel)) hA, vx_Zqof (hts _ q142) (ha _ q34) (hg _ (by decide +kernel)) hA⟩, va_Nc.of (hg _ (by decide +kernel)), va_Nc.of (hg _ (by decide +kernel)), va_Nc.of (hg _ (by decide +kernel)), va_Nc.of (hg _ (by decide +kernel))⟩
  · rw [hD1, hD2]
    match k, hq with
    | 0, hq => cases hq; exact hK0
    | 1, hq => cases hq; exact hK1
    | 2, hq => cases hq; exact hK2
    | 3, hq => cases hq; exact hK3
    | 4, hq => cases hq; exact hK4
    | 5, hq => cases hq; exact hK5
    | 6, hq => cases hq; exact hK6
    | 7, hq => cases hq; exact hK7
    | 8, hq => cases hq; exact hK8
    | 9, hq => cases hq; exact hK9
    | k + 10, hq => simp at hq
  · match k, hq with
    | 0, hq => cases hq; exact ⟨a0, r0⟩
    | 1, hq => cases hq; exact ⟨a1, r1⟩
    | 2, hq => cases hq; exact ⟨a2, r2⟩
    | 3, hq => cases hq; exact ⟨a3, r3⟩
    | k + 4, hq => simp at hq
/-- nothing yet, on both sides -/
theorem m0_sim : mSim s0 0 (fun _ => 0) (fun _ _ => 0) := ⟨⟨rfl, rfl, rfl, rfl, Nat.zero_le _⟩, fun i h => absurd h (Nat.not_lt_zero _), fun i h => absurd h (Nat.not_lt_zero _), fun _ _ _ _ => rfl, fun _ _ _ _ _ => rfl, fun i h => absurd h (Nat.not_lt_zero _)⟩
set_option maxHeartbeats 4000000 in
set_option maxRecDepth 100000 in
theorem whole_start {p : Program} {e : Env} {s : State} {m : MethodId} {below : List Frame} {meth : Method} {c : Code} (l : Launch) (hflags : l.flags = flags0) {b L : Nat} {xs : Nat → Int32} (hL3 : L ≤ 384) (C0 : lw_At p s m meth c b L xs) : W p l e room_1 s m #[Value.ref b] below meth c s.heap [] 0 0 (lw_Z below #[Value.ref b] s) (entryFrame m ([Value.ref b] : List Value).toArray 7) := by
  obtain ⟨hx, hb, hr, hml, hown, hts, hX, hbl, hlocks, hgv⟩ := id C0
  obtain ⟨G, hGB, hK⟩ := zK_start hts hgv
  have hl0 : l.stackTraces = false := by
    unfold Launch.stackTraces
    rw [hflags]
    decide
  have Z : zC G p s m #[Value.ref b] meth c RX0 cL_law 7 := ⟨⟨hx, hb, hml, hown, fun w h => hts w (lw_all_tbl h)⟩, hK, ⟨by rw [hGB]; exact Nat.le_refl _, fun q _ => by rw [hGB]⟩, hlocks⟩
  have hbA : ¬ zA G b := by
    show ¬ (zHB G).size ≤ b
    rw [hGB]
    exact Nat.not_le.mpr hbl
  have hl := lv_entry ([.ref b]) (n := 7) (Nat.le_of_ble_eq_true rfl)
  rw [lg_entry_eq]
  generalize (lg_sl ([.ref b]) ++ List.replicate (7 - (lg_sl ([.ref b])).length) Slot.unset).toArray = ls at hl ⊢
  have hl : lv_has ls 7 [(0, .ref b)] := hl
  have hL : zL G [] := zL.nil
  refine z_new Z (C := RX1) (T := TX1) (N := 3) (ci := 0) rfl in_X1 tyX1 tyX1_ok q53 q54 q29 (fs := [.null, .null, .int 0]) (fun j hj => by
      rcases j with _ | _ | _ | j
      all_goals first | rfl | (exact absurd hj (by omega))) (Nat.le_of_ble_eq_true rfl) (Nat.le_of_ble_eq_true rfl) dL_law_0 (fun H_1 hO1_ hz1_ hq1_ => ?_)
  refine lv_dup Z.hx Z.hb dL_law_3 rfl ?_
  -- LinkResolver.<init>
  refine z_gcallI (rest := [.ref s.heap.size]) (As := []) Z (x_init G l H_1 s.heap.size (by rw [hGB]; exact Nat.le_refl _) hO1_) gw_X0_79 q29 q55 q56 rfl gd_X0_79 rfl hl.1 (Nat.le_of_ble_eq_true rfl) rfl dL_law_4 ⟨⟨Nat.le_of_ble_eq_true rfl, Nat.le_of_ble_eq_true rfl⟩, Nat.le_of_ble_eq_true rfl, Nat.le_of_ble_eq_true rfl⟩ hL (fun H_2 locs hL hP_ => ?_)
  obtain ⟨R1, hx2, hs2, hr2, hq2⟩ := hP_
  refine lv_astore_n (lv' := [(1, .ref s.heap.size), (0, .ref b)]) Z.hx Z.hb dL_law_7 rfl hl (by decide) rfl (fun ls hl => ?_)
  refine z_new Z (C := RX2) (T := TX2) (N := 18) (ci := 5) rfl in_X2 tyX2 tyX2_ok q658 q659 q33 (fs := [.int 0, .int 0, .int 0, .int 0, .null, .null, .null, .null, .null, .null, .null, .int 0, .null, .null, .null, .null, .null, .null]) (fun j hj => by
      rcases j with _ | _ | _ | _ | _ | _ | _ | _ | _ | _ | _ | _ | _ | _ | _ | _ | _ | _ | j
      all_goals first | rfl | (exact absurd hj (by omega))) (Nat.le_of_ble_eq_true rfl) (Nat.le_of_ble_eq_true rfl) dL_law_8 (fun H_3 hO3_ hz3_ hq3_ => ?_)
  refine lv_dup Z.hx Z.hb dL_law_11 rfl ?_
  -- LinkResolverModel.<init>
  refine z_gcallI (rest := [.ref H_2.size]) (As := []) Z (m_init G l H_3 H_2.size hO3_ (by rw [hGB]; omega) (by rw [hGB]; omega)) gw_X0_82 q33 q660 q661 rfl gd_X0_82 rfl hl.1 (Nat.le_of_ble_eq_true rfl) rfl dL_law_12 ⟨⟨Nat.le_of_ble_eq_true rfl, Nat.le_of_ble_eq_true rfl⟩, Nat.le_of_ble_eq_true rfl, Nat.le_of_ble_eq_true rfl⟩ hL (fun H_4 locs hL hP_ => ?_)
  obtain ⟨A, hm4, ha4, hs4, hq4, hn4⟩ := hP_
  refine lv_astore_n (lv' := [(2, .ref H_2.size), (1, .ref s.heap.size), (0, .ref b)]) Z.hx Z.hb dL_law_15 rfl hl (by decide) rfl (fun ls hl => ?_)
  refine lv_iconst (v := 1) Z.hx Z.hb dL_law_16 (by decide) ?_
  refine z_newJ Z q866 (n := 1) (N := 1) (by decide) (by decide) (Nat.le_of_ble_eq_true rfl) (Nat.le_of_ble_eq_true rfl) (Nat.le_of_ble_eq_true rfl) dL_law_17 (fun H_5 hJ5_ hz5_ hq5_ => ?_)
  refine lv_astore_n (lv' := [(3, .ref H_4.size), (2, .ref H_2.size), (1, .ref s.heap.size), (0, .ref b)]) Z.hx Z.hb dL_law_19 rfl hl (by decide) rfl (fun ls hl => ?_)
  refine lv_iconst (v := 0) Z.hx Z.hb dL_law_20 (by decide) ?_
  refine lv_istore (lv' := [(4, .int 0), (3, .ref H_4.size), (2, .ref H_2.size), (1, .ref s.heap.size), (0, .ref b)]) Z.hx Z.hb dL_law_21 hl (by decide) rfl (fun ls hl => ?_)
  have ho1 : s.heap.size < H_2.size := by omega
  have hk4 : zKeep H_4 H_5 := ⟨by omega, hq5_⟩
  have hA4 : ∀ k, mIx k = true → A k < H_4.size := fun k hk => va_at.lt (hm4.2 k hk)
  have hc5 : xCh H_2 R1 (0, 0, 0) H_5 (upR R1 H_2.size (0, 0, 0)) := ⟨by omega, fun q hq => upR_lt hq, fun q h1 _ => (hq5_ q (by omega)).trans ((hq4 q (by omega) (by omega)).trans (hq3_ q h1))⟩
  obtain ⟨m5, ms5⟩ := (hm4.keep hk4).canon m0_sim
  have hI : lInv G H_5 (upR R1 H_2.size (0, 0, 0)) A (fun _ _ => 0) (fun _ => 0) s0 0 0 0 s.heap.size H_2.size H_4.size := ⟨xRep.ch hc5 hx2, ⟨m5, ha4, ms5⟩, s0_wf, Nat.le_refl _, ⟨hJ5_, by rw [hGB]; omega⟩, ⟨upR_ge (by omega), upR_ge (Nat.le_refl _), fun k hk => upR_ge (by have := hn4 k hk; omega)⟩, by omega, fun k hk e => by have := hA4 k hk; omega⟩
  refine W.widen (k := 18 + 64 * 0) (n := 24904 + 4000 * 0) (by decide) (by decide) ?_
  exact law_loop hl0 Z hr hX hbl hbA (by rw [hGB]; exact Nat.le_refl _) hL3 (c0 := 18) (s0 := 24904) (by decide) (by decide) (L + 1) 0 (by omega) (by omega) H_5 _ A _ _ s0 0 0 _ ls hL hI (lv_sub hl [0, 1, 2, 3, 4] rfl)
set_option maxHeartbeats 4000000 in
theorem lw_walk (l : Launch) (hflags : l.flags = flags0) (b : Addr) (xs : List Int32) : MetFree l x (headSpec (Jvm.Cond.code x code maxLocals ret :: tables_1) room_1) (lw_P b xs) (fun _ _ _ _ _ => True) lw_Q := by
  refine MetFree.of_bodyS (code := code) (maxLocals := maxLocals) (ret := ret) (by decide) ?_ ?_
  · intro args s m h hn
    obtain ⟨meth, c, h1, h2, h3, h4, h5, h6, -, -⟩ := Cond.code_spec hn (atoms_spec (ws := Jvm.Cond.code x code maxLocals ret :: tables_1) h _ List.mem_cons_self)
    exact ⟨meth, c, h1, h2, h3, h4, h5, h6⟩
  · intro p e s m args below meth c s₁ B hml0 hP _
    obtain ⟨rfl, hx, hbd, hgv⟩ := hP
    obtain ⟨scr, harrAt, hlist, hof, hsmall⟩ := hx
    obtain ⟨hcb, hkn, -, -⟩ := State.arrayAt?_spec harrAt
    have hown : s.vm.findClass R_law = some m.cls := findClass_of_methodNamed B.named
    have hts0 : ∀ c ∈ (Jvm.Cond.code x code maxLocals ret :: tables_1), c.before #[Value.ref b] s = true := atoms_spec (ws := Jvm.Cond.code x code maxLocals ret :: tables_1) B.pre
    have hts : ∀ w ∈ lw_tbl, w.before #[Value.ref b] s = true := k2_hts_sels lw_privs (fun w hw => hts0 w (List.mem_cons_of_mem _ hw)) lw_privs_ok
    have hml : c.maxLocals = 7 := B.maxLocals_eq (hts0 _ List.mem_cons_self)
    have X₀ : Stand p l e room_1 s m #[Value.ref b] below meth c s₁ [] 0 0 := Stand.of_body B
    have hh0 : s₁.heap = s.heap := by rw [B.state]; rfl
    have hsz : scr.slots.size = xs.length := by rw [← Array.length_toList, hlist, List.length_map]
    have hval : ∀ j : Nat, j < xs.length → scr.slots[j]? = some (.int (xs.getD j 0)) := fun j hj => by
      rw [← Array.getElem?_toList, hlist]
      simp [hj]
    have hbl : b < s.heap.size := (Array.getElem?_eq_some_iff.mp hcb).1
    have hX : va_X b xs.length (fun j => xs.getD j 0) s s.heap := ⟨scr, hcb, hof, hkn, hsz, hval⟩
    have K : W p l e room_1 s m #[Value.ref b] below meth c s₁.heap [] 0 0 (lw_Z below #[Value.ref b] s) (entryFrame m ([Value.ref b] : List Value).toArray 7) := by
      rw [hh0]
      exact whole_start l hflags hbd ⟨B.exec, B.bytes, B.returns, hml, hown, hts, hX, hbl, B.notSynchronized, hgv⟩
    obtain ⟨t, a1, o, b1, b2, b3⟩ := K s₁ rfl X₀
    exact ⟨t, o, a1, b1, b2, b3⟩
theorem lw_pre_spec {args : Array Value} {s : State} (h : (Jvm.Cond.and given_1 narrow_1).before args s = true) (hr : rest_1_c.before args s = true) : ∃ (b : Addr) (xs : List Int32), lw_P b xs args s := by
  have hs := flat_of_before _ h
  have hq := flat_of_before _ hr
  have hc : (Cond.count 1).before args s = true := hs _ (by decide +kernel)
  have harr : (Cond.arrayOf (.arg 0) .int).before args s = true := hs _ (by decide +kernel)
  have hle : (Cond.le (.length (.arg 0)) (.int 384)).before args s = true := hs _ (by decide +kernel)
  have hlen : (Cond.isInt (.length (.arg 0))).before args s = true := hq _ (by decide +kernel)
  have hall : (Cond.all (.arg 0) (.isInt (.elem (.arg 0) (.index 0)))).before args s = true := hq _ (by decide +kernel)
  obtain ⟨b, xs, hb, hx⟩ := State.ints_of_pre rfl harr hlen hall
  have hsm : xs.length < 2 ^ 31 := hx.choose_spec.2.2.2
  have hev : (Term.length (.arg 0)).eval args s none [] s = some (.int xs.length.toInt32) := hx.length_eval hb
  have hv := Cond.le_ints hev (show (Term.int 384).eval args s none [] s = some (.int 384) from rfl)
  have hd : xs.length.toInt32 ≤ 384 := by
    simpa [Cond.before, Cond.holds, hv] using hle
  have hN : xs.length ≤ 384 := (Int32.ofNat_le_ofNat hsm (by decide)).mp (show Int32.ofNat xs.length ≤ Int32.ofNat 384 from hd)
  exact ⟨b, xs, Cond.one_arg hc (show args[0]? = some (.ref b) from hb), hx, hN, h⟩
theorem lw_comes (l : Launch) (hflags : l.flags = flags0) : Comes l x (Jvm.Cond.code x code maxLocals ret :: tables_1) room_1 (fun tb e args s => Calls_1 tb e args s ∧ rest_1 tb e args s ∧ Pre_1 tb e args s)
    (fun _ _ args s o t => lw_Q args s o t) := by
  intro p e ha hc hk s m args below hf hfit hheap happ hpre
  obtain ⟨b, xs, hP⟩ := lw_pre_spec hpre.2.2 hpre.2.1
  obtain ⟨k, o, h1, h2, h3, hQ⟩ := lw_walk l hflags b xs p e ha hc hk s m args below hf ((Spec.applies_iff_loose hf).mp happ).1 hP trivial
  exact ⟨k, o, h1, h2, h3, hQ⟩
theorem lw_frame {s t : State} {o : Outcome} {args : Array Value} (h : Framed s o t [] 603072 7166058) :
    Framed s o t (fieldLocs frame_1_writes args s ++ arrayLocs frame_1_arrays args s ++ staticLocs frame_1_statics s) 603072 7166058 := h
theorem lw_limb (L : Cond) (hL : ∀ (args : Array Value) (s t : State), L.after args s (.returned (some (.int 1))) t = true) :
    ArmFor flags0 classFile x code maxLocals ret World_1 tables_1 room_1 Calls_1 rest_1 Pre_1
      (fun tb e a s o t => postC L tb e a s o t ∧ Framed s o t (fieldLocs frame_1_writes a s ++ arrayLocs frame_1_arrays a s ++ staticLocs frame_1_statics s) 603072 7166058) := by
  intro l hflags _ _ p e ha hc hk s m args below hf hfit hheap happ hpre
  obtain ⟨k, o, h1, h2, h3, rfl, hF⟩ := lw_comes l hflags p e ha hc hk s m args below hf hfit hheap happ hpre
  exact ⟨k, _, h1, h2, h3, hL args s _, lw_frame hF⟩
theorem i_vc : Claimed_1_1 ∧ Claimed_1_2 := ⟨lw_limb limb_1_1 (fun args s t => by simp [limb_1_1, Cond.after, Cond.holds, Cond.value]), lw_limb limb_1_2 (fun args s t => Cond.after_iff.mpr (by
  first | (rw [show limb_1_2 = Cond.eq .result (.int 1) from rfl, Cond.eq_ints (x := 1) (y := 1) rfl rfl]; simp; done) | (simp [limb_1_2, Cond.value, Term.eval]; done)))⟩

