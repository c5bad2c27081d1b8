/-! the component: ways (loops over the packages) -/
set_option maxHeartbeats 4000000 in
set_option maxRecDepth 100000 in
theorem x_cnt (G : zG) (l : Launch) (H : Heap) (R : xRo) (σ : zS) (n o tl pl : Nat) (ts ps : List Nat) (hX : xOp G H R σ n o tl pl ts ps) (hn29 : n < 2 ^ 29) (hW : sWf σ) (j : Nat) (hj20 : j < 20) (y g d : Int32) : zMp G l yX1_countWays cX1_countWays 7 (Option.some Jvm.ClassFile.FieldType.int) 7 [.ref o, .int (nI j), .int y, .int g, .int d] H (.int (nI (sCnt σ j y g d))) := by
  obtain ⟨mt9, dt9, hOt⟩ := hX.tO
  obtain ⟨mp9, dp9, hOp⟩ := hX.pO
  have hO := hX.ob
  have htl : ts.length = sN σ := hX.2.2.2.1.2.1
  have hpl : ps.length = sP σ := hX.2.2.2.2.2.1
  have hN20 : sN σ ≤ 20 := hW.2.1
  have hP10 : sP σ ≤ 10 := hW.2.2.1
  refine zM.of (by decide +kernel) (Nat.le_of_ble_eq_true rfl) ?_
  intro p0 e0 s0 m0 args0 below0 meth0 c0 Z hr hH hn0 ls hl
  have Z : zC G p0 s0 m0 args0 meth0 c0 RX1 cX1_countWays 7 := Z
  have hl : lv_has ls 7 [(0, .ref o), (1, .int (nI j)), (2, .int y), (3, .int g), (4, .int d)] := hl
  have hL : zL G [] := zL.nil
  have loop : ∀ n8 k : Nat, k + n8 = ps.length → ∀ (locs : List Loc), zL G locs → ∀ ls : Array Slot, lv_has ls 7 [(6, .int (nI k)), (5, .int (nI (zCnt (fun p => sWay σ p j y g d) k))), (0, .ref o), (1, .int (nI j)), (2, .int y), (3, .int g), (4, .int d)] → W p0 l e0 (zr 7 0 0) s0 m0 args0 below0 meth0 c0 H locs 0 0 (MQ below0 (zQ (fun r H1 => r = some (.int (nI (sCnt σ j y g d))) ∧ H1 = H)) args0 s0 0 0 (zA G)) (F0 m0 6 ls []) := by
    intro n8
    induction n8 with
    | zero =>
      intro k hkn locs hL ls hl
      have hke : k = ps.length := hkn
      subst hke
      refine lv_iload Z.hx Z.hb dX1_countWays_6 (lv_at hl 0 rfl) ?_
      refine lv_aload_n Z.hx Z.hb dX1_countWays_8 rfl (lv_at hl 2 rfl) ?_
      refine gf_X1_16 Z hO (v := .ref pl) rfl dX1_countWays_9 ?_
      -- java/util/List.size
      refine z_pcallF (rest := [.int (nI ps.length)]) (As := []) Z (j_size G l H _ pl ps hX.2.2.2.2.1) gw_X1_28 Z.K.2.2.1.1 gd_L_size hOp rfl hl.1 (Nat.le_of_ble_eq_true rfl) rfl dX1_countWays_12 ⟨⟨Nat.le_of_ble_eq_true rfl, Nat.le_of_ble_eq_true rfl⟩, Nat.le_of_ble_eq_true rfl, Nat.le_of_ble_eq_true rfl⟩ hL (fun locs hL => ?_)
      refine lv_icmp_ge (tgt := 61) Z.hx Z.hb dX1_countWays_17 (by decide) (fun c17 => ?_) (fun c17 => ?_)
      · skip
        refine lv_iload Z.hx Z.hb dX1_countWays_61 (lv_at hl 1 rfl) ?_
        exact z_iret Z hr hL (⟨by rw [hpl]; rfl, rfl⟩) (Nat.le_of_ble_eq_true rfl) (Nat.le_of_ble_eq_true rfl) dX1_countWays_63
      · exact absurd (Int32.le_refl _) c17
    | succ n8 ihk =>
      intro k hkn locs hL ls hl
      have hkb : k < ps.length := by omega
      refine lv_iload Z.hx Z.hb dX1_countWays_6 (lv_at hl 0 rfl) ?_
      refine lv_aload_n Z.hx Z.hb dX1_countWays_8 rfl (lv_at hl 2 rfl) ?_
      refine gf_X1_16 Z hO (v := .ref pl) rfl dX1_countWays_9 ?_
      -- java/util/List.size
      refine z_pcallF (rest := [.int (nI k)]) (As := []) Z (j_size G l H _ pl ps hX.2.2.2.2.1) gw_X1_28 Z.K.2.2.1.1 gd_L_size hOp rfl hl.1 (Nat.le_of_ble_eq_true rfl) rfl dX1_countWays_12 ⟨⟨Nat.le_of_ble_eq_true rfl, Nat.le_of_ble_eq_true rfl⟩, Nat.le_of_ble_eq_true rfl, Nat.le_of_ble_eq_true rfl⟩ hL (fun locs hL => ?_)
      refine lv_icmp_ge (tgt := 61) Z.hx Z.hb dX1_countWays_17 (by decide) (fun c17 => ?_) (fun c17 => ?_)
      · exact absurd c17 (nI_ge hkb (by omega))
      · skip
        refine lv_iload Z.hx Z.hb dX1_countWays_20 (lv_at hl 1 rfl) ?_
        refine lv_aload_n Z.hx Z.hb dX1_countWays_22 rfl (lv_at hl 2 rfl) ?_
        refine gf_X1_16 Z hO (v := .ref pl) rfl dX1_countWays_23 ?_
        refine lv_iload Z.hx Z.hb dX1_countWays_26 (lv_at hl 0 rfl) ?_
        obtain ⟨q9, hq9⟩ : ∃ y, ps[k]? = some y := ⟨_, List.getElem?_eq_getElem hkb⟩
        have hp9 := hX.2.2.2.2.2.2 k q9 hq9
        have hp8 := hp9
        obtain ⟨sl9, hl9, br9, hRp9, hpO9, hSb9, hHs9, hBk9⟩ := hp8
        -- java/util/List.get
        refine z_pcallF (rest := [.int (nI (zCnt (fun p => sWay σ p j y g d) k))]) (As := [.int (nI k)]) Z (j_get G l H _ pl ps hX.2.2.2.2.1 k q9 hkb (by omega) hq9) gw_X1_38 Z.K.2.2.1.2.2 gd_L_get hOp rfl hl.1 (Nat.le_of_ble_eq_true rfl) rfl dX1_countWays_28 ⟨⟨Nat.le_of_ble_eq_true rfl, Nat.le_of_ble_eq_true rfl⟩, Nat.le_of_ble_eq_true rfl, Nat.le_of_ble_eq_true rfl⟩ hL (fun locs hL => ?_)
        refine z_castS Z (ci := 2) rfl q388 hpO9 dX1_countWays_33 ?_
        refine lv_iload_n Z.hx Z.hb dX1_countWays_36 rfl (lv_at hl 3 rfl) ?_
        refine lv_iload_n Z.hx Z.hb dX1_countWays_37 rfl (lv_at hl 4 rfl) ?_
        refine lv_iload_n Z.hx Z.hb dX1_countWays_38 rfl (lv_at hl 5 rfl) ?_
        refine lv_iload Z.hx Z.hb dX1_countWays_39 (lv_at hl 6 rfl) ?_
        -- LinkResolver$Package.covers
        refine z_pcallV (rest := [.int (nI (zCnt (fun p => sWay σ p j y g d) k))]) (As := [.int (nI j), .int y, .int g, .int d]) Z (p_cov G l H R σ n k q9 hp9 hn29 j hj20 y g d) gw_X1_120 gd_X1_120 rfl hpO9 rfl hl.1 (Nat.le_of_ble_eq_true rfl) rfl dX1_countWays_41 ⟨⟨Nat.le_of_ble_eq_true rfl, Nat.le_of_ble_eq_true rfl⟩, Nat.le_of_ble_eq_true rfl, Nat.le_of_ble_eq_true rfl⟩ hL (fun locs hL => ?_)
        refine lv_if_eq (tgt := 51) Z.hx Z.hb dX1_countWays_44 (by decide) (fun c44 => ?_) (fun c44 => ?_)
        · skip
          have c44 : (sWay σ k j y g d) = false := zb_0.mp c44
          refine lv_iconst (v := 0) Z.hx Z.hb dX1_countWays_51 (by decide) ?_
          refine lv_iadd Z.hx Z.hb dX1_countWays_52 ?_
          refine lv_istore (lv' := [(5, .int ((nI (zCnt (fun p => sWay σ p j y g d) k)) + 0)), (6, .int (nI k)), (0, .ref o), (1, .int (nI j)), (2, .int y), (3, .int g), (4, .int d)]) Z.hx Z.hb dX1_countWays_53 hl (by decide) rfl (fun ls hl => ?_)
          refine lv_iinc (v := (nI k) + 1) (lv' := [(6, .int ((nI k) + 1)), (5, .int ((nI (zCnt (fun p => sWay σ p j y g d) k)) + 0)), (0, .ref o), (1, .int (nI j)), (2, .int y), (3, .int g), (4, .int d)]) Z.hx Z.hb dX1_countWays_55 hl (k := 1) rfl rfl (by decide) rfl (fun ls hl => ?_)
          refine lv_goto (tgt := 6) Z.hx Z.hb dX1_countWays_58 (by decide) ?_
          exact ihk (k + 1) (by omega) _ hL ls (lv_sub (z_loc (l' := [(6, .int (nI (k + 1))), (5, .int (nI (zCnt (fun p => sWay σ p j y g d) (k + 1)))), (0, .ref o), (1, .int (nI j)), (2, .int y), (3, .int g), (4, .int d)]) hl (by rw [zCnt_f (w := (fun p => sWay σ p j y g d)) c44, nI_succ])) [0, 1, 2, 3, 4, 5, 6] rfl)
        · skip
          have c44 : (sWay σ k j y g d) = true := zb_n.mp c44
          refine lv_iconst (v := 1) Z.hx Z.hb dX1_countWays_47 (by decide) ?_
          refine lv_goto (tgt := 52) Z.hx Z.hb dX1_countWays_48 (by decide) ?_
          refine lv_iadd Z.hx Z.hb dX1_countWays_52 ?_
          refine lv_istore (lv' := [(5, .int ((nI (zCnt (fun p => sWay σ p j y g d) k)) + 1)), (6, .int (nI k)), (0, .ref o), (1, .int (nI j)), (2, .int y), (3, .int g), (4, .int d)]) Z.hx Z.hb dX1_countWays_53 hl (by decide) rfl (fun ls hl => ?_)
          refine lv_iinc (v := (nI k) + 1) (lv' := [(6, .int ((nI k) + 1)), (5, .int ((nI (zCnt (fun p => sWay σ p j y g d) k)) + 1)), (0, .ref o), (1, .int (nI j)), (2, .int y), (3, .int g), (4, .int d)]) Z.hx Z.hb dX1_countWays_55 hl (k := 1) rfl rfl (by decide) rfl (fun ls hl => ?_)
          refine lv_goto (tgt := 6) Z.hx Z.hb dX1_countWays_58 (by decide) ?_
          exact ihk (k + 1) (by omega) _ hL ls (lv_sub (z_loc (l' := [(6, .int (nI (k + 1))), (5, .int (nI (zCnt (fun p => sWay σ p j y g d) (k + 1)))), (0, .ref o), (1, .int (nI j)), (2, .int y), (3, .int g), (4, .int d)]) hl (by rw [zCnt_t (w := (fun p => sWay σ p j y g d)) c44, nI_succ])) [0, 1, 2, 3, 4, 5, 6] rfl)
  refine lv_iconst (v := 0) Z.hx Z.hb dX1_countWays_0 (by decide) ?_
  refine lv_istore (lv' := [(5, .int 0), (0, .ref o), (1, .int (nI j)), (2, .int y), (3, .int g), (4, .int d)]) Z.hx Z.hb dX1_countWays_1 hl (by decide) rfl (fun ls hl => ?_)
  refine lv_iconst (v := 0) Z.hx Z.hb dX1_countWays_3 (by decide) ?_
  refine lv_istore (lv' := [(6, .int 0), (5, .int 0), (0, .ref o), (1, .int (nI j)), (2, .int y), (3, .int g), (4, .int d)]) Z.hx Z.hb dX1_countWays_4 hl (by decide) rfl (fun ls hl => ?_)
  exact loop ps.length 0 (by omega) _ hL ls (lv_sub (z_loc (l' := [(6, .int (nI 0)), (5, .int (nI (zCnt (fun p => sWay σ p j y g d) 0))), (0, .ref o), (1, .int (nI j)), (2, .int y), (3, .int g), (4, .int d)]) hl (by rfl)) [0, 1, 2, 3, 4, 5, 6] rfl)
set_option maxHeartbeats 4000000 in
set_option maxRecDepth 100000 in
theorem x_ways (G : zG) (l : Launch) (hl0 : l.stackTraces = false) (H : Heap) (R : xRo) (σ : zS) (n o tl pl : Nat) (ts ps : List Nat) (hX : xOp G H R σ n o tl pl ts ps) (hn29 : n < 2 ^ 29) (hW : sWf σ) (t y g d : Int32) : zXp G l yX1_ways cX1_ways 5 (Option.some Jvm.ClassFile.FieldType.int) 9 8 48 [.ref o, .int t, .int y, .int g, .int d] H (.int (nI (sCnt σ t.toNatClampNeg y g d))) (kWays σ t y g d = 0) (xE RJ12 RJ6 (kWays σ t y g d)) := by
  obtain ⟨mt9, dt9, hOt⟩ := hX.tO
  obtain ⟨mp9, dp9, hOp⟩ := hX.pO
  have hO := hX.ob
  have htl : ts.length = sN σ := hX.2.2.2.1.2.1
  have hpl : ps.length = sP σ := hX.2.2.2.2.2.1
  have hN20 : sN σ ≤ 20 := hW.2.1
  have hP10 : sP σ ≤ 10 := hW.2.2.1
  refine zX.of (by decide +kernel) (Nat.le_of_ble_eq_true rfl) ?_
  intro p0 e0 s0 m0 args0 below0 meth0 c0 Z hr hxt hH ls hl
  have Z : zC G p0 s0 m0 args0 meth0 c0 RX1 cX1_ways 5 := Z
  have hl : lv_has ls 5 [(0, .ref o), (1, .int t), (2, .int y), (3, .int g), (4, .int d)] := hl
  have hL : zL G [] := zL.nil
  rcases hc9 : mIs t (nI (sN σ)) with _ | _
  · skip
    refine lv_aload_n Z.hx Z.hb dX1_ways_0 rfl (lv_at hl 0 rfl) ?_
    refine lv_iload_n Z.hx Z.hb dX1_ways_1 rfl (lv_at hl 1 rfl) ?_
    -- LinkResolver.title
    refine z_xpcallV (rest := []) (As := [.int t]) Z (x_title_no G l hl0 H R σ n o tl pl ts ps hX hn29 hW t hc9) gw_X1_50 gd_X1_50 rfl hO rfl hl.1 (Nat.le_of_ble_eq_true rfl) rfl dX1_ways_2 ⟨⟨Nat.le_of_ble_eq_true rfl, Nat.le_of_ble_eq_true rfl⟩, Nat.le_of_ble_eq_true rfl, Nat.le_of_ble_eq_true rfl⟩ hL (fun E_ ce_ q_ H_ locs hL hk_ hx_ h1_ h2_ h3_ => z_out Z hxt hL ⟨hk_, Or.inl ⟨hx_, by simp [kWays, kIf, hc9]⟩⟩ h1_ h2_ h3_ (Nat.le_of_ble_eq_true rfl) (Nat.le_of_ble_eq_true rfl)) (fun locs hL c2 => ?_)
    exact c2.elim
  · obtain ⟨j, hj, rfl⟩ := mIs_nI (by omega) hc9
    have hjc : (nI j).toNatClampNeg = j := nI_clamp (by omega)
    obtain ⟨y9, hy9⟩ := hX.ty hj
    have hTy := hX.2.2.2.1.2.2 j y9 hy9
    have hj20 : j < 20 := by omega
    refine lv_aload_n Z.hx Z.hb dX1_ways_0 rfl (lv_at hl 0 rfl) ?_
    refine lv_iload_n Z.hx Z.hb dX1_ways_1 rfl (lv_at hl 1 rfl) ?_
    -- LinkResolver.title
    refine z_xpcallV (rest := []) (As := [.int (nI j)]) Z (x_title G l hl0 H R σ n o tl pl ts ps hX hn29 hW j y9 hy9) gw_X1_50 gd_X1_50 rfl hO rfl hl.1 (Nat.le_of_ble_eq_true rfl) rfl dX1_ways_2 ⟨⟨Nat.le_of_ble_eq_true rfl, Nat.le_of_ble_eq_true rfl⟩, Nat.le_of_ble_eq_true rfl, Nat.le_of_ble_eq_true rfl⟩ hL (fun E_ ce_ q_ H_ locs hL hk_ hx_ h1_ h2_ h3_ => hx_.elim) (fun locs hL c2 => ?_)
    refine lv_pop Z.hx Z.hb dX1_ways_5 rfl ?_
    refine lv_aload_n Z.hx Z.hb dX1_ways_6 rfl (lv_at hl 0 rfl) ?_
    refine lv_iload_n Z.hx Z.hb dX1_ways_7 rfl (lv_at hl 2 rfl) ?_
    refine lv_iload_n Z.hx Z.hb dX1_ways_8 rfl (lv_at hl 3 rfl) ?_
    refine lv_iload Z.hx Z.hb dX1_ways_9 (lv_at hl 4 rfl) ?_
    -- LinkResolver.checkArticle
    refine z_xpcallV0 (rest := []) (As := [.int y, .int g, .int d]) Z (x_art G l hl0 H R σ n o tl pl ts ps hX hn29 hW y g d) gw_X1_117 gd_X1_117 rfl hO rfl hl.1 (Nat.le_of_ble_eq_true rfl) rfl dX1_ways_11 ⟨⟨Nat.le_of_ble_eq_true rfl, Nat.le_of_ble_eq_true rfl⟩, Nat.le_of_ble_eq_true rfl, Nat.le_of_ble_eq_true rfl⟩ hL (fun E_ ce_ q_ H_ locs hL hk_ hx_ h1_ h2_ h3_ => z_out Z hxt hL ⟨hk_, Or.inr ⟨hx_.1, by simp [kWays, kIf, kPT, hc9, hjc, hx_.2]⟩⟩ h1_ h2_ h3_ (Nat.le_of_ble_eq_true rfl) (Nat.le_of_ble_eq_true rfl)) (fun locs hL c11 => ?_)
    refine lv_aload_n Z.hx Z.hb dX1_ways_14 rfl (lv_at hl 0 rfl) ?_
    refine lv_iload_n Z.hx Z.hb dX1_ways_15 rfl (lv_at hl 1 rfl) ?_
    refine lv_iload_n Z.hx Z.hb dX1_ways_16 rfl (lv_at hl 2 rfl) ?_
    refine lv_iload_n Z.hx Z.hb dX1_ways_17 rfl (lv_at hl 3 rfl) ?_
    refine lv_iload Z.hx Z.hb dX1_ways_18 (lv_at hl 4 rfl) ?_
    -- LinkResolver.countWays
    refine z_pcallV (rest := []) (As := [.int (nI j), .int y, .int g, .int d]) Z (x_cnt G l H R σ n o tl pl ts ps hX hn29 hW j hj20 y g d) gw_X1_124 gd_X1_124 rfl hO rfl hl.1 (Nat.le_of_ble_eq_true rfl) rfl dX1_ways_20 ⟨⟨Nat.le_of_ble_eq_true rfl, Nat.le_of_ble_eq_true rfl⟩, Nat.le_of_ble_eq_true rfl, Nat.le_of_ble_eq_true rfl⟩ hL (fun locs hL => ?_)
    exact zx_iret Z hr hL (⟨by rw [hjc], rfl, by simp [kWays, kIf, kPT, hc9, hjc, c11]⟩) (Nat.le_of_ble_eq_true rfl) (Nat.le_of_ble_eq_true rfl) dX1_ways_23
set_option maxHeartbeats 4000000 in
set_option maxRecDepth 100000 in
theorem x_rank (G : zG) (l : Launch) (H : Heap) (R : xRo) (σ : zS) (n o tl pl : Nat) (ts ps : List Nat) (hX : xOp G H R σ n o tl pl ts ps) (hn29 : n < 2 ^ 29) (hW : sWf σ) (j : Nat) (hj20 : j < 20) (i pi : Nat) (hi : ps[i]? = some pi) (y g d : Int32) : zMp G l yX1_waysAhead cX1_waysAhead 9 (Option.some Jvm.ClassFile.FieldType.int) 7 [.ref o, .ref pi, .int (nI j), .int y, .int g, .int d] H (.int (nI (sRank σ i j y g d))) := by
  obtain ⟨mt9, dt9, hOt⟩ := hX.tO
  obtain ⟨mp9, dp9, hOp⟩ := hX.pO
  have hO := hX.ob
  have htl : ts.length = sN σ := hX.2.2.2.1.2.1
  have hpl : ps.length = sP σ := hX.2.2.2.2.2.1
  have hN20 : sN σ ≤ 20 := hW.2.1
  have hP10 : sP σ ≤ 10 := hW.2.2.1
  have hil : i < ps.length := (List.getElem?_eq_some_iff.mp hi).1
  refine zM.of (by decide +kernel) (Nat.le_of_ble_eq_true rfl) ?_
  intro p0 e0 s0 m0 args0 below0 meth0 c0 Z hr hH hn0 ls hl
  have Z : zC G p0 s0 m0 args0 meth0 c0 RX1 cX1_waysAhead 9 := Z
  have hl : lv_has ls 9 [(0, .ref o), (1, .ref pi), (2, .int (nI j)), (3, .int y), (4, .int g), (5, .int d)] := hl
  have hL : zL G [] := zL.nil
  have hpi := hX.2.2.2.2.2.2 i pi hi
  have loop : ∀ n8 k : Nat, k + n8 = ps.length → ∀ (locs : List Loc), zL G locs → ∀ ls : Array Slot, lv_has ls 9 [(7, .int (nI k)), (6, .int (nI (zCnt (fun q => !decide (nI q = nI i) && sAh σ q i j && sWay σ q j y g d) k))), (0, .ref o), (1, .ref pi), (2, .int (nI j)), (3, .int y), (4, .int g), (5, .int d)] → W p0 l e0 (zr 7 0 0) s0 m0 args0 below0 meth0 c0 H locs 0 0 (MQ below0 (zQ (fun r H1 => r = some (.int (nI (sRank σ i j y g d))) ∧ H1 = H)) args0 s0 0 0 (zA G)) (F0 m0 6 ls []) := by
    intro n8
    induction n8 with
    | zero =>
      intro k hkn locs hL ls hl
      have hke : k = ps.length := hkn
      subst hke
      refine lv_iload Z.hx Z.hb dX1_waysAhead_6 (lv_at hl 0 rfl) ?_
      refine lv_aload_n Z.hx Z.hb dX1_waysAhead_8 rfl (lv_at hl 2 rfl) ?_
      refine gf_X1_16 Z hO (v := .ref pl) rfl dX1_waysAhead_9 ?_
      -- java/util/List.size
      refine z_pcallF (rest := [.int (nI ps.length)]) (As := []) Z (j_size G l H _ pl ps hX.2.2.2.2.1) gw_X1_28 Z.K.2.2.1.1 gd_L_size hOp rfl hl.1 (Nat.le_of_ble_eq_true rfl) rfl dX1_waysAhead_12 ⟨⟨Nat.le_of_ble_eq_true rfl, Nat.le_of_ble_eq_true rfl⟩, Nat.le_of_ble_eq_true rfl, Nat.le_of_ble_eq_true rfl⟩ hL (fun locs hL => ?_)
      refine lv_icmp_ge (tgt := 82) Z.hx Z.hb dX1_waysAhead_17 (by decide) (fun c17 => ?_) (fun c17 => ?_)
      · skip
        refine lv_iload Z.hx Z.hb dX1_waysAhead_82 (lv_at hl 1 rfl) ?_
        exact z_iret Z hr hL (⟨by rw [hpl]; rfl, rfl⟩) (Nat.le_of_ble_eq_true rfl) (Nat.le_of_ble_eq_true rfl) dX1_waysAhead_84
      · exact absurd (Int32.le_refl _) c17
    | succ n8 ihk =>
      intro k hkn locs hL ls hl
      have hkb : k < ps.length := by omega
      refine lv_iload Z.hx Z.hb dX1_waysAhead_6 (lv_at hl 0 rfl) ?_
      refine lv_aload_n Z.hx Z.hb dX1_waysAhead_8 rfl (lv_at hl 2 rfl) ?_
      refine gf_X1_16 Z hO (v := .ref pl) rfl dX1_waysAhead_9 ?_
      -- java/util/List.size
      refine z_pcallF (rest := [.int (nI k)]) (As := []) Z (j_size G l H _ pl ps hX.2.2.2.2.1) gw_X1_28 Z.K.2.2.1.1 gd_L_size hOp rfl hl.1 (Nat.le_of_ble_eq_true rfl) rfl dX1_waysAhead_12 ⟨⟨Nat.le_of_ble_eq_true rfl, Nat.le_of_ble_eq_true rfl⟩, Nat.le_of_ble_eq_true rfl, Nat.le_of_ble_eq_true rfl⟩ hL (fun locs hL => ?_)
      refine lv_icmp_ge (tgt := 82) Z.hx Z.hb dX1_waysAhead_17 (by decide) (fun c17 => ?_) (fun c17 => ?_)
      · exact absurd c17 (nI_ge hkb (by omega))
      · skip
        refine lv_aload_n Z.hx Z.hb dX1_waysAhead_20 rfl (lv_at hl 2 rfl) ?_
        refine gf_X1_16 Z hO (v := .ref pl) rfl dX1_waysAhead_21 ?_
        refine lv_iload Z.hx Z.hb dX1_waysAhead_24 (lv_at hl 0 rfl) ?_
        obtain ⟨q9, hq9⟩ : ∃ y, ps[k]? = some y := ⟨_, List.getElem?_eq_getElem hkb⟩
        have hp9 := hX.2.2.2.2.2.2 k q9 hq9
        have hp8 := hp9
        obtain ⟨sl9, hl9, br9, hRp9, hpO9, hSb9, hHs9, hBk9⟩ := hp8
        -- java/util/List.get
        refine z_pcallF (rest := []) (As := [.int (nI k)]) Z (j_get G l H _ pl ps hX.2.2.2.2.1 k q9 hkb (by omega) hq9) gw_X1_38 Z.K.2.2.1.2.2 gd_L_get hOp rfl hl.1 (Nat.le_of_ble_eq_true rfl) rfl dX1_waysAhead_26 ⟨⟨Nat.le_of_ble_eq_true rfl, Nat.le_of_ble_eq_true rfl⟩, Nat.le_of_ble_eq_true rfl, Nat.le_of_ble_eq_true rfl⟩ hL (fun locs hL => ?_)
        refine z_castS Z (ci := 2) rfl q388 hpO9 dX1_waysAhead_31 ?_
        refine lv_astore (lv' := [(8, .ref q9), (7, .int (nI k)), (6, .int (nI (zCnt (fun q => !decide (nI q = nI i) && sAh σ q i j && sWay σ q j y g d) k))), (0, .ref o), (1, .ref pi), (2, .int (nI j)), (3, .int y), (4, .int g), (5, .int d)]) Z.hx Z.hb dX1_waysAhead_34 hl (by decide) rfl (fun ls hl => ?_)
        refine lv_iload Z.hx Z.hb dX1_waysAhead_36 (lv_at hl 2 rfl) ?_
        refine lv_aload Z.hx Z.hb dX1_waysAhead_38 (lv_at hl 0 rfl) ?_
        refine lv_aload_n Z.hx Z.hb dX1_waysAhead_40 rfl (lv_at hl 4 rfl) ?_
        refine lv_acmp_eq (rx := some q9) (ry := some pi) (tgt := 72) Z.hx Z.hb dX1_waysAhead_41 (by decide) (fun c41 => ?_) (fun c41 => ?_)
        · skip
          refine lv_iconst (v := 0) Z.hx Z.hb dX1_waysAhead_72 (by decide) ?_
          refine lv_iadd Z.hx Z.hb dX1_waysAhead_73 ?_
          refine lv_istore (lv' := [(6, .int ((nI (zCnt (fun q => !decide (nI q = nI i) && sAh σ q i j && sWay σ q j y g d) k)) + 0)), (8, .ref q9), (7, .int (nI k)), (0, .ref o), (1, .ref pi), (2, .int (nI j)), (3, .int y), (4, .int g), (5, .int d)]) Z.hx Z.hb dX1_waysAhead_74 hl (by decide) rfl (fun ls hl => ?_)
          refine lv_iinc (v := (nI k) + 1) (lv' := [(7, .int ((nI k) + 1)), (6, .int ((nI (zCnt (fun q => !decide (nI q = nI i) && sAh σ q i j && sWay σ q j y g d) k)) + 0)), (8, .ref q9), (0, .ref o), (1, .ref pi), (2, .int (nI j)), (3, .int y), (4, .int g), (5, .int d)]) Z.hx Z.hb dX1_waysAhead_76 hl (k := 2) rfl rfl (by decide) rfl (fun ls hl => ?_)
          refine lv_goto (tgt := 6) Z.hx Z.hb dX1_waysAhead_79 (by decide) ?_
          have hz9 : (fun q => !decide (nI q = nI i) && sAh σ q i j && sWay σ q j y g d) k = false := by
            show (!decide (nI k = nI i) && sAh σ k i j && sWay σ k j y g d) = false
            rw [hX.uq hP10 hq9 (hi.trans c41.symm), decide_eq_true rfl]; rfl
          exact ihk (k + 1) (by omega) _ hL ls (lv_sub (z_loc (l' := [(7, .int (nI (k + 1))), (6, .int (nI (zCnt (fun q => !decide (nI q = nI i) && sAh σ q i j && sWay σ q j y g d) (k + 1)))), (8, .ref q9), (0, .ref o), (1, .ref pi), (2, .int (nI j)), (3, .int y), (4, .int g), (5, .int d)]) hl (by rw [zCnt_f (w := (fun q => !decide (nI q = nI i) && sAh σ q i j && sWay σ q j y g d)) hz9, nI_succ])) [0, 1, 3, 4, 5, 6, 7, 8] rfl)
        · skip
          refine lv_aload Z.hx Z.hb dX1_waysAhead_44 (lv_at hl 0 rfl) ?_
          refine lv_iload_n Z.hx Z.hb dX1_waysAhead_46 rfl (lv_at hl 5 rfl) ?_
          refine lv_iload_n Z.hx Z.hb dX1_waysAhead_47 rfl (lv_at hl 6 rfl) ?_
          refine lv_iload Z.hx Z.hb dX1_waysAhead_48 (lv_at hl 7 rfl) ?_
          refine lv_iload Z.hx Z.hb dX1_waysAhead_50 (lv_at hl 8 rfl) ?_
          -- LinkResolver$Package.covers
          refine z_pcallV (rest := [.int (nI (zCnt (fun q => !decide (nI q = nI i) && sAh σ q i j && sWay σ q j y g d) k))]) (As := [.int (nI j), .int y, .int g, .int d]) Z (p_cov G l H R σ n k q9 hp9 hn29 j hj20 y g d) gw_X1_120 gd_X1_120 rfl hpO9 rfl hl.1 (Nat.le_of_ble_eq_true rfl) rfl dX1_waysAhead_52 ⟨⟨Nat.le_of_ble_eq_true rfl, Nat.le_of_ble_eq_true rfl⟩, Nat.le_of_ble_eq_true rfl, Nat.le_of_ble_eq_true rfl⟩ hL (fun locs hL => ?_)
          refine lv_if_eq (tgt := 72) Z.hx Z.hb dX1_waysAhead_55 (by decide) (fun c52 => ?_) (fun c52 => ?_)
          · skip
            have c52 : (sWay σ k j y g d) = false := zb_0.mp c52
            refine lv_iconst (v := 0) Z.hx Z.hb dX1_waysAhead_72 (by decide) ?_
            refine lv_iadd Z.hx Z.hb dX1_waysAhead_73 ?_
            refine lv_istore (lv' := [(6, .int ((nI (zCnt (fun q => !decide (nI q = nI i) && sAh σ q i j && sWay σ q j y g d) k)) + 0)), (8, .ref q9), (7, .int (nI k)), (0, .ref o), (1, .ref pi), (2, .int (nI j)), (3, .int y), (4, .int g), (5, .int d)]) Z.hx Z.hb dX1_waysAhead_74 hl (by decide) rfl (fun ls hl => ?_)
            refine lv_iinc (v := (nI k) + 1) (lv' := [(7, .int ((nI k) + 1)), (6, .int ((nI (zCnt (fun q => !decide (nI q = nI i) && sAh σ q i j && sWay σ q j y g d) k)) + 0)), (8, .ref q9), (0, .ref o), (1, .ref pi), (2, .int (nI j)), (3, .int y), (4, .int g), (5, .int d)]) Z.hx Z.hb dX1_waysAhead_76 hl (k := 2) rfl rfl (by decide) rfl (fun ls hl => ?_)
            refine lv_goto (tgt := 6) Z.hx Z.hb dX1_waysAhead_79 (by decide) ?_
            have hz9 : (fun q => !decide (nI q = nI i) && sAh σ q i j && sWay σ q j y g d) k = false := by
              show (!decide (nI k = nI i) && sAh σ k i j && sWay σ k j y g d) = false
              have hne9 : ¬ nI k = nI i := fun z => c41 (by have z2 := (nI_eq (by omega) (by omega)).mp z; subst z2; exact hq9.symm.trans hi)
              rw [c52, Bool.and_false]
            exact ihk (k + 1) (by omega) _ hL ls (lv_sub (z_loc (l' := [(7, .int (nI (k + 1))), (6, .int (nI (zCnt (fun q => !decide (nI q = nI i) && sAh σ q i j && sWay σ q j y g d) (k + 1)))), (8, .ref q9), (0, .ref o), (1, .ref pi), (2, .int (nI j)), (3, .int y), (4, .int g), (5, .int d)]) hl (by rw [zCnt_f (w := (fun q => !decide (nI q = nI i) && sAh σ q i j && sWay σ q j y g d)) hz9, nI_succ])) [0, 1, 3, 4, 5, 6, 7, 8] rfl)
          · skip
            have c52 : (sWay σ k j y g d) = true := zb_n.mp c52
            refine lv_aload Z.hx Z.hb dX1_waysAhead_58 (lv_at hl 0 rfl) ?_
            refine lv_aload_n Z.hx Z.hb dX1_waysAhead_60 rfl (lv_at hl 4 rfl) ?_
            refine lv_iload_n Z.hx Z.hb dX1_waysAhead_61 rfl (lv_at hl 5 rfl) ?_
            -- LinkResolver$Package.isWayAheadOf
            refine z_pcallV (rest := [.int (nI (zCnt (fun q => !decide (nI q = nI i) && sAh σ q i j && sWay σ q j y g d) k))]) (As := [.ref pi, .int (nI j)]) Z (p_ahead G l H R σ n k q9 hp9 hn29 i pi hpi j hj20) gw_X1_128 gd_X1_128 rfl hpO9 rfl hl.1 (Nat.le_of_ble_eq_true rfl) rfl dX1_waysAhead_62 ⟨⟨Nat.le_of_ble_eq_true rfl, Nat.le_of_ble_eq_true rfl⟩, Nat.le_of_ble_eq_true rfl, Nat.le_of_ble_eq_true rfl⟩ hL (fun locs hL => ?_)
            refine lv_if_eq (tgt := 72) Z.hx Z.hb dX1_waysAhead_65 (by decide) (fun c62 => ?_) (fun c62 => ?_)
            · skip
              have c62 : (sAh σ k i j) = false := zb_0.mp c62
              refine lv_iconst (v := 0) Z.hx Z.hb dX1_waysAhead_72 (by decide) ?_
              refine lv_iadd Z.hx Z.hb dX1_waysAhead_73 ?_
              refine lv_istore (lv' := [(6, .int ((nI (zCnt (fun q => !decide (nI q = nI i) && sAh σ q i j && sWay σ q j y g d) k)) + 0)), (8, .ref q9), (7, .int (nI k)), (0, .ref o), (1, .ref pi), (2, .int (nI j)), (3, .int y), (4, .int g), (5, .int d)]) Z.hx Z.hb dX1_waysAhead_74 hl (by decide) rfl (fun ls hl => ?_)
              refine lv_iinc (v := (nI k) + 1) (lv' := [(7, .int ((nI k) + 1)), (6, .int ((nI (zCnt (fun q => !decide (nI q = nI i) && sAh σ q i j && sWay σ q j y g d) k)) + 0)), (8, .ref q9), (0, .ref o), (1, .ref pi), (2, .int (nI j)), (3, .int y), (4, .int g), (5, .int d)]) Z.hx Z.hb dX1_waysAhead_76 hl (k := 2) rfl rfl (by decide) rfl (fun ls hl => ?_)
              refine lv_goto (tgt := 6) Z.hx Z.hb dX1_waysAhead_79 (by decide) ?_
              have hz9 : (fun q => !decide (nI q = nI i) && sAh σ q i j && sWay σ q j y g d) k = false := by
                show (!decide (nI k = nI i) && sAh σ k i j && sWay σ k j y g d) = false
                have hne9 : ¬ nI k = nI i := fun z => c41 (by have z2 := (nI_eq (by omega) (by omega)).mp z; subst z2; exact hq9.symm.trans hi)
                rw [c52, c62, decide_eq_false hne9]; rfl
              exact ihk (k + 1) (by omega) _ hL ls (lv_sub (z_loc (l' := [(7, .int (nI (k + 1))), (6, .int (nI (zCnt (fun q => !decide (nI q = nI i) && sAh σ q i j && sWay σ q j y g d) (k + 1)))), (8, .ref q9), (0, .ref o), (1, .ref pi), (2, .int (nI j)), (3, .int y), (4, .int g), (5, .int d)]) hl (by rw [zCnt_f (w := (fun q => !decide (nI q = nI i) && sAh σ q i j && sWay σ q j y g d)) hz9, nI_succ])) [0, 1, 3, 4, 5, 6, 7, 8] rfl)
            · skip
              have c62 : (sAh σ k i j) = true := zb_n.mp c62
              refine lv_iconst (v := 1) Z.hx Z.hb dX1_waysAhead_68 (by decide) ?_
              refine lv_goto (tgt := 73) Z.hx Z.hb dX1_waysAhead_69 (by decide) ?_
              refine lv_iadd Z.hx Z.hb dX1_waysAhead_73 ?_
              refine lv_istore (lv' := [(6, .int ((nI (zCnt (fun q => !decide (nI q = nI i) && sAh σ q i j && sWay σ q j y g d) k)) + 1)), (8, .ref q9), (7, .int (nI k)), (0, .ref o), (1, .ref pi), (2, .int (nI j)), (3, .int y), (4, .int g), (5, .int d)]) Z.hx Z.hb dX1_waysAhead_74 hl (by decide) rfl (fun ls hl => ?_)
              refine lv_iinc (v := (nI k) + 1) (lv' := [(7, .int ((nI k) + 1)), (6, .int ((nI (zCnt (fun q => !decide (nI q = nI i) && sAh σ q i j && sWay σ q j y g d) k)) + 1)), (8, .ref q9), (0, .ref o), (1, .ref pi), (2, .int (nI j)), (3, .int y), (4, .int g), (5, .int d)]) Z.hx Z.hb dX1_waysAhead_76 hl (k := 2) rfl rfl (by decide) rfl (fun ls hl => ?_)
              refine lv_goto (tgt := 6) Z.hx Z.hb dX1_waysAhead_79 (by decide) ?_
              have hz9 : (fun q => !decide (nI q = nI i) && sAh σ q i j && sWay σ q j y g d) k = true := by
                show (!decide (nI k = nI i) && sAh σ k i j && sWay σ k j y g d) = true
                have hne9 : ¬ nI k = nI i := fun z => c41 (by have z2 := (nI_eq (by omega) (by omega)).mp z; subst z2; exact hq9.symm.trans hi)
                rw [c52, c62, decide_eq_false hne9]; rfl
              exact ihk (k + 1) (by omega) _ hL ls (lv_sub (z_loc (l' := [(7, .int (nI (k + 1))), (6, .int (nI (zCnt (fun q => !decide (nI q = nI i) && sAh σ q i j && sWay σ q j y g d) (k + 1)))), (8, .ref q9), (0, .ref o), (1, .ref pi), (2, .int (nI j)), (3, .int y), (4, .int g), (5, .int d)]) hl (by rw [zCnt_t (w := (fun q => !decide (nI q = nI i) && sAh σ q i j && sWay σ q j y g d)) hz9, nI_succ])) [0, 1, 3, 4, 5, 6, 7, 8] rfl)
  refine lv_iconst (v := 0) Z.hx Z.hb dX1_waysAhead_0 (by decide) ?_
  refine lv_istore (lv' := [(6, .int 0), (0, .ref o), (1, .ref pi), (2, .int (nI j)), (3, .int y), (4, .int g), (5, .int d)]) Z.hx Z.hb dX1_waysAhead_1 hl (by decide) rfl (fun ls hl => ?_)
  refine lv_iconst (v := 0) Z.hx Z.hb dX1_waysAhead_3 (by decide) ?_
  refine lv_istore (lv' := [(7, .int 0), (6, .int 0), (0, .ref o), (1, .ref pi), (2, .int (nI j)), (3, .int y), (4, .int g), (5, .int d)]) Z.hx Z.hb dX1_waysAhead_4 hl (by decide) rfl (fun ls hl => ?_)
  exact loop ps.length 0 (by omega) _ hL ls (lv_sub (z_loc (l' := [(7, .int (nI 0)), (6, .int (nI (zCnt (fun q => !decide (nI q = nI i) && sAh σ q i j && sWay σ q j y g d) 0))), (0, .ref o), (1, .ref pi), (2, .int (nI j)), (3, .int y), (4, .int g), (5, .int d)]) hl (by rfl)) [0, 1, 2, 3, 4, 5, 6, 7] rfl)
set_option maxHeartbeats 4000000 in
set_option maxRecDepth 100000 in
theorem x_year (G : zG) (l : Launch) (H : Heap) (R : xRo) (σ : zS) (n o tl pl : Nat) (ts ps : List Nat) (hX : xOp G H R σ n o tl pl ts ps) (hn29 : n < 2 ^ 29) (hW : sWf σ) : zMp G l yX1_thisYear cX1_thisYear 1 (Option.some Jvm.ClassFile.FieldType.int) 1 [.ref o] H (.int (nI (sY σ))) := by
  obtain ⟨mt9, dt9, hOt⟩ := hX.tO
  obtain ⟨mp9, dp9, hOp⟩ := hX.pO
  have hO := hX.ob
  have htl : ts.length = sN σ := hX.2.2.2.1.2.1
  have hpl : ps.length = sP σ := hX.2.2.2.2.2.1
  have hN20 : sN σ ≤ 20 := hW.2.1
  have hP10 : sP σ ≤ 10 := hW.2.2.1
  refine zM.of (by decide +kernel) (Nat.le_of_ble_eq_true rfl) ?_
  intro p0 e0 s0 m0 args0 below0 meth0 c0 Z hr hH hn0 ls hl
  have Z : zC G p0 s0 m0 args0 meth0 c0 RX1 cX1_thisYear 1 := Z
  have hl : lv_has ls 1 [(0, .ref o)] := hl
  have hL : zL G [] := zL.nil
  refine lv_aload_n Z.hx Z.hb dX1_thisYear_0 rfl (lv_at hl 0 rfl) ?_
  refine gf_X1_62 Z hO (v := .int (sT σ)) rfl dX1_thisYear_1 ?_
  refine lv_sipush (v := 360) Z.hx Z.hb dX1_thisYear_4 (by decide) ?_
  refine lv_idiv Z.hx Z.hb dX1_thisYear_7 (by decide) ?_
  refine lv_bipush (v := 55) Z.hx Z.hb dX1_thisYear_8 (by decide) ?_
  refine va_mmin Z.hx Z.hb (Z.hml.trans hl.1.symm) Z.hown (Z.hts _ q638) (Z.hts _ q278) (Z.hts _ q42) (Z.hts _ q279) (Nat.le_of_ble_eq_true rfl) (Nat.le_of_ble_eq_true rfl) (Nat.le_of_ble_eq_true rfl) (Nat.le_of_ble_eq_true rfl) dX1_thisYear_10 ?_
  refine z_top (x' := nI (sY σ)) (by rw [hW.y.2]; exact if_neg (nI_nlt hW.y.1 (by omega))) ?_
  exact z_iret Z hr hL (⟨rfl, rfl⟩) (Nat.le_of_ble_eq_true rfl) (Nat.le_of_ble_eq_true rfl) dX1_thisYear_13
