/-! the component: gaps, doubles, what a package alone gives -/
theorem zb_a1 {a : Bool} : zb a &&& 1 = zb a := by cases a <;> decide
theorem zb_a0 {a : Bool} : zb a &&& 0 = 0 := by cases a <;> decide
set_option maxHeartbeats 4000000 in
set_option maxRecDepth 100000 in
theorem x_gap (G : zG) (l : Launch) (hl0 : l.stackTraces = false) (H : Heap) (R : xRo) (σ : zS) (n o tl pl : Nat) (ts ps : List Nat) (hX : xOp G H R σ n o tl pl ts ps) (hn29 : n < 2 ^ 29) (hW : sWf σ) (t g : Int32) : zXp G l yX1_gap cX1_gap 5 (Option.some Jvm.ClassFile.FieldType.int) 9 8 48 [.ref o, .int t, .int g] H (.int (sGap σ t.toNatClampNeg g (sF σ t.toNatClampNeg) (sYrs σ t.toNatClampNeg))) (kTG σ t g = 0) (xE RJ12 RJ6 (kTG σ t g)) := by
  obtain ⟨mt9, dt9, hOt⟩ := hX.tO
  obtain ⟨mp9, dp9, hOp⟩ := hX.pO
  have hO := hX.ob
  have htl : ts.length = sN σ := hX.2.2.2.1.2.1
  have hpl : ps.length = sP σ := hX.2.2.2.2.2.1
  have hN20 : sN σ ≤ 20 := hW.2.1
  have hP10 : sP σ ≤ 10 := hW.2.2.1
  refine zX.of (by decide +kernel) (Nat.le_of_ble_eq_true rfl) ?_
  intro p0 e0 s0 m0 args0 below0 meth0 c0 Z hr hxt hH ls hl
  have Z : zC G p0 s0 m0 args0 meth0 c0 RX1 cX1_gap 5 := Z
  have hl : lv_has ls 5 [(0, .ref o), (1, .int t), (2, .int g)] := hl
  have hL : zL G [] := zL.nil
  rcases hc9 : mIs t (nI (sN σ)) with _ | _
  · skip
    refine lv_aload_n Z.hx Z.hb dX1_gap_0 rfl (lv_at hl 0 rfl) ?_
    refine lv_iload_n Z.hx Z.hb dX1_gap_1 rfl (lv_at hl 1 rfl) ?_
    -- LinkResolver.title
    refine z_xpcallV (rest := []) (As := [.int t]) Z (x_title_no G l hl0 H R σ n o tl pl ts ps hX hn29 hW t hc9) gw_X1_50 gd_X1_50 rfl hO rfl hl.1 (Nat.le_of_ble_eq_true rfl) rfl dX1_gap_2 ⟨⟨Nat.le_of_ble_eq_true rfl, Nat.le_of_ble_eq_true rfl⟩, Nat.le_of_ble_eq_true rfl, Nat.le_of_ble_eq_true rfl⟩ hL (fun E_ ce_ q_ H_ locs hL hk_ hx_ h1_ h2_ h3_ => z_out Z hxt hL ⟨hk_, Or.inl ⟨hx_, by simp [kTG, kIf, hc9]⟩⟩ h1_ h2_ h3_ (Nat.le_of_ble_eq_true rfl) (Nat.le_of_ble_eq_true rfl)) (fun locs hL c2 => ?_)
    exact c2.elim
  · obtain ⟨j, hj, rfl⟩ := mIs_nI (by omega) hc9
    have hjc : (nI j).toNatClampNeg = j := nI_clamp (by omega)
    obtain ⟨y9, hy9⟩ := hX.ty hj
    have hTy := hX.2.2.2.1.2.2 j y9 hy9
    have hj20 : j < 20 := by omega
    have hsy : sYrs σ j = sY σ + 1 - sF σ j := rfl
    obtain ⟨hF1, hF2⟩ := hW.f hj
    obtain ⟨hY1, hY2⟩ := hW.y
    refine lv_aload_n Z.hx Z.hb dX1_gap_0 rfl (lv_at hl 0 rfl) ?_
    refine lv_iload_n Z.hx Z.hb dX1_gap_1 rfl (lv_at hl 1 rfl) ?_
    -- LinkResolver.title
    refine z_xpcallV (rest := []) (As := [.int (nI j)]) Z (x_title G l hl0 H R σ n o tl pl ts ps hX hn29 hW j y9 hy9) gw_X1_50 gd_X1_50 rfl hO rfl hl.1 (Nat.le_of_ble_eq_true rfl) rfl dX1_gap_2 ⟨⟨Nat.le_of_ble_eq_true rfl, Nat.le_of_ble_eq_true rfl⟩, Nat.le_of_ble_eq_true rfl, Nat.le_of_ble_eq_true rfl⟩ hL (fun E_ ce_ q_ H_ locs hL hk_ hx_ h1_ h2_ h3_ => hx_.elim) (fun locs hL c2 => ?_)
    refine lv_astore_n (lv' := [(3, .ref y9), (0, .ref o), (1, .int (nI j)), (2, .int g)]) Z.hx Z.hb dX1_gap_5 rfl hl (by decide) rfl (fun ls hl => ?_)
    refine lv_iload_n Z.hx Z.hb dX1_gap_6 rfl (lv_at hl 3 rfl) ?_
    -- LinkResolver.checkGroup
    refine z_xpcallS0 (rest := []) (As := [.int g]) Z (x_group G l hl0 H g) gw_X1_58 gd_X1_58 rfl hl.1 (Nat.le_of_ble_eq_true rfl) rfl dX1_gap_7 ⟨⟨Nat.le_of_ble_eq_true rfl, Nat.le_of_ble_eq_true rfl⟩, Nat.le_of_ble_eq_true rfl, Nat.le_of_ble_eq_true rfl⟩ hL (fun E_ ce_ q_ H_ locs hL hk_ hx_ h1_ h2_ h3_ => z_out Z hxt hL ⟨hk_, Or.inr ⟨hx_.1, by simp [kTG, kIf, kPT, hc9, hjc, hx_.2]⟩⟩ h1_ h2_ h3_ (Nat.le_of_ble_eq_true rfl) (Nat.le_of_ble_eq_true rfl)) (fun locs hL c7 => ?_)
    refine lv_aload_n Z.hx Z.hb dX1_gap_10 rfl (lv_at hl 0 rfl) ?_
    -- LinkResolver$Title.firstYear
    refine z_pcallV (rest := []) (As := []) Z (t_first G l H y9 _ _ hTy.2) gw_X1_79 gd_X1_79 rfl hTy.2 rfl hl.1 (Nat.le_of_ble_eq_true rfl) rfl dX1_gap_11 ⟨⟨Nat.le_of_ble_eq_true rfl, Nat.le_of_ble_eq_true rfl⟩, Nat.le_of_ble_eq_true rfl, Nat.le_of_ble_eq_true rfl⟩ hL (fun locs hL => ?_)
    refine lv_istore (lv' := [(4, .int (sA σ 0 j)), (3, .ref y9), (0, .ref o), (1, .int (nI j)), (2, .int g)]) Z.hx Z.hb dX1_gap_14 hl (by decide) rfl (fun ls hl => ?_)
    have loop : ∀ n8 k : Nat, k + n8 = (sF σ j + sYrs σ j) → ∀ (locs : List Loc), zL G locs → ∀ ls : Array Slot, lv_has ls 5 [(4, .int (nI k)), (0, .ref o), (1, .int (nI j)), (2, .int g)] → sF σ j ≤ k → sGap σ j g (sF σ j) (sYrs σ j) = sGap σ j g k n8 → W p0 l e0 (zr 9 8 48) s0 m0 args0 below0 meth0 c0 H locs (0 + 1 + 1) (0 + 6 + 6) (vx_MQ below0 (zQ (fun r H1 => r = some (.int (sGap σ (nI j).toNatClampNeg g (sF σ (nI j).toNatClampNeg) (sYrs σ (nI j).toNatClampNeg))) ∧ H1 = H ∧ kTG σ (nI j) g = 0)) (zXc (fun E H1 => zKeep H H1 ∧ xE RJ12 RJ6 (kTG σ (nI j) g) E)) args0 s0 8 48 (zA G)) (F0 m0 16 ls []) := by
      intro n8
      induction n8 with
      | zero =>
        intro k hkn locs hL ls hl hk8 hg9
        have hke : k = (sF σ j + sYrs σ j) := hkn
        subst hke
        refine lv_iload Z.hx Z.hb dX1_gap_16 (lv_at hl 0 rfl) ?_
        refine lv_aload_n Z.hx Z.hb dX1_gap_18 rfl (lv_at hl 1 rfl) ?_
        -- LinkResolver.thisYear
        refine z_pcallV (rest := [.int (nI (sF σ j + sYrs σ j))]) (As := []) Z (x_year G l H R σ n o tl pl ts ps hX hn29 hW) gw_X1_142 gd_X1_142 rfl hO rfl hl.1 (Nat.le_of_ble_eq_true rfl) rfl dX1_gap_19 ⟨⟨Nat.le_of_ble_eq_true rfl, Nat.le_of_ble_eq_true rfl⟩, Nat.le_of_ble_eq_true rfl, Nat.le_of_ble_eq_true rfl⟩ hL (fun locs hL => ?_)
        refine lv_icmp_gt (tgt := 49) Z.hx Z.hb dX1_gap_22 (by decide) (fun c22 => ?_) (fun c22 => ?_)
        · skip
          refine lv_iconst (v := (-1)) Z.hx Z.hb dX1_gap_49 (by decide) ?_
          exact zx_iret Z hr hL (⟨by rw [hjc, hg9]; rfl, rfl, (by simp [kTG, kIf, kPT, hc9, hjc, c7])⟩) (Nat.le_of_ble_eq_true rfl) (Nat.le_of_ble_eq_true rfl) dX1_gap_50
        · exact absurd (nI_lt (by omega) (by omega)) c22
      | succ n8 ihk =>
        intro k hkn locs hL ls hl hk8 hg9
        have hkb : k < (sF σ j + sYrs σ j) := by omega
        refine lv_iload Z.hx Z.hb dX1_gap_16 (lv_at hl 0 rfl) ?_
        refine lv_aload_n Z.hx Z.hb dX1_gap_18 rfl (lv_at hl 1 rfl) ?_
        -- LinkResolver.thisYear
        refine z_pcallV (rest := [.int (nI k)]) (As := []) Z (x_year G l H R σ n o tl pl ts ps hX hn29 hW) gw_X1_142 gd_X1_142 rfl hO rfl hl.1 (Nat.le_of_ble_eq_true rfl) rfl dX1_gap_19 ⟨⟨Nat.le_of_ble_eq_true rfl, Nat.le_of_ble_eq_true rfl⟩, Nat.le_of_ble_eq_true rfl, Nat.le_of_ble_eq_true rfl⟩ hL (fun locs hL => ?_)
        refine lv_icmp_gt (tgt := 49) Z.hx Z.hb dX1_gap_22 (by decide) (fun c22 => ?_) (fun c22 => ?_)
        · exact absurd c22 (nI_nlt (by omega) (by omega))
        · skip
          refine lv_aload_n Z.hx Z.hb dX1_gap_25 rfl (lv_at hl 1 rfl) ?_
          refine lv_iload_n Z.hx Z.hb dX1_gap_26 rfl (lv_at hl 2 rfl) ?_
          refine lv_iload Z.hx Z.hb dX1_gap_27 (lv_at hl 0 rfl) ?_
          refine lv_iload_n Z.hx Z.hb dX1_gap_29 rfl (lv_at hl 3 rfl) ?_
          refine lv_aload_n Z.hx Z.hb dX1_gap_30 rfl (lv_at hl 1 rfl) ?_
          refine gf_X1_62 Z hO (v := .int (sT σ)) rfl dX1_gap_31 ?_
          -- LinkResolver.countWays
          refine z_pcallV (rest := []) (As := [.int (nI j), .int (nI k), .int g, .int (sT σ)]) Z (x_cnt G l H R σ n o tl pl ts ps hX hn29 hW j hj20 (nI k) g (sT σ)) gw_X1_124 gd_X1_124 rfl hO rfl hl.1 (Nat.le_of_ble_eq_true rfl) rfl dX1_gap_34 ⟨⟨Nat.le_of_ble_eq_true rfl, Nat.le_of_ble_eq_true rfl⟩, Nat.le_of_ble_eq_true rfl, Nat.le_of_ble_eq_true rfl⟩ hL (fun locs hL => ?_)
          refine lv_if_ne (tgt := 43) Z.hx Z.hb dX1_gap_37 (by decide) (fun c37 => ?_) (fun c37 => ?_)
          · skip
            refine lv_iinc (v := (nI k) + 1) (lv' := [(4, .int ((nI k) + 1)), (0, .ref o), (1, .int (nI j)), (2, .int g)]) Z.hx Z.hb dX1_gap_43 hl (k := 0) rfl rfl (by decide) rfl (fun ls hl => ?_)
            refine lv_goto (tgt := 16) Z.hx Z.hb dX1_gap_46 (by decide) ?_
            exact ihk (k + 1) (by omega) _ hL ls (lv_sub (z_loc (l' := [(4, .int (nI (k + 1))), (0, .ref o), (1, .int (nI j)), (2, .int g)]) hl (by rw [nI_succ])) [0, 1, 2, 3] rfl) (by omega) (hg9.trans (if_neg (fun z => c37 ((sGap_at hP10 (nI k)).mpr z))))
          · skip
            refine lv_iload Z.hx Z.hb dX1_gap_40 (lv_at hl 0 rfl) ?_
            exact zx_iret Z hr hL (⟨by rw [hjc, hg9]; exact congrArg (fun z => some (Value.int z)) (if_pos ((sGap_at hP10 (nI k)).mp c37)).symm, rfl, (by simp [kTG, kIf, kPT, hc9, hjc, c7])⟩) (Nat.le_of_ble_eq_true rfl) (Nat.le_of_ble_eq_true rfl) dX1_gap_42
    exact loop (sYrs σ j) (sF σ j) rfl _ hL ls (lv_sub (z_loc (l' := [(4, .int (nI (sF σ j))), (3, .ref y9), (0, .ref o), (1, .int (nI j)), (2, .int g)]) hl (by rw [hF2])) [0, 2, 3, 4] rfl) (Nat.le_refl _) rfl
theorem sDbl_le {σ : zS} {t : Nat} {g : Int32} : ∀ {y n : Nat}, sDbl σ t g y n ≤ n
  | _, 0 => Nat.le_refl _
  | y, n + 1 => by
    show (if sDblAt σ t g (nI y) then 1 else 0) + sDbl σ t g (y + 1) n ≤ n + 1
    have := sDbl_le (σ := σ) (t := t) (g := g) (y := y + 1) (n := n)
    split <;> omega
set_option maxHeartbeats 4000000 in
set_option maxRecDepth 100000 in
theorem x_doubles (G : zG) (l : Launch) (hl0 : l.stackTraces = false) (H : Heap) (R : xRo) (σ : zS) (n o tl pl : Nat) (ts ps : List Nat) (hX : xOp G H R σ n o tl pl ts ps) (hn29 : n < 2 ^ 29) (hW : sWf σ) (t g : Int32) : zXp G l yX1_doubles cX1_doubles 6 (Option.some Jvm.ClassFile.FieldType.int) 9 8 48 [.ref o, .int t, .int g] H (.int (nI (sDbl σ t.toNatClampNeg g (sF σ t.toNatClampNeg) (sYrs σ t.toNatClampNeg)))) (kTG σ t g = 0) (xE RJ12 RJ6 (kTG σ t g)) := by
  obtain ⟨mt9, dt9, hOt⟩ := hX.tO
  obtain ⟨mp9, dp9, hOp⟩ := hX.pO
  have hO := hX.ob
  have htl : ts.length = sN σ := hX.2.2.2.1.2.1
  have hpl : ps.length = sP σ := hX.2.2.2.2.2.1
  have hN20 : sN σ ≤ 20 := hW.2.1
  have hP10 : sP σ ≤ 10 := hW.2.2.1
  refine zX.of (by decide +kernel) (Nat.le_of_ble_eq_true rfl) ?_
  intro p0 e0 s0 m0 args0 below0 meth0 c0 Z hr hxt hH ls hl
  have Z : zC G p0 s0 m0 args0 meth0 c0 RX1 cX1_doubles 6 := Z
  have hl : lv_has ls 6 [(0, .ref o), (1, .int t), (2, .int g)] := hl
  have hL : zL G [] := zL.nil
  rcases hc9 : mIs t (nI (sN σ)) with _ | _
  · skip
    refine lv_aload_n Z.hx Z.hb dX1_doubles_0 rfl (lv_at hl 0 rfl) ?_
    refine lv_iload_n Z.hx Z.hb dX1_doubles_1 rfl (lv_at hl 1 rfl) ?_
    -- LinkResolver.title
    refine z_xpcallV (rest := []) (As := [.int t]) Z (x_title_no G l hl0 H R σ n o tl pl ts ps hX hn29 hW t hc9) gw_X1_50 gd_X1_50 rfl hO rfl hl.1 (Nat.le_of_ble_eq_true rfl) rfl dX1_doubles_2 ⟨⟨Nat.le_of_ble_eq_true rfl, Nat.le_of_ble_eq_true rfl⟩, Nat.le_of_ble_eq_true rfl, Nat.le_of_ble_eq_true rfl⟩ hL (fun E_ ce_ q_ H_ locs hL hk_ hx_ h1_ h2_ h3_ => z_out Z hxt hL ⟨hk_, Or.inl ⟨hx_, by simp [kTG, kIf, hc9]⟩⟩ h1_ h2_ h3_ (Nat.le_of_ble_eq_true rfl) (Nat.le_of_ble_eq_true rfl)) (fun locs hL c2 => ?_)
    exact c2.elim
  · obtain ⟨j, hj, rfl⟩ := mIs_nI (by omega) hc9
    have hjc : (nI j).toNatClampNeg = j := nI_clamp (by omega)
    obtain ⟨y9, hy9⟩ := hX.ty hj
    have hTy := hX.2.2.2.1.2.2 j y9 hy9
    have hj20 : j < 20 := by omega
    have hsy : sYrs σ j = sY σ + 1 - sF σ j := rfl
    obtain ⟨hF1, hF2⟩ := hW.f hj
    obtain ⟨hY1, hY2⟩ := hW.y
    refine lv_aload_n Z.hx Z.hb dX1_doubles_0 rfl (lv_at hl 0 rfl) ?_
    refine lv_iload_n Z.hx Z.hb dX1_doubles_1 rfl (lv_at hl 1 rfl) ?_
    -- LinkResolver.title
    refine z_xpcallV (rest := []) (As := [.int (nI j)]) Z (x_title G l hl0 H R σ n o tl pl ts ps hX hn29 hW j y9 hy9) gw_X1_50 gd_X1_50 rfl hO rfl hl.1 (Nat.le_of_ble_eq_true rfl) rfl dX1_doubles_2 ⟨⟨Nat.le_of_ble_eq_true rfl, Nat.le_of_ble_eq_true rfl⟩, Nat.le_of_ble_eq_true rfl, Nat.le_of_ble_eq_true rfl⟩ hL (fun E_ ce_ q_ H_ locs hL hk_ hx_ h1_ h2_ h3_ => hx_.elim) (fun locs hL c2 => ?_)
    refine lv_astore_n (lv' := [(3, .ref y9), (0, .ref o), (1, .int (nI j)), (2, .int g)]) Z.hx Z.hb dX1_doubles_5 rfl hl (by decide) rfl (fun ls hl => ?_)
    refine lv_iload_n Z.hx Z.hb dX1_doubles_6 rfl (lv_at hl 3 rfl) ?_
    -- LinkResolver.checkGroup
    refine z_xpcallS0 (rest := []) (As := [.int g]) Z (x_group G l hl0 H g) gw_X1_58 gd_X1_58 rfl hl.1 (Nat.le_of_ble_eq_true rfl) rfl dX1_doubles_7 ⟨⟨Nat.le_of_ble_eq_true rfl, Nat.le_of_ble_eq_true rfl⟩, Nat.le_of_ble_eq_true rfl, Nat.le_of_ble_eq_true rfl⟩ hL (fun E_ ce_ q_ H_ locs hL hk_ hx_ h1_ h2_ h3_ => z_out Z hxt hL ⟨hk_, Or.inr ⟨hx_.1, by simp [kTG, kIf, kPT, hc9, hjc, hx_.2]⟩⟩ h1_ h2_ h3_ (Nat.le_of_ble_eq_true rfl) (Nat.le_of_ble_eq_true rfl)) (fun locs hL c7 => ?_)
    refine lv_iconst (v := 0) Z.hx Z.hb dX1_doubles_10 (by decide) ?_
    refine lv_istore (lv' := [(4, .int 0), (3, .ref y9), (0, .ref o), (1, .int (nI j)), (2, .int g)]) Z.hx Z.hb dX1_doubles_11 hl (by decide) rfl (fun ls hl => ?_)
    refine lv_aload_n Z.hx Z.hb dX1_doubles_13 rfl (lv_at hl 1 rfl) ?_
    -- LinkResolver$Title.firstYear
    refine z_pcallV (rest := []) (As := []) Z (t_first G l H y9 _ _ hTy.2) gw_X1_79 gd_X1_79 rfl hTy.2 rfl hl.1 (Nat.le_of_ble_eq_true rfl) rfl dX1_doubles_14 ⟨⟨Nat.le_of_ble_eq_true rfl, Nat.le_of_ble_eq_true rfl⟩, Nat.le_of_ble_eq_true rfl, Nat.le_of_ble_eq_true rfl⟩ hL (fun locs hL => ?_)
    refine lv_istore (lv' := [(5, .int (sA σ 0 j)), (4, .int 0), (3, .ref y9), (0, .ref o), (1, .int (nI j)), (2, .int g)]) Z.hx Z.hb dX1_doubles_17 hl (by decide) rfl (fun ls hl => ?_)
    have loop : ∀ n8 k : Nat, k + n8 = (sF σ j + sYrs σ j) → ∀ (locs : List Loc), zL G locs → ∀ ls : Array Slot, lv_has ls 6 [(5, .int (nI k)), (4, .int (nI (sDbl σ j g (sF σ j) (sYrs σ j) - sDbl σ j g k n8))), (0, .ref o), (1, .int (nI j)), (2, .int g)] → sF σ j ≤ k → sDbl σ j g k n8 ≤ sDbl σ j g (sF σ j) (sYrs σ j) → W p0 l e0 (zr 9 8 48) s0 m0 args0 below0 meth0 c0 H locs (0 + 1 + 1) (0 + 6 + 6) (vx_MQ below0 (zQ (fun r H1 => r = some (.int (nI (sDbl σ (nI j).toNatClampNeg g (sF σ (nI j).toNatClampNeg) (sYrs σ (nI j).toNatClampNeg)))) ∧ H1 = H ∧ kTG σ (nI j) g = 0)) (zXc (fun E H1 => zKeep H H1 ∧ xE RJ12 RJ6 (kTG σ (nI j) g) E)) args0 s0 8 48 (zA G)) (F0 m0 19 ls []) := by
      intro n8
      induction n8 with
      | zero =>
        intro k hkn locs hL ls hl hk8 hg9
        have hke : k = (sF σ j + sYrs σ j) := hkn
        subst hke
        refine lv_iload Z.hx Z.hb dX1_doubles_19 (lv_at hl 0 rfl) ?_
        refine lv_aload_n Z.hx Z.hb dX1_doubles_21 rfl (lv_at hl 2 rfl) ?_
        -- LinkResolver.thisYear
        refine z_pcallV (rest := [.int (nI (sF σ j + sYrs σ j))]) (As := []) Z (x_year G l H R σ n o tl pl ts ps hX hn29 hW) gw_X1_142 gd_X1_142 rfl hO rfl hl.1 (Nat.le_of_ble_eq_true rfl) rfl dX1_doubles_22 ⟨⟨Nat.le_of_ble_eq_true rfl, Nat.le_of_ble_eq_true rfl⟩, Nat.le_of_ble_eq_true rfl, Nat.le_of_ble_eq_true rfl⟩ hL (fun locs hL => ?_)
        refine lv_icmp_gt (tgt := 60) Z.hx Z.hb dX1_doubles_25 (by decide) (fun c25 => ?_) (fun c25 => ?_)
        · skip
          refine lv_iload Z.hx Z.hb dX1_doubles_60 (lv_at hl 1 rfl) ?_
          exact zx_iret Z hr hL (⟨by rw [hjc]; rfl, rfl, (by simp [kTG, kIf, kPT, hc9, hjc, c7])⟩) (Nat.le_of_ble_eq_true rfl) (Nat.le_of_ble_eq_true rfl) dX1_doubles_62
        · exact absurd (nI_lt (by omega) (by omega)) c25
      | succ n8 ihk =>
        intro k hkn locs hL ls hl hk8 hg9
        have hkb : k < (sF σ j + sYrs σ j) := by omega
        have hst : sDbl σ j g k (n8 + 1) = (if sDblAt σ j g (nI k) then 1 else 0) + sDbl σ j g (k + 1) n8 := rfl
        refine lv_iload Z.hx Z.hb dX1_doubles_19 (lv_at hl 0 rfl) ?_
        refine lv_aload_n Z.hx Z.hb dX1_doubles_21 rfl (lv_at hl 2 rfl) ?_
        -- LinkResolver.thisYear
        refine z_pcallV (rest := [.int (nI k)]) (As := []) Z (x_year G l H R σ n o tl pl ts ps hX hn29 hW) gw_X1_142 gd_X1_142 rfl hO rfl hl.1 (Nat.le_of_ble_eq_true rfl) rfl dX1_doubles_22 ⟨⟨Nat.le_of_ble_eq_true rfl, Nat.le_of_ble_eq_true rfl⟩, Nat.le_of_ble_eq_true rfl, Nat.le_of_ble_eq_true rfl⟩ hL (fun locs hL => ?_)
        refine lv_icmp_gt (tgt := 60) Z.hx Z.hb dX1_doubles_25 (by decide) (fun c25 => ?_) (fun c25 => ?_)
        · exact absurd c25 (nI_nlt (by omega) (by omega))
        · skip
          refine lv_iload Z.hx Z.hb dX1_doubles_28 (lv_at hl 1 rfl) ?_
          refine lv_aload_n Z.hx Z.hb dX1_doubles_30 rfl (lv_at hl 2 rfl) ?_
          refine lv_iload_n Z.hx Z.hb dX1_doubles_31 rfl (lv_at hl 3 rfl) ?_
          refine lv_iload Z.hx Z.hb dX1_doubles_32 (lv_at hl 0 rfl) ?_
          refine lv_iload_n Z.hx Z.hb dX1_doubles_34 rfl (lv_at hl 4 rfl) ?_
          refine lv_aload_n Z.hx Z.hb dX1_doubles_35 rfl (lv_at hl 2 rfl) ?_
          refine gf_X1_62 Z hO (v := .int (sT σ)) rfl dX1_doubles_36 ?_
          -- LinkResolver.countWays
          refine z_pcallV (rest := [.int (nI (sDbl σ j g (sF σ j) (sYrs σ j) - sDbl σ j g k (n8 + 1)))]) (As := [.int (nI j), .int (nI k), .int g, .int (sT σ)]) Z (x_cnt G l H R σ n o tl pl ts ps hX hn29 hW j hj20 (nI k) g (sT σ)) gw_X1_124 gd_X1_124 rfl hO rfl hl.1 (Nat.le_of_ble_eq_true rfl) rfl dX1_doubles_39 ⟨⟨Nat.le_of_ble_eq_true rfl, Nat.le_of_ble_eq_true rfl⟩, Nat.le_of_ble_eq_true rfl, Nat.le_of_ble_eq_true rfl⟩ hL (fun locs hL => ?_)
          refine lv_iconst (v := 2) Z.hx Z.hb dX1_doubles_42 (by decide) ?_
          refine lv_icmp_lt (tgt := 50) Z.hx Z.hb dX1_doubles_43 (by decide) (fun c43 => ?_) (fun c43 => ?_)
          · skip
            refine lv_iconst (v := 0) Z.hx Z.hb dX1_doubles_50 (by decide) ?_
            refine lv_iadd Z.hx Z.hb dX1_doubles_51 ?_
            refine lv_istore (lv' := [(4, .int ((nI (sDbl σ j g (sF σ j) (sYrs σ j) - sDbl σ j g k (n8 + 1))) + 0)), (5, .int (nI k)), (0, .ref o), (1, .int (nI j)), (2, .int g)]) Z.hx Z.hb dX1_doubles_52 hl (by decide) rfl (fun ls hl => ?_)
            refine lv_iinc (v := (nI k) + 1) (lv' := [(5, .int ((nI k) + 1)), (4, .int ((nI (sDbl σ j g (sF σ j) (sYrs σ j) - sDbl σ j g k (n8 + 1))) + 0)), (0, .ref o), (1, .int (nI j)), (2, .int g)]) Z.hx Z.hb dX1_doubles_54 hl (k := 1) rfl rfl (by decide) rfl (fun ls hl => ?_)
            refine lv_goto (tgt := 19) Z.hx Z.hb dX1_doubles_57 (by decide) ?_
            have hz9 : sDblAt σ j g (nI k) = false := by
              exact (sDbl_at hP10 (nI k)).mp (zlt2.mp c43)
            rw [hz9] at hst
            simp only [Bool.false_eq_true, if_false] at hst
            exact ihk (k + 1) (by omega) _ hL ls (lv_sub (z_loc (l' := [(5, .int (nI (k + 1))), (4, .int (nI (sDbl σ j g (sF σ j) (sYrs σ j) - sDbl σ j g (k + 1) n8))), (0, .ref o), (1, .int (nI j)), (2, .int g)]) hl (by rw [nI_succ, show sDbl σ j g (sF σ j) (sYrs σ j) - sDbl σ j g (k + 1) n8 = (sDbl σ j g (sF σ j) (sYrs σ j) - sDbl σ j g k (n8 + 1)) from by omega, Int32.add_zero])) [0, 1, 2, 3, 4] rfl) (by omega) (by omega)
          · skip
            refine lv_iconst (v := 1) Z.hx Z.hb dX1_doubles_46 (by decide) ?_
            refine lv_goto (tgt := 51) Z.hx Z.hb dX1_doubles_47 (by decide) ?_
            refine lv_iadd Z.hx Z.hb dX1_doubles_51 ?_
            refine lv_istore (lv' := [(4, .int ((nI (sDbl σ j g (sF σ j) (sYrs σ j) - sDbl σ j g k (n8 + 1))) + 1)), (5, .int (nI k)), (0, .ref o), (1, .int (nI j)), (2, .int g)]) Z.hx Z.hb dX1_doubles_52 hl (by decide) rfl (fun ls hl => ?_)
            refine lv_iinc (v := (nI k) + 1) (lv' := [(5, .int ((nI k) + 1)), (4, .int ((nI (sDbl σ j g (sF σ j) (sYrs σ j) - sDbl σ j g k (n8 + 1))) + 1)), (0, .ref o), (1, .int (nI j)), (2, .int g)]) Z.hx Z.hb dX1_doubles_54 hl (k := 1) rfl rfl (by decide) rfl (fun ls hl => ?_)
            refine lv_goto (tgt := 19) Z.hx Z.hb dX1_doubles_57 (by decide) ?_
            have hz9 : sDblAt σ j g (nI k) = true := by
              exact Bool.not_eq_false _ |>.mp (fun z => c43 (zlt2.mpr ((sDbl_at hP10 (nI k)).mpr z)))
            rw [hz9] at hst
            simp only [if_true] at hst
            exact ihk (k + 1) (by omega) _ hL ls (lv_sub (z_loc (l' := [(5, .int (nI (k + 1))), (4, .int (nI (sDbl σ j g (sF σ j) (sYrs σ j) - sDbl σ j g (k + 1) n8))), (0, .ref o), (1, .int (nI j)), (2, .int g)]) hl (by rw [nI_succ, show sDbl σ j g (sF σ j) (sYrs σ j) - sDbl σ j g (k + 1) n8 = (sDbl σ j g (sF σ j) (sYrs σ j) - sDbl σ j g k (n8 + 1)) + 1 from by omega, nI_succ])) [0, 1, 2, 3, 4] rfl) (by omega) (by omega)
    exact loop (sYrs σ j) (sF σ j) rfl _ hL ls (lv_sub (z_loc (l' := [(5, .int (nI (sF σ j))), (4, .int (nI (sDbl σ j g (sF σ j) (sYrs σ j) - sDbl σ j g (sF σ j) (sYrs σ j)))), (3, .ref y9), (0, .ref o), (1, .int (nI j)), (2, .int g)]) hl (by rw [hF2, Nat.sub_self]; rfl)) [0, 1, 3, 4, 5] rfl) (Nat.le_refl _) (Nat.le_refl _)
set_option maxHeartbeats 4000000 in
set_option maxRecDepth 100000 in
theorem x_lost (G : zG) (l : Launch) (H : Heap) (R : xRo) (σ : zS) (n o tl pl : Nat) (ts ps : List Nat) (hX : xOp G H R σ n o tl pl ts ps) (hn29 : n < 2 ^ 29) (hW : sWf σ) (j : Nat) (hj20 : j < 20) (i pi : Nat) (hi : ps[i]? = some pi) (y g : Int32) : zMp G l yX1_wouldBeLost cX1_wouldBeLost 6 (Option.some Jvm.ClassFile.FieldType.boolean) 8 [.ref o, .ref pi, .int (nI j), .int y, .int g] H (.int (zb (sLost σ i j y g))) := by
  obtain ⟨mt9, dt9, hOt⟩ := hX.tO
  obtain ⟨mp9, dp9, hOp⟩ := hX.pO
  have hO := hX.ob
  have htl : ts.length = sN σ := hX.2.2.2.1.2.1
  have hpl : ps.length = sP σ := hX.2.2.2.2.2.1
  have hN20 : sN σ ≤ 20 := hW.2.1
  have hP10 : sP σ ≤ 10 := hW.2.2.1
  have hpi := hX.2.2.2.2.2.2 i pi hi
  have hpi2 := hpi
  obtain ⟨sl9, hl9, br9, hRp9, hpO, hSb9, hHs9, hBk9⟩ := hpi2
  have hc10 : sCnt σ j y g (sT σ) ≤ 10 := Nat.le_trans (zCnt_le (fun p => sWay σ p j y g (sT σ)) (sP σ)) hP10
  refine zM.of (by decide +kernel) (Nat.le_of_ble_eq_true rfl) ?_
  intro p0 e0 s0 m0 args0 below0 meth0 c0 Z hr hH hn0 ls hl
  have Z : zC G p0 s0 m0 args0 meth0 c0 RX1 cX1_wouldBeLost 6 := Z
  have hl : lv_has ls 6 [(0, .ref o), (1, .ref pi), (2, .int (nI j)), (3, .int y), (4, .int g)] := hl
  have hL : zL G [] := zL.nil
  refine lv_aload_n Z.hx Z.hb dX1_wouldBeLost_0 rfl (lv_at hl 1 rfl) ?_
  refine lv_iload_n Z.hx Z.hb dX1_wouldBeLost_1 rfl (lv_at hl 2 rfl) ?_
  refine lv_iload_n Z.hx Z.hb dX1_wouldBeLost_2 rfl (lv_at hl 3 rfl) ?_
  refine lv_iload Z.hx Z.hb dX1_wouldBeLost_3 (lv_at hl 4 rfl) ?_
  refine lv_aload_n Z.hx Z.hb dX1_wouldBeLost_5 rfl (lv_at hl 0 rfl) ?_
  refine gf_X1_62 Z hO (v := .int (sT σ)) rfl dX1_wouldBeLost_6 ?_
  -- LinkResolver$Package.covers
  refine z_pcallV (rest := []) (As := [.int (nI j), .int y, .int g, .int (sT σ)]) Z (p_cov G l H R σ n i pi hpi hn29 j hj20 y g (sT σ)) gw_X1_120 gd_X1_120 rfl hpO rfl hl.1 (Nat.le_of_ble_eq_true rfl) rfl dX1_wouldBeLost_9 ⟨⟨Nat.le_of_ble_eq_true rfl, Nat.le_of_ble_eq_true rfl⟩, Nat.le_of_ble_eq_true rfl, Nat.le_of_ble_eq_true rfl⟩ hL (fun locs hL => ?_)
  refine lv_istore (lv' := [(5, .int (zb (sWay σ i j y g (sT σ)))), (0, .ref o), (1, .ref pi), (2, .int (nI j)), (3, .int y), (4, .int g)]) Z.hx Z.hb dX1_wouldBeLost_12 hl (by decide) rfl (fun ls hl => ?_)
  refine lv_iload Z.hx Z.hb dX1_wouldBeLost_14 (lv_at hl 0 rfl) ?_
  refine lv_if_eq (tgt := 52) Z.hx Z.hb dX1_wouldBeLost_16 (by decide) (fun c16 => ?_) (fun c16 => ?_)
  · skip
    have c16 : (sWay σ i j y g (sT σ)) = false := zb_0.mp c16
    refine lv_iconst (v := 0) Z.hx Z.hb dX1_wouldBeLost_52 (by decide) ?_
    exact z_zret Z hr hL (by decide) (⟨by simp [zb, sLost, c16], rfl⟩) (Nat.le_of_ble_eq_true rfl) (Nat.le_of_ble_eq_true rfl) dX1_wouldBeLost_53
  · skip
    have c16 : (sWay σ i j y g (sT σ)) = true := zb_n.mp c16
    refine lv_aload_n Z.hx Z.hb dX1_wouldBeLost_19 rfl (lv_at hl 2 rfl) ?_
    refine lv_iload_n Z.hx Z.hb dX1_wouldBeLost_20 rfl (lv_at hl 3 rfl) ?_
    refine lv_iload_n Z.hx Z.hb dX1_wouldBeLost_21 rfl (lv_at hl 4 rfl) ?_
    refine lv_aload_n Z.hx Z.hb dX1_wouldBeLost_22 rfl (lv_at hl 1 rfl) ?_
    refine gf_X1_62 Z hO (v := .int (sT σ)) rfl dX1_wouldBeLost_23 ?_
    -- LinkResolver$Package.hasKept
    refine z_pcallV (rest := []) (As := [.int (nI j), .int y, .int (sT σ)]) Z (p_kept G l H R σ n i pi hpi hn29 j hj20 y (sT σ)) gw_X1_145 gd_X1_145 rfl hpO rfl hl.1 (Nat.le_of_ble_eq_true rfl) rfl dX1_wouldBeLost_26 ⟨⟨Nat.le_of_ble_eq_true rfl, Nat.le_of_ble_eq_true rfl⟩, Nat.le_of_ble_eq_true rfl, Nat.le_of_ble_eq_true rfl⟩ hL (fun locs hL => ?_)
    refine lv_if_ne (tgt := 52) Z.hx Z.hb dX1_wouldBeLost_29 (by decide) (fun c29 => ?_) (fun c29 => ?_)
    · skip
      have c29 : (sKept σ i j y (sT σ)) = true := zb_n.mp c29
      refine lv_iconst (v := 0) Z.hx Z.hb dX1_wouldBeLost_52 (by decide) ?_
      exact z_zret Z hr hL (by decide) (⟨by simp [zb, sLost, c16, c29], rfl⟩) (Nat.le_of_ble_eq_true rfl) (Nat.le_of_ble_eq_true rfl) dX1_wouldBeLost_53
    · skip
      have c29 : (sKept σ i j y (sT σ)) = false := zb_0.mp c29
      refine lv_aload_n Z.hx Z.hb dX1_wouldBeLost_32 rfl (lv_at hl 1 rfl) ?_
      refine lv_iload_n Z.hx Z.hb dX1_wouldBeLost_33 rfl (lv_at hl 3 rfl) ?_
      refine lv_iload_n Z.hx Z.hb dX1_wouldBeLost_34 rfl (lv_at hl 4 rfl) ?_
      refine lv_iload Z.hx Z.hb dX1_wouldBeLost_35 (lv_at hl 5 rfl) ?_
      refine lv_aload_n Z.hx Z.hb dX1_wouldBeLost_37 rfl (lv_at hl 1 rfl) ?_
      refine gf_X1_62 Z hO (v := .int (sT σ)) rfl dX1_wouldBeLost_38 ?_
      -- LinkResolver.countWays
      refine z_pcallV (rest := []) (As := [.int (nI j), .int y, .int g, .int (sT σ)]) Z (x_cnt G l H R σ n o tl pl ts ps hX hn29 hW j hj20 y g (sT σ)) gw_X1_124 gd_X1_124 rfl hO rfl hl.1 (Nat.le_of_ble_eq_true rfl) rfl dX1_wouldBeLost_41 ⟨⟨Nat.le_of_ble_eq_true rfl, Nat.le_of_ble_eq_true rfl⟩, Nat.le_of_ble_eq_true rfl, Nat.le_of_ble_eq_true rfl⟩ hL (fun locs hL => ?_)
      refine lv_iconst (v := 1) Z.hx Z.hb dX1_wouldBeLost_44 (by decide) ?_
      refine lv_icmp_ne (tgt := 52) Z.hx Z.hb dX1_wouldBeLost_45 (by decide) (fun c45 => ?_) (fun c45 => ?_)
      · skip
        refine lv_iconst (v := 0) Z.hx Z.hb dX1_wouldBeLost_52 (by decide) ?_
        rw [show (1 : Int32) = nI 1 from rfl, nI_eq (by omega) (by omega)] at c45
        exact z_zret Z hr hL (by decide) (⟨by simp [zb, sLost, c16, c29, c45], rfl⟩) (Nat.le_of_ble_eq_true rfl) (Nat.le_of_ble_eq_true rfl) dX1_wouldBeLost_53
      · skip
        refine lv_iconst (v := 1) Z.hx Z.hb dX1_wouldBeLost_48 (by decide) ?_
        refine lv_goto (tgt := 53) Z.hx Z.hb dX1_wouldBeLost_49 (by decide) ?_
        rw [show (1 : Int32) = nI 1 from rfl, nI_eq (by omega) (by omega)] at c45
        exact z_zret Z hr hL (by decide) (⟨by simp [zb, sLost, c16, c29, c45], rfl⟩) (Nat.le_of_ble_eq_true rfl) (Nat.le_of_ble_eq_true rfl) dX1_wouldBeLost_53
set_option maxHeartbeats 4000000 in
set_option maxRecDepth 100000 in
theorem x_isNeedless (G : zG) (l : Launch) (hl0 : l.stackTraces = false) (H : Heap) (R : xRo) (σ : zS) (n o tl pl : Nat) (ts ps : List Nat) (hX : xOp G H R σ n o tl pl ts ps) (hn29 : n < 2 ^ 29) (hW : sWf σ) (p : Int32) : zXp G l yX1_isNeedless cX1_isNeedless 7 (Option.some Jvm.ClassFile.FieldType.boolean) 9 8 48 [.ref o, .int p] H (.int (zb (sNeed σ p.toNatClampNeg))) (kPk σ p = 0) (fun E => E = RJ12 ∧ kPk σ p = 1) := by
  obtain ⟨mt9, dt9, hOt⟩ := hX.tO
  obtain ⟨mp9, dp9, hOp⟩ := hX.pO
  have hO := hX.ob
  have htl : ts.length = sN σ := hX.2.2.2.1.2.1
  have hpl : ps.length = sP σ := hX.2.2.2.2.2.1
  have hN20 : sN σ ≤ 20 := hW.2.1
  have hP10 : sP σ ≤ 10 := hW.2.2.1
  refine zX.of (by decide +kernel) (Nat.le_of_ble_eq_true rfl) ?_
  intro p0 e0 s0 m0 args0 below0 meth0 c0 Z hr hxt hH ls hl
  have Z : zC G p0 s0 m0 args0 meth0 c0 RX1 cX1_isNeedless 7 := Z
  have hl : lv_has ls 7 [(0, .ref o), (1, .int p)] := hl
  have hL : zL G [] := zL.nil
  rcases hc9 : mIs p (nI (sP σ)) with _ | _
  · skip
    refine lv_aload_n Z.hx Z.hb dX1_isNeedless_0 rfl (lv_at hl 0 rfl) ?_
    refine lv_iload_n Z.hx Z.hb dX1_isNeedless_1 rfl (lv_at hl 1 rfl) ?_
    -- LinkResolver.pack
    refine z_xpcallV (rest := []) (As := [.int p]) Z (x_pack_no G l hl0 H R σ n o tl pl ts ps hX hn29 hW p hc9) gw_X1_46 gd_X1_46 rfl hO rfl hl.1 (Nat.le_of_ble_eq_true rfl) rfl dX1_isNeedless_2 ⟨⟨Nat.le_of_ble_eq_true rfl, Nat.le_of_ble_eq_true rfl⟩, Nat.le_of_ble_eq_true rfl, Nat.le_of_ble_eq_true rfl⟩ hL (fun E_ ce_ q_ H_ locs hL hk_ hx_ h1_ h2_ h3_ => z_out Z hxt hL ⟨hk_, ⟨hx_, by simp [kPk, kIf, hc9]⟩⟩ h1_ h2_ h3_ (Nat.le_of_ble_eq_true rfl) (Nat.le_of_ble_eq_true rfl)) (fun locs hL c2 => ?_)
    exact c2.elim
  · obtain ⟨j, hj, rfl⟩ := mIs_nI (by omega) hc9
    have hjc : (nI j).toNatClampNeg = j := nI_clamp (by omega)
    obtain ⟨y9, hy9⟩ := hX.py hj
    obtain ⟨hY1, hY2⟩ := hW.y
    refine lv_aload_n Z.hx Z.hb dX1_isNeedless_0 rfl (lv_at hl 0 rfl) ?_
    refine lv_iload_n Z.hx Z.hb dX1_isNeedless_1 rfl (lv_at hl 1 rfl) ?_
    -- LinkResolver.pack
    refine z_xpcallV (rest := []) (As := [.int (nI j)]) Z (x_pack G l hl0 H R σ n o tl pl ts ps hX hn29 hW j y9 hy9) gw_X1_46 gd_X1_46 rfl hO rfl hl.1 (Nat.le_of_ble_eq_true rfl) rfl dX1_isNeedless_2 ⟨⟨Nat.le_of_ble_eq_true rfl, Nat.le_of_ble_eq_true rfl⟩, Nat.le_of_ble_eq_true rfl, Nat.le_of_ble_eq_true rfl⟩ hL (fun E_ ce_ q_ H_ locs hL hk_ hx_ h1_ h2_ h3_ => hx_.elim) (fun locs hL c2 => ?_)
    refine lv_astore_n (lv' := [(2, .ref y9), (0, .ref o), (1, .int (nI j))]) Z.hx Z.hb dX1_isNeedless_5 rfl hl (by decide) rfl (fun ls hl => ?_)
    refine lv_iconst (v := 1) Z.hx Z.hb dX1_isNeedless_6 (by decide) ?_
    refine lv_istore_n (lv' := [(3, .int 1), (2, .ref y9), (0, .ref o), (1, .int (nI j))]) Z.hx Z.hb dX1_isNeedless_7 rfl hl (by decide) rfl (fun ls hl => ?_)
    refine lv_iconst (v := 0) Z.hx Z.hb dX1_isNeedless_8 (by decide) ?_
    refine lv_istore (lv' := [(4, .int 0), (3, .int 1), (2, .ref y9), (0, .ref o), (1, .int (nI j))]) Z.hx Z.hb dX1_isNeedless_9 hl (by decide) rfl (fun ls hl => ?_)
    have outer : ∀ n8 k : Nat, k + n8 = ts.length → ∀ (locs : List Loc), zL G locs → ∀ ls : Array Slot, lv_has ls 7 [(4, .int (nI k)), (3, .int (zb (zAll (fun t => zAll (fun m => zAll (fun q => !sLost σ j t (nI (sF σ t + m)) (nI q)) 4) (sYrs σ t)) k))), (2, .ref y9), (0, .ref o), (1, .int (nI j))] → W p0 l e0 (zr 9 8 48) s0 m0 args0 below0 meth0 c0 H locs (0 + 1) (0 + 6) (vx_MQ below0 (zQ (fun r H1 => r = some (.int (zb (sNeed σ (nI j).toNatClampNeg))) ∧ H1 = H ∧ kPk σ (nI j) = 0)) (zXc (fun E H1 => zKeep H H1 ∧ (E = RJ12 ∧ kPk σ (nI j) = 1))) args0 s0 8 48 (zA G)) (F0 m0 11 ls []) := by
      intro n8
      induction n8 with
      | zero =>
        intro k hkn locs hL ls hl
        have hke : k = ts.length := hkn
        subst hke
        refine lv_iload Z.hx Z.hb dX1_isNeedless_11 (lv_at hl 0 rfl) ?_
        refine lv_aload_n Z.hx Z.hb dX1_isNeedless_13 rfl (lv_at hl 3 rfl) ?_
        refine gf_X1_12 Z hO (v := .ref tl) rfl dX1_isNeedless_14 ?_
        -- java/util/List.size
        refine z_pcallF (rest := [.int (nI ts.length)]) (As := []) Z (j_size G l H _ tl ts hX.2.2.2.1.1) gw_X1_28 Z.K.2.2.1.1 gd_L_size hOt rfl hl.1 (Nat.le_of_ble_eq_true rfl) rfl dX1_isNeedless_17 ⟨⟨Nat.le_of_ble_eq_true rfl, Nat.le_of_ble_eq_true rfl⟩, Nat.le_of_ble_eq_true rfl, Nat.le_of_ble_eq_true rfl⟩ hL (fun locs hL => ?_)
        refine lv_icmp_ge (tgt := 106) Z.hx Z.hb dX1_isNeedless_22 (by decide) (fun c22 => ?_) (fun c22 => ?_)
        · skip
          refine lv_iload_n Z.hx Z.hb dX1_isNeedless_106 rfl (lv_at hl 1 rfl) ?_
          exact zx_zret Z hr hL (zb_01) (⟨by rw [hjc, htl]; rfl, rfl, by simp [kPk, kIf, hc9]⟩) (Nat.le_of_ble_eq_true rfl) (Nat.le_of_ble_eq_true rfl) dX1_isNeedless_107
        · exact absurd (Int32.le_refl _) c22
      | succ n8 ihk =>
        intro k hkn locs hL ls hl
        have hkb : k < ts.length := by omega
        refine lv_iload Z.hx Z.hb dX1_isNeedless_11 (lv_at hl 0 rfl) ?_
        refine lv_aload_n Z.hx Z.hb dX1_isNeedless_13 rfl (lv_at hl 3 rfl) ?_
        refine gf_X1_12 Z hO (v := .ref tl) rfl dX1_isNeedless_14 ?_
        -- java/util/List.size
        refine z_pcallF (rest := [.int (nI k)]) (As := []) Z (j_size G l H _ tl ts hX.2.2.2.1.1) gw_X1_28 Z.K.2.2.1.1 gd_L_size hOt rfl hl.1 (Nat.le_of_ble_eq_true rfl) rfl dX1_isNeedless_17 ⟨⟨Nat.le_of_ble_eq_true rfl, Nat.le_of_ble_eq_true rfl⟩, Nat.le_of_ble_eq_true rfl, Nat.le_of_ble_eq_true rfl⟩ hL (fun locs hL => ?_)
        refine lv_icmp_ge (tgt := 106) Z.hx Z.hb dX1_isNeedless_22 (by decide) (fun c22 => ?_) (fun c22 => ?_)
        · exact absurd c22 (nI_ge hkb (by omega))
        · skip
          refine lv_aload_n Z.hx Z.hb dX1_isNeedless_25 rfl (lv_at hl 3 rfl) ?_
          refine gf_X1_12 Z hO (v := .ref tl) rfl dX1_isNeedless_26 ?_
          refine lv_iload Z.hx Z.hb dX1_isNeedless_29 (lv_at hl 0 rfl) ?_
          obtain ⟨q9, hq9⟩ : ∃ y, ts[k]? = some y := ⟨_, List.getElem?_eq_getElem hkb⟩
          have hTy := hX.2.2.2.1.2.2 k q9 hq9
          obtain ⟨hG1, hG2⟩ := hW.f (i := k) (by omega)
          have hsk : sYrs σ k = sY σ + 1 - sF σ k := rfl
          -- java/util/List.get
          refine z_pcallF (rest := []) (As := [.int (nI k)]) Z (j_get G l H _ tl ts hX.2.2.2.1.1 k q9 hkb (by omega) hq9) gw_X1_38 Z.K.2.2.1.2.2 gd_L_get hOt rfl hl.1 (Nat.le_of_ble_eq_true rfl) rfl dX1_isNeedless_31 ⟨⟨Nat.le_of_ble_eq_true rfl, Nat.le_of_ble_eq_true rfl⟩, Nat.le_of_ble_eq_true rfl, Nat.le_of_ble_eq_true rfl⟩ hL (fun locs hL => ?_)
          refine z_castS Z (ci := 1) rfl q206 hTy.2 dX1_isNeedless_36 ?_
          -- LinkResolver$Title.firstYear
          refine z_pcallV (rest := []) (As := []) Z (t_first G l H q9 _ _ hTy.2) gw_X1_79 gd_X1_79 rfl hTy.2 rfl hl.1 (Nat.le_of_ble_eq_true rfl) rfl dX1_isNeedless_39 ⟨⟨Nat.le_of_ble_eq_true rfl, Nat.le_of_ble_eq_true rfl⟩, Nat.le_of_ble_eq_true rfl, Nat.le_of_ble_eq_true rfl⟩ hL (fun locs hL => ?_)
          refine lv_istore (lv' := [(5, .int (sA σ 0 k)), (4, .int (nI k)), (3, .int (zb (zAll (fun t => zAll (fun m => zAll (fun q => !sLost σ j t (nI (sF σ t + m)) (nI q)) 4) (sYrs σ t)) k))), (2, .ref y9), (0, .ref o), (1, .int (nI j))]) Z.hx Z.hb dX1_isNeedless_42 hl (by decide) rfl (fun ls hl => ?_)
          cases hb9 : zAll (fun t => zAll (fun m => zAll (fun q => !sLost σ j t (nI (sF σ t + m)) (nI q)) 4) (sYrs σ t)) k with
          | false =>
            have hl := z_loc (l' := [(5, .int (sA σ 0 k)), (4, .int (nI k)), (3, .int 0), (2, .ref y9), (0, .ref o), (1, .int (nI j))]) hl (by rw [hb9]; rfl)
            refine lv_iload Z.hx Z.hb dX1_isNeedless_44 (lv_at hl 0 rfl) ?_
            refine lv_aload_n Z.hx Z.hb dX1_isNeedless_46 rfl (lv_at hl 4 rfl) ?_
            -- LinkResolver.thisYear
            refine z_pcallV (rest := [.int (sA σ 0 k)]) (As := []) Z (x_year G l H R σ n o tl pl ts ps hX hn29 hW) gw_X1_142 gd_X1_142 rfl hO rfl hl.1 (Nat.le_of_ble_eq_true rfl) rfl dX1_isNeedless_47 ⟨⟨Nat.le_of_ble_eq_true rfl, Nat.le_of_ble_eq_true rfl⟩, Nat.le_of_ble_eq_true rfl, Nat.le_of_ble_eq_true rfl⟩ hL (fun locs hL => ?_)
            refine lv_icmp_gt (tgt := 100) Z.hx Z.hb dX1_isNeedless_50 (by decide) (fun c50 => ?_) (fun c50 => ?_)
            · skip
              refine lv_iinc (v := (nI k) + 1) (lv' := [(4, .int ((nI k) + 1)), (5, .int (sA σ 0 k)), (3, .int 0), (2, .ref y9), (0, .ref o), (1, .int (nI j))]) Z.hx Z.hb dX1_isNeedless_100 hl (k := 1) rfl rfl (by decide) rfl (fun ls hl => ?_)
              refine lv_goto (tgt := 11) Z.hx Z.hb dX1_isNeedless_103 (by decide) ?_
              exact ihk (k + 1) (by omega) _ hL ls (lv_sub (z_loc (l' := [(4, .int (nI (k + 1))), (5, .int (sA σ 0 k)), (3, .int (zb (zAll (fun t => zAll (fun m => zAll (fun q => !sLost σ j t (nI (sF σ t + m)) (nI q)) 4) (sYrs σ t)) (k + 1)))), (2, .ref y9), (0, .ref o), (1, .int (nI j))]) hl (by rw [show zAll (fun t => zAll (fun m => zAll (fun q => !sLost σ j t (nI (sF σ t + m)) (nI q)) 4) (sYrs σ t)) (k + 1) = false from by show (zAll (fun t => zAll (fun m => zAll (fun q => !sLost σ j t (nI (sF σ t + m)) (nI q)) 4) (sYrs σ t)) k && _) = false; rw [hb9]; rfl, nI_succ]; rfl)) [0, 2, 3, 4, 5] rfl)
            · skip
              refine lv_iload_n Z.hx Z.hb dX1_isNeedless_53 rfl (lv_at hl 2 rfl) ?_
              refine lv_if_eq (tgt := 100) Z.hx Z.hb dX1_isNeedless_54 (by decide) (fun c54 => ?_) (fun c54 => ?_)
              · skip
                refine lv_iinc (v := (nI k) + 1) (lv' := [(4, .int ((nI k) + 1)), (5, .int (sA σ 0 k)), (3, .int 0), (2, .ref y9), (0, .ref o), (1, .int (nI j))]) Z.hx Z.hb dX1_isNeedless_100 hl (k := 1) rfl rfl (by decide) rfl (fun ls hl => ?_)
                refine lv_goto (tgt := 11) Z.hx Z.hb dX1_isNeedless_103 (by decide) ?_
                exact ihk (k + 1) (by omega) _ hL ls (lv_sub (z_loc (l' := [(4, .int (nI (k + 1))), (5, .int (sA σ 0 k)), (3, .int (zb (zAll (fun t => zAll (fun m => zAll (fun q => !sLost σ j t (nI (sF σ t + m)) (nI q)) 4) (sYrs σ t)) (k + 1)))), (2, .ref y9), (0, .ref o), (1, .int (nI j))]) hl (by rw [show zAll (fun t => zAll (fun m => zAll (fun q => !sLost σ j t (nI (sF σ t + m)) (nI q)) 4) (sYrs σ t)) (k + 1) = false from by show (zAll (fun t => zAll (fun m => zAll (fun q => !sLost σ j t (nI (sF σ t + m)) (nI q)) 4) (sYrs σ t)) k && _) = false; rw [hb9]; rfl, nI_succ]; rfl)) [0, 2, 3, 4, 5] rfl)
              · exact absurd (by decide) c54
          | true =>
            have middle : ∀ n7 m : Nat, m + n7 = (sYrs σ k) → ∀ (locs : List Loc), zL G locs → ∀ ls : Array Slot, lv_has ls 7 [(5, .int (nI (sF σ k + m))), (3, .int (zb (zAll (fun m => zAll (fun q => !sLost σ j k (nI (sF σ k + m)) (nI q)) 4) m))), (4, .int (nI k)), (2, .ref y9), (0, .ref o), (1, .int (nI j))] → W p0 l e0 (zr 9 8 48) s0 m0 args0 below0 meth0 c0 H locs (0 + 1) (0 + 6) (vx_MQ below0 (zQ (fun r H1 => r = some (.int (zb (sNeed σ (nI j).toNatClampNeg))) ∧ H1 = H ∧ kPk σ (nI j) = 0)) (zXc (fun E H1 => zKeep H H1 ∧ (E = RJ12 ∧ kPk σ (nI j) = 1))) args0 s0 8 48 (zA G)) (F0 m0 44 ls []) := by
              intro n7
              induction n7 with
              | zero =>
                intro m hmn locs hL ls hl
                have hme : m = (sYrs σ k) := hmn
                subst hme
                refine lv_iload Z.hx Z.hb dX1_isNeedless_44 (lv_at hl 0 rfl) ?_
                refine lv_aload_n Z.hx Z.hb dX1_isNeedless_46 rfl (lv_at hl 4 rfl) ?_
                -- LinkResolver.thisYear
                refine z_pcallV (rest := [.int (nI (sF σ k + (sYrs σ k)))]) (As := []) Z (x_year G l H R σ n o tl pl ts ps hX hn29 hW) gw_X1_142 gd_X1_142 rfl hO rfl hl.1 (Nat.le_of_ble_eq_true rfl) rfl dX1_isNeedless_47 ⟨⟨Nat.le_of_ble_eq_true rfl, Nat.le_of_ble_eq_true rfl⟩, Nat.le_of_ble_eq_true rfl, Nat.le_of_ble_eq_true rfl⟩ hL (fun locs hL => ?_)
                refine lv_icmp_gt (tgt := 100) Z.hx Z.hb dX1_isNeedless_50 (by decide) (fun c50 => ?_) (fun c50 => ?_)
                · skip
                  refine lv_iinc (v := (nI k) + 1) (lv' := [(4, .int ((nI k) + 1)), (5, .int (nI (sF σ k + (sYrs σ k)))), (3, .int (zb (zAll (fun m => zAll (fun q => !sLost σ j k (nI (sF σ k + m)) (nI q)) 4) (sYrs σ k)))), (2, .ref y9), (0, .ref o), (1, .int (nI j))]) Z.hx Z.hb dX1_isNeedless_100 hl (k := 2) rfl rfl (by decide) rfl (fun ls hl => ?_)
                  refine lv_goto (tgt := 11) Z.hx Z.hb dX1_isNeedless_103 (by decide) ?_
                  exact ihk (k + 1) (by omega) _ hL ls (lv_sub (z_loc (l' := [(4, .int (nI (k + 1))), (5, .int (nI (sF σ k + (sYrs σ k)))), (3, .int (zb (zAll (fun t => zAll (fun m => zAll (fun q => !sLost σ j t (nI (sF σ t + m)) (nI q)) 4) (sYrs σ t)) (k + 1)))), (2, .ref y9), (0, .ref o), (1, .int (nI j))]) hl (by rw [show zAll (fun t => zAll (fun m => zAll (fun q => !sLost σ j t (nI (sF σ t + m)) (nI q)) 4) (sYrs σ t)) (k + 1) = zAll (fun m => zAll (fun q => !sLost σ j k (nI (sF σ k + m)) (nI q)) 4) (sYrs σ k) from by show (zAll (fun t => zAll (fun m => zAll (fun q => !sLost σ j t (nI (sF σ t + m)) (nI q)) 4) (sYrs σ t)) k && zAll (fun m => zAll (fun q => !sLost σ j k (nI (sF σ k + m)) (nI q)) 4) (sYrs σ k)) = zAll (fun m => zAll (fun q => !sLost σ j k (nI (sF σ k + m)) (nI q)) 4) (sYrs σ k); rw [hb9]; rfl, nI_succ])) [0, 2, 3, 4, 5] rfl)
                · exact absurd (nI_lt (by omega) (by omega)) c50
              | succ n7 ihm =>
                intro m hmn locs hL ls hl
                have hmb : m < (sYrs σ k) := by omega
                refine lv_iload Z.hx Z.hb dX1_isNeedless_44 (lv_at hl 0 rfl) ?_
                refine lv_aload_n Z.hx Z.hb dX1_isNeedless_46 rfl (lv_at hl 4 rfl) ?_
                -- LinkResolver.thisYear
                refine z_pcallV (rest := [.int (nI (sF σ k + m))]) (As := []) Z (x_year G l H R σ n o tl pl ts ps hX hn29 hW) gw_X1_142 gd_X1_142 rfl hO rfl hl.1 (Nat.le_of_ble_eq_true rfl) rfl dX1_isNeedless_47 ⟨⟨Nat.le_of_ble_eq_true rfl, Nat.le_of_ble_eq_true rfl⟩, Nat.le_of_ble_eq_true rfl, Nat.le_of_ble_eq_true rfl⟩ hL (fun locs hL => ?_)
                refine lv_icmp_gt (tgt := 100) Z.hx Z.hb dX1_isNeedless_50 (by decide) (fun c50 => ?_) (fun c50 => ?_)
                · exact absurd c50 (nI_nlt (by omega) (by omega))
                · skip
                  refine lv_iload_n Z.hx Z.hb dX1_isNeedless_53 rfl (lv_at hl 1 rfl) ?_
                  refine lv_if_eq (tgt := 100) Z.hx Z.hb dX1_isNeedless_54 (by decide) (fun c54 => ?_) (fun c54 => ?_)
                  · skip
                    have c54 : (zAll (fun m => zAll (fun q => !sLost σ j k (nI (sF σ k + m)) (nI q)) 4) m) = false := zb_0.mp c54
                    refine lv_iinc (v := (nI k) + 1) (lv' := [(4, .int ((nI k) + 1)), (5, .int (nI (sF σ k + m))), (3, .int (zb (zAll (fun m => zAll (fun q => !sLost σ j k (nI (sF σ k + m)) (nI q)) 4) m))), (2, .ref y9), (0, .ref o), (1, .int (nI j))]) Z.hx Z.hb dX1_isNeedless_100 hl (k := 2) rfl rfl (by decide) rfl (fun ls hl => ?_)
                    refine lv_goto (tgt := 11) Z.hx Z.hb dX1_isNeedless_103 (by decide) ?_
                    exact ihk (k + 1) (by omega) _ hL ls (lv_sub (z_loc (l' := [(4, .int (nI (k + 1))), (5, .int (nI (sF σ k + m))), (3, .int (zb (zAll (fun t => zAll (fun m => zAll (fun q => !sLost σ j t (nI (sF σ t + m)) (nI q)) 4) (sYrs σ t)) (k + 1)))), (2, .ref y9), (0, .ref o), (1, .int (nI j))]) hl (by rw [show zAll (fun t => zAll (fun m => zAll (fun q => !sLost σ j t (nI (sF σ t + m)) (nI q)) 4) (sYrs σ t)) (k + 1) = zAll (fun m => zAll (fun q => !sLost σ j k (nI (sF σ k + m)) (nI q)) 4) m from by show (zAll (fun t => zAll (fun m => zAll (fun q => !sLost σ j t (nI (sF σ t + m)) (nI q)) 4) (sYrs σ t)) k && zAll (fun m => zAll (fun q => !sLost σ j k (nI (sF σ k + m)) (nI q)) 4) (sYrs σ k)) = zAll (fun m => zAll (fun q => !sLost σ j k (nI (sF σ k + m)) (nI q)) 4) m; rw [zAll_no c54 (Nat.le_of_lt hmb), c54, Bool.and_false], nI_succ])) [0, 2, 3, 4, 5] rfl)
                  · skip
                    have c54 : (zAll (fun m => zAll (fun q => !sLost σ j k (nI (sF σ k + m)) (nI q)) 4) m) = true := zb_n.mp c54
                    refine lv_iconst (v := 0) Z.hx Z.hb dX1_isNeedless_57 (by decide) ?_
                    refine lv_istore (lv' := [(6, .int 0), (5, .int (nI (sF σ k + m))), (3, .int (zb (zAll (fun m => zAll (fun q => !sLost σ j k (nI (sF σ k + m)) (nI q)) 4) m))), (4, .int (nI k)), (2, .ref y9), (0, .ref o), (1, .int (nI j))]) Z.hx Z.hb dX1_isNeedless_58 hl (by decide) rfl (fun ls hl => ?_)
                    have inner : ∀ n6 q : Nat, q + n6 = 4 → ∀ (locs : List Loc), zL G locs → ∀ ls : Array Slot, lv_has ls 7 [(6, .int (nI q)), (3, .int (zb (zAll (fun q => !sLost σ j k (nI (sF σ k + m)) (nI q)) q))), (5, .int (nI (sF σ k + m))), (4, .int (nI k)), (2, .ref y9), (0, .ref o), (1, .int (nI j))] → W p0 l e0 (zr 9 8 48) s0 m0 args0 below0 meth0 c0 H locs (0 + 1) (0 + 6) (vx_MQ below0 (zQ (fun r H1 => r = some (.int (zb (sNeed σ (nI j).toNatClampNeg))) ∧ H1 = H ∧ kPk σ (nI j) = 0)) (zXc (fun E H1 => zKeep H H1 ∧ (E = RJ12 ∧ kPk σ (nI j) = 1))) args0 s0 8 48 (zA G)) (F0 m0 60 ls []) := by
                      intro n6
                      induction n6 with
                      | zero =>
                        intro q hqn locs hL ls hl
                        have hqe : q = 4 := hqn
                        subst hqe
                        refine lv_iload Z.hx Z.hb dX1_isNeedless_60 (lv_at hl 0 rfl) ?_
                        refine lv_iconst (v := 4) Z.hx Z.hb dX1_isNeedless_62 (by decide) ?_
                        refine lv_icmp_ge (tgt := 94) Z.hx Z.hb dX1_isNeedless_63 (by decide) (fun c63 => ?_) (fun c63 => ?_)
                        · skip
                          refine lv_iinc (v := (nI (sF σ k + m)) + 1) (lv' := [(5, .int ((nI (sF σ k + m)) + 1)), (6, .int (nI 4)), (3, .int (zb (zAll (fun q => !sLost σ j k (nI (sF σ k + m)) (nI q)) 4))), (4, .int (nI k)), (2, .ref y9), (0, .ref o), (1, .int (nI j))]) Z.hx Z.hb dX1_isNeedless_94 hl (k := 2) rfl rfl (by decide) rfl (fun ls hl => ?_)
                          refine lv_goto (tgt := 44) Z.hx Z.hb dX1_isNeedless_97 (by decide) ?_
                          exact ihm (m + 1) (by omega) _ hL ls (lv_sub (z_loc (l' := [(5, .int (nI (sF σ k + (m + 1)))), (6, .int (nI 4)), (3, .int (zb (zAll (fun m => zAll (fun q => !sLost σ j k (nI (sF σ k + m)) (nI q)) 4) (m + 1)))), (4, .int (nI k)), (2, .ref y9), (0, .ref o), (1, .int (nI j))]) hl (by rw [show zAll (fun m => zAll (fun q => !sLost σ j k (nI (sF σ k + m)) (nI q)) 4) (m + 1) = zAll (fun q => !sLost σ j k (nI (sF σ k + m)) (nI q)) 4 from by show (zAll (fun m => zAll (fun q => !sLost σ j k (nI (sF σ k + m)) (nI q)) 4) m && zAll (fun q => !sLost σ j k (nI (sF σ k + m)) (nI q)) 4) = _; rw [c54]; rfl, show nI (sF σ k + (m + 1)) = nI (sF σ k + m) + 1 from nI_succ _])) [0, 2, 3, 4, 5, 6] rfl)
                        · exact absurd (Int32.le_refl _) c63
                      | succ n6 ihq =>
                        intro q hqn locs hL ls hl
                        have hqb : q < 4 := by omega
                        refine lv_iload Z.hx Z.hb dX1_isNeedless_60 (lv_at hl 0 rfl) ?_
                        refine lv_iconst (v := 4) Z.hx Z.hb dX1_isNeedless_62 (by decide) ?_
                        refine lv_icmp_ge (tgt := 94) Z.hx Z.hb dX1_isNeedless_63 (by decide) (fun c63 => ?_) (fun c63 => ?_)
                        · exact absurd c63 (show ¬ nI 4 ≤ nI q from nI_ge hqb (by omega))
                        · skip
                          refine lv_iload_n Z.hx Z.hb dX1_isNeedless_66 rfl (lv_at hl 1 rfl) ?_
                          refine lv_aload_n Z.hx Z.hb dX1_isNeedless_67 rfl (lv_at hl 5 rfl) ?_
                          refine lv_aload_n Z.hx Z.hb dX1_isNeedless_68 rfl (lv_at hl 4 rfl) ?_
                          refine lv_iload Z.hx Z.hb dX1_isNeedless_69 (lv_at hl 3 rfl) ?_
                          refine lv_iload Z.hx Z.hb dX1_isNeedless_71 (lv_at hl 2 rfl) ?_
                          refine lv_iload Z.hx Z.hb dX1_isNeedless_73 (lv_at hl 0 rfl) ?_
                          -- LinkResolver.wouldBeLost
                          refine z_pcallV (rest := [.int (zb (zAll (fun q => !sLost σ j k (nI (sF σ k + m)) (nI q)) q))]) (As := [.ref y9, .int (nI k), .int (nI (sF σ k + m)), .int (nI q)]) Z (x_lost G l H R σ n o tl pl ts ps hX hn29 hW k (by omega) j y9 hy9 (nI (sF σ k + m)) (nI q)) gw_X1_149 gd_X1_149 rfl hO rfl hl.1 (Nat.le_of_ble_eq_true rfl) rfl dX1_isNeedless_75 ⟨⟨Nat.le_of_ble_eq_true rfl, Nat.le_of_ble_eq_true rfl⟩, Nat.le_of_ble_eq_true rfl, Nat.le_of_ble_eq_true rfl⟩ hL (fun locs hL => ?_)
                          refine lv_if_ne (tgt := 85) Z.hx Z.hb dX1_isNeedless_78 (by decide) (fun c75 => ?_) (fun c75 => ?_)
                          · skip
                            have c75 : (sLost σ j k (nI (sF σ k + m)) (nI q)) = true := zb_n.mp c75
                            refine lv_iconst (v := 0) Z.hx Z.hb dX1_isNeedless_85 (by decide) ?_
                            refine lv_iand Z.hx Z.hb dX1_isNeedless_86 ?_
                            refine lv_istore_n (lv' := [(3, .int ((zb (zAll (fun q => !sLost σ j k (nI (sF σ k + m)) (nI q)) q)) &&& 0)), (6, .int (nI q)), (5, .int (nI (sF σ k + m))), (4, .int (nI k)), (2, .ref y9), (0, .ref o), (1, .int (nI j))]) Z.hx Z.hb dX1_isNeedless_87 rfl hl (by decide) rfl (fun ls hl => ?_)
                            refine lv_iinc (v := (nI q) + 1) (lv' := [(6, .int ((nI q) + 1)), (3, .int ((zb (zAll (fun q => !sLost σ j k (nI (sF σ k + m)) (nI q)) q)) &&& 0)), (5, .int (nI (sF σ k + m))), (4, .int (nI k)), (2, .ref y9), (0, .ref o), (1, .int (nI j))]) Z.hx Z.hb dX1_isNeedless_88 hl (k := 1) rfl rfl (by decide) rfl (fun ls hl => ?_)
                            refine lv_goto (tgt := 60) Z.hx Z.hb dX1_isNeedless_91 (by decide) ?_
                            exact ihq (q + 1) (by omega) _ hL ls (lv_sub (z_loc (l' := [(6, .int (nI (q + 1))), (3, .int (zb (zAll (fun q => !sLost σ j k (nI (sF σ k + m)) (nI q)) (q + 1)))), (5, .int (nI (sF σ k + m))), (4, .int (nI k)), (2, .ref y9), (0, .ref o), (1, .int (nI j))]) hl (by rw [show zAll (fun q => !sLost σ j k (nI (sF σ k + m)) (nI q)) (q + 1) = false from by show (zAll (fun q => !sLost σ j k (nI (sF σ k + m)) (nI q)) q && !sLost σ j k (nI (sF σ k + m)) (nI q)) = _; rw [c75]; exact Bool.and_false _, nI_succ, zb_a0]; rfl)) [0, 1, 2, 3, 4, 5, 6] rfl)
                          · skip
                            have c75 : (sLost σ j k (nI (sF σ k + m)) (nI q)) = false := zb_0.mp c75
                            refine lv_iconst (v := 1) Z.hx Z.hb dX1_isNeedless_81 (by decide) ?_
                            refine lv_goto (tgt := 86) Z.hx Z.hb dX1_isNeedless_82 (by decide) ?_
                            refine lv_iand Z.hx Z.hb dX1_isNeedless_86 ?_
                            refine lv_istore_n (lv' := [(3, .int ((zb (zAll (fun q => !sLost σ j k (nI (sF σ k + m)) (nI q)) q)) &&& 1)), (6, .int (nI q)), (5, .int (nI (sF σ k + m))), (4, .int (nI k)), (2, .ref y9), (0, .ref o), (1, .int (nI j))]) Z.hx Z.hb dX1_isNeedless_87 rfl hl (by decide) rfl (fun ls hl => ?_)
                            refine lv_iinc (v := (nI q) + 1) (lv' := [(6, .int ((nI q) + 1)), (3, .int ((zb (zAll (fun q => !sLost σ j k (nI (sF σ k + m)) (nI q)) q)) &&& 1)), (5, .int (nI (sF σ k + m))), (4, .int (nI k)), (2, .ref y9), (0, .ref o), (1, .int (nI j))]) Z.hx Z.hb dX1_isNeedless_88 hl (k := 1) rfl rfl (by decide) rfl (fun ls hl => ?_)
                            refine lv_goto (tgt := 60) Z.hx Z.hb dX1_isNeedless_91 (by decide) ?_
                            exact ihq (q + 1) (by omega) _ hL ls (lv_sub (z_loc (l' := [(6, .int (nI (q + 1))), (3, .int (zb (zAll (fun q => !sLost σ j k (nI (sF σ k + m)) (nI q)) (q + 1)))), (5, .int (nI (sF σ k + m))), (4, .int (nI k)), (2, .ref y9), (0, .ref o), (1, .int (nI j))]) hl (by rw [show zAll (fun q => !sLost σ j k (nI (sF σ k + m)) (nI q)) (q + 1) = zAll (fun q => !sLost σ j k (nI (sF σ k + m)) (nI q)) q from by show (zAll (fun q => !sLost σ j k (nI (sF σ k + m)) (nI q)) q && !sLost σ j k (nI (sF σ k + m)) (nI q)) = _; rw [c75]; exact Bool.and_true _, nI_succ, zb_a1])) [0, 1, 2, 3, 4, 5, 6] rfl)
                    exact inner 4 0 (by omega) _ hL ls (lv_sub (z_loc (l' := [(6, .int (nI 0)), (5, .int (nI (sF σ k + m))), (3, .int (zb (zAll (fun q => !sLost σ j k (nI (sF σ k + m)) (nI q)) 0))), (4, .int (nI k)), (2, .ref y9), (0, .ref o), (1, .int (nI j))]) hl (by rw [c54]; rfl)) [0, 2, 1, 3, 4, 5, 6] rfl)
            exact middle (sYrs σ k) 0 (by omega) _ hL ls (lv_sub (z_loc (l' := [(5, .int (nI (sF σ k + 0))), (4, .int (nI k)), (3, .int (zb (zAll (fun m => zAll (fun q => !sLost σ j k (nI (sF σ k + m)) (nI q)) 4) 0))), (2, .ref y9), (0, .ref o), (1, .int (nI j))]) hl (by rw [hG2, hb9]; rfl)) [0, 2, 1, 3, 4, 5] rfl)
    exact outer ts.length 0 (by omega) _ hL ls (lv_sub (z_loc (l' := [(4, .int (nI 0)), (3, .int (zb (zAll (fun t => zAll (fun m => zAll (fun q => !sLost σ j t (nI (sF σ t + m)) (nI q)) 4) (sYrs σ t)) 0))), (2, .ref y9), (0, .ref o), (1, .int (nI j))]) hl (by rfl)) [0, 1, 2, 3, 4] rfl)
