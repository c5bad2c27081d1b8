/-! the component: what it answers -/
def xE (A B : String) (k : Int32) (E : String) : Prop := (E = A ∧ k = 1) ∨ (E = B ∧ k = 2)
theorem zO.val {G : zG} {H : Heap} {a ci : Nat} {fs fs' : List Value} (h : zO G H a ci fs) (h' : zO G H a ci fs') {r : vw_C} (hc : zCl[ci]? = some r) {k : Nat} (hk : k < r.2.2) : vp_V fs k = vp_V fs' k := by
  obtain ⟨r1, e1, c1, q1, -, -, s1⟩ := h
  obtain ⟨r2, e2, c2, q2, -, -, s2⟩ := h'
  have e1 : zCl[ci]? = some r1 := e1
  have e2 : zCl[ci]? = some r2 := e2
  rw [hc] at e1 e2
  cases e1
  cases e2
  have q1 : H[a]? = some c1 := q1
  rw [q1] at q2
  cases q2
  exact Option.some.inj ((s1 k hk).symm.trans (s2 k hk))
theorem xOp.uq {G : zG} {H : Heap} {R : xRo} {σ : zS} {n o tl pl : Nat} {ts ps : List Nat} (h : xOp G H R σ n o tl pl ts ps) (hP : sP σ ≤ 10) {i j y : Nat} (hi : ps[i]? = some y) (hj : ps[j]? = some y) : i = j := by
  have h1 := (List.getElem?_eq_some_iff.mp hi).1
  have h2 := (List.getElem?_eq_some_iff.mp hj).1
  rw [h.2.2.2.2.2.1] at h1 h2
  obtain ⟨_, _, _, _, g1, _⟩ := h.2.2.2.2.2.2 i y hi
  obtain ⟨_, _, _, _, g2, _⟩ := h.2.2.2.2.2.2 j y hj
  have e := g1.val g2 (r := _) rfl (k := 0) (by decide)
  have e : Value.int (nI i) = Value.int (nI j) := e
  injection e with e
  exact (nI_eq (by omega) (by omega)).mp e
/-- a volume's number: both ways to test it -/
theorem kYear_b {w v f : Int32} (hf : 0 ≤ f ∧ f ≤ 55) (hv : 1 ≤ v ∧ v ≤ 4) : mBt w 1 (v * (55 - f + 1)) = !(decide (w < 1) || !decide ((w - 1) / v ≤ 55 - f)) := by
  obtain ⟨F, hF, rfl⟩ := nI_of2 (x := f) (M := 55) (n := 55) (by decide) (Int32.not_lt.mpr hf.1) hf.2
  obtain ⟨V, hV, rfl⟩ := nI_of2 (x := v) (M := 4) (n := 4) (by decide) (Int32.not_lt.mpr (Int32.le_trans (by decide) hv.1)) hv.2
  have hV1 : 1 ≤ V := by
    have h1 : nI 1 ≤ nI V := hv.1
    exact (nI_leI (by omega) (by omega)).mp h1
  have e55 : (55 : Int32) - nI F = nI (55 - F) := by
    have : nI 55 = nI (55 - F) + nI F := by rw [nI_add]; exact congrArg nI (by omega)
    rw [show (55 : Int32) = nI 55 from rfl, this, Int32.add_sub_cancel]
  have em : nI V * (55 - nI F + 1) = nI (V * (56 - F)) := by
    rw [e55, show (1 : Int32) = nI 1 from rfl, nI_add, pk_mul]
    exact congrArg (fun z => nI (V * z)) (by omega)
  have hb : V * (56 - F) ≤ 4 * 56 := Nat.mul_le_mul hV (by omega)
  unfold mBt
  rw [em, e55]
  by_cases c : w < 1
  · rw [decide_eq_true c]
    rfl
  · rw [decide_eq_false c]
    have h0 : ¬ w < 0 := fun z => c (Int32.lt_trans z (by decide))
    obtain ⟨W, hW, rfl⟩ := nI_of h0
    have hW1 : 1 ≤ W := by
      have h1 : ¬ nI W < nI 1 := c
      rcases Nat.lt_or_ge W 1 with g | g
      · exact absurd (nI_lt g (by omega)) h1
      · exact g
    obtain ⟨W, rfl⟩ : ∃ k, W = k + 1 := ⟨W - 1, by omega⟩
    rw [nI_pred, pk_div (by omega) (by omega) (by omega)]
    have hd : W / V ≤ W := Nat.div_le_self W V
    have e1 : nI (V * (56 - F)) < nI (W + 1) ↔ V * (56 - F) < W + 1 := ⟨fun z => by
      rcases Nat.lt_or_ge (V * (56 - F)) (W + 1) with g | g
      · exact g
      · exact absurd z (nI_nlt g (by omega)), fun z => nI_lt z (by omega)⟩
    have e2 : nI (W / V) ≤ nI (55 - F) ↔ W / V ≤ 55 - F := nI_leI (by omega) (by omega)
    have e3 : W / V < 56 - F ↔ W < (56 - F) * V := Nat.div_lt_iff_lt_mul (by omega)
    rw [decide_eq_decide.mpr e1, decide_eq_decide.mpr e2]
    rw [Nat.mul_comm] at e3
    by_cases g : W / V ≤ 55 - F
    · rw [decide_eq_true g, decide_eq_false (show ¬ V * (56 - F) < W + 1 by omega)]
      rfl
    · rw [decide_eq_false g, decide_eq_true (show V * (56 - F) < W + 1 by omega)]
      rfl
set_option maxHeartbeats 4000000 in
set_option maxRecDepth 100000 in
theorem x_today (G : zG) (l : Launch) (H : Heap) (R : xRo) (σ : zS) (n o tl pl : Nat) (ts ps : List Nat) (hX : xOp G H R σ n o tl pl ts ps) (hn29 : n < 2 ^ 29) (hW : sWf σ) : zMp G l yX1_today cX1_today 1 (Option.some Jvm.ClassFile.FieldType.int) 0 [.ref o] H (.int (sT σ)) := by
  obtain ⟨mt9, dt9, hOt⟩ := hX.tO
  obtain ⟨mp9, dp9, hOp⟩ := hX.pO
  have hO := hX.ob
  have htl : ts.length = sN σ := hX.2.2.2.1.2.1
  have hpl : ps.length = sP σ := hX.2.2.2.2.2.1
  have hN20 : sN σ ≤ 20 := hW.2.1
  have hP10 : sP σ ≤ 10 := hW.2.2.1
  refine zM.of (by decide +kernel) (Nat.le_of_ble_eq_true rfl) ?_
  intro p0 e0 s0 m0 args0 below0 meth0 c0 Z hr hH hn0 ls hl
  have Z : zC G p0 s0 m0 args0 meth0 c0 RX1 cX1_today 1 := Z
  have hl : lv_has ls 1 [(0, .ref o)] := hl
  have hL : zL G [] := zL.nil
  refine lv_aload_n Z.hx Z.hb dX1_today_0 rfl (lv_at hl 0 rfl) ?_
  refine gf_X1_62 Z hO (v := .int (sT σ)) rfl dX1_today_1 ?_
  exact z_iret Z hr hL (⟨rfl, rfl⟩) (Nat.le_of_ble_eq_true rfl) (Nat.le_of_ble_eq_true rfl) dX1_today_4
set_option maxHeartbeats 4000000 in
set_option maxRecDepth 100000 in
theorem x_yearOf (G : zG) (l : Launch) (hl0 : l.stackTraces = false) (H : Heap) (R : xRo) (σ : zS) (n o tl pl : Nat) (ts ps : List Nat) (hX : xOp G H R σ n o tl pl ts ps) (hn29 : n < 2 ^ 29) (hW : sWf σ) (t w : Int32) : zXp G l yX1_yearOf cX1_yearOf 4 (Option.some Jvm.ClassFile.FieldType.int) 9 8 48 [.ref o, .int t, .int w] H (.int (sA σ 0 t.toNatClampNeg + (w - 1) / sA σ 1 t.toNatClampNeg)) (kYear σ t w = 0) (xE RJ12 RJ6 (kYear σ t w)) := by
  obtain ⟨mt9, dt9, hOt⟩ := hX.tO
  obtain ⟨mp9, dp9, hOp⟩ := hX.pO
  have hO := hX.ob
  have htl : ts.length = sN σ := hX.2.2.2.1.2.1
  have hpl : ps.length = sP σ := hX.2.2.2.2.2.1
  have hN20 : sN σ ≤ 20 := hW.2.1
  have hP10 : sP σ ≤ 10 := hW.2.2.1
  refine zX.of (by decide +kernel) (Nat.le_of_ble_eq_true rfl) ?_
  intro p0 e0 s0 m0 args0 below0 meth0 c0 Z hr hxt hH ls hl
  have Z : zC G p0 s0 m0 args0 meth0 c0 RX1 cX1_yearOf 4 := Z
  have hl : lv_has ls 4 [(0, .ref o), (1, .int t), (2, .int w)] := hl
  have hL : zL G [] := zL.nil
  rcases hc9 : mIs t (nI (sN σ)) with _ | _
  · skip
    refine lv_aload_n Z.hx Z.hb dX1_yearOf_0 rfl (lv_at hl 0 rfl) ?_
    refine lv_iload_n Z.hx Z.hb dX1_yearOf_1 rfl (lv_at hl 1 rfl) ?_
    -- LinkResolver.title
    refine z_xpcallV (rest := []) (As := [.int t]) Z (x_title_no G l hl0 H R σ n o tl pl ts ps hX hn29 hW t hc9) gw_X1_50 gd_X1_50 rfl hO rfl hl.1 (Nat.le_of_ble_eq_true rfl) rfl dX1_yearOf_2 ⟨⟨Nat.le_of_ble_eq_true rfl, Nat.le_of_ble_eq_true rfl⟩, Nat.le_of_ble_eq_true rfl, Nat.le_of_ble_eq_true rfl⟩ hL (fun E_ ce_ q_ H_ locs hL hk_ hx_ h1_ h2_ h3_ => z_out Z hxt hL ⟨hk_, Or.inl ⟨hx_, by simp [kYear, kIf, hc9]⟩⟩ h1_ h2_ h3_ (Nat.le_of_ble_eq_true rfl) (Nat.le_of_ble_eq_true rfl)) (fun locs hL c2 => ?_)
    exact c2.elim
  · obtain ⟨j, hj, rfl⟩ := mIs_nI (by omega) hc9
    have hjc : (nI j).toNatClampNeg = j := nI_clamp (by omega)
    obtain ⟨y9, hy9⟩ := hX.ty hj
    have hTy := hX.2.2.2.1.2.2 j y9 hy9
    have hj20 : j < 20 := by omega
    obtain ⟨hF9, hV9⟩ := hW.2.2.2.1 j hj
    have hk9 := kYear_b (w := w) hF9 hV9
    have hk1 : mBt w 1 (sA σ 1 j * (55 - sA σ 0 j + 1)) = false → kYear σ (nI j) w = 2 := by
      intro z
      rw [hk9, Bool.not_eq_false'] at z
      unfold kYear
      rw [hc9, hjc, z]
      rfl
    have hk0 : mBt w 1 (sA σ 1 j * (55 - sA σ 0 j + 1)) = true → kYear σ (nI j) w = 0 := by
      intro z
      rw [hk9, Bool.not_eq_true'] at z
      unfold kYear
      rw [hc9, hjc, z]
      rfl
    have hne9 : ¬ sA σ 1 j = 0 := fun z => absurd (z ▸ hV9.1) (by decide)
    refine lv_aload_n Z.hx Z.hb dX1_yearOf_0 rfl (lv_at hl 0 rfl) ?_
    refine lv_iload_n Z.hx Z.hb dX1_yearOf_1 rfl (lv_at hl 1 rfl) ?_
    -- LinkResolver.title
    refine z_xpcallV (rest := []) (As := [.int (nI j)]) Z (x_title G l hl0 H R σ n o tl pl ts ps hX hn29 hW j y9 hy9) gw_X1_50 gd_X1_50 rfl hO rfl hl.1 (Nat.le_of_ble_eq_true rfl) rfl dX1_yearOf_2 ⟨⟨Nat.le_of_ble_eq_true rfl, Nat.le_of_ble_eq_true rfl⟩, Nat.le_of_ble_eq_true rfl, Nat.le_of_ble_eq_true rfl⟩ hL (fun E_ ce_ q_ H_ locs hL hk_ hx_ h1_ h2_ h3_ => hx_.elim) (fun locs hL c2 => ?_)
    refine lv_astore_n (lv' := [(3, .ref y9), (0, .ref o), (1, .int (nI j)), (2, .int w)]) Z.hx Z.hb dX1_yearOf_5 rfl hl (by decide) rfl (fun ls hl => ?_)
    refine lv_iload_n Z.hx Z.hb dX1_yearOf_6 rfl (lv_at hl 3 rfl) ?_
    refine lv_iconst (v := 1) Z.hx Z.hb dX1_yearOf_7 (by decide) ?_
    refine lv_aload_n Z.hx Z.hb dX1_yearOf_8 rfl (lv_at hl 0 rfl) ?_
    -- LinkResolver$Title.volumes
    refine z_pcallV (rest := [.int 1, .int w]) (As := []) Z (t_vols G l H y9 _ _ hTy.2) gw_X1_76 gd_X1_76 rfl hTy.2 rfl hl.1 (Nat.le_of_ble_eq_true rfl) rfl dX1_yearOf_9 ⟨⟨Nat.le_of_ble_eq_true rfl, Nat.le_of_ble_eq_true rfl⟩, Nat.le_of_ble_eq_true rfl, Nat.le_of_ble_eq_true rfl⟩ hL (fun locs hL => ?_)
    refine lv_bipush (v := 55) Z.hx Z.hb dX1_yearOf_12 (by decide) ?_
    refine lv_aload_n Z.hx Z.hb dX1_yearOf_14 rfl (lv_at hl 0 rfl) ?_
    -- LinkResolver$Title.firstYear
    refine z_pcallV (rest := [.int 55, .int (sA σ 1 j), .int 1, .int w]) (As := []) Z (t_first G l H y9 _ _ hTy.2) gw_X1_79 gd_X1_79 rfl hTy.2 rfl hl.1 (Nat.le_of_ble_eq_true rfl) rfl dX1_yearOf_15 ⟨⟨Nat.le_of_ble_eq_true rfl, Nat.le_of_ble_eq_true rfl⟩, Nat.le_of_ble_eq_true rfl, Nat.le_of_ble_eq_true rfl⟩ hL (fun locs hL => ?_)
    refine lv_isub Z.hx Z.hb dX1_yearOf_18 ?_
    refine lv_iconst (v := 1) Z.hx Z.hb dX1_yearOf_19 (by decide) ?_
    refine lv_iadd Z.hx Z.hb dX1_yearOf_20 ?_
    refine lv_imul Z.hx Z.hb dX1_yearOf_21 ?_
    -- LinkResolver.check
    refine z_xpcallS0 (rest := []) (As := [.int w, .int 1, .int ((sA σ 1 j) * ((55 - (sA σ 0 j)) + 1))]) Z (x_check G l hl0 H w 1 (sA σ 1 j * (55 - sA σ 0 j + 1))) gw_X1_54 gd_X1_54 rfl hl.1 (Nat.le_of_ble_eq_true rfl) rfl dX1_yearOf_22 ⟨⟨Nat.le_of_ble_eq_true rfl, Nat.le_of_ble_eq_true rfl⟩, Nat.le_of_ble_eq_true rfl, Nat.le_of_ble_eq_true rfl⟩ hL (fun E_ ce_ q_ H_ locs hL hk_ hx_ h1_ h2_ h3_ => z_out Z hxt hL ⟨hk_, Or.inr ⟨hx_.1, hk1 hx_.2⟩⟩ h1_ h2_ h3_ (Nat.le_of_ble_eq_true rfl) (Nat.le_of_ble_eq_true rfl)) (fun locs hL c22 => ?_)
    refine lv_aload_n Z.hx Z.hb dX1_yearOf_25 rfl (lv_at hl 0 rfl) ?_
    -- LinkResolver$Title.firstYear
    refine z_pcallV (rest := []) (As := []) Z (t_first G l H y9 _ _ hTy.2) gw_X1_79 gd_X1_79 rfl hTy.2 rfl hl.1 (Nat.le_of_ble_eq_true rfl) rfl dX1_yearOf_26 ⟨⟨Nat.le_of_ble_eq_true rfl, Nat.le_of_ble_eq_true rfl⟩, Nat.le_of_ble_eq_true rfl, Nat.le_of_ble_eq_true rfl⟩ hL (fun locs hL => ?_)
    refine lv_iload_n Z.hx Z.hb dX1_yearOf_29 rfl (lv_at hl 3 rfl) ?_
    refine lv_iconst (v := 1) Z.hx Z.hb dX1_yearOf_30 (by decide) ?_
    refine lv_isub Z.hx Z.hb dX1_yearOf_31 ?_
    refine lv_aload_n Z.hx Z.hb dX1_yearOf_32 rfl (lv_at hl 0 rfl) ?_
    -- LinkResolver$Title.volumes
    refine z_pcallV (rest := [.int (w - 1), .int (sA σ 0 j)]) (As := []) Z (t_vols G l H y9 _ _ hTy.2) gw_X1_76 gd_X1_76 rfl hTy.2 rfl hl.1 (Nat.le_of_ble_eq_true rfl) rfl dX1_yearOf_33 ⟨⟨Nat.le_of_ble_eq_true rfl, Nat.le_of_ble_eq_true rfl⟩, Nat.le_of_ble_eq_true rfl, Nat.le_of_ble_eq_true rfl⟩ hL (fun locs hL => ?_)
    refine lv_idiv Z.hx Z.hb dX1_yearOf_36 (hne9) ?_
    refine lv_iadd Z.hx Z.hb dX1_yearOf_37 ?_
    exact zx_iret Z hr hL (⟨by rw [hjc], rfl, hk0 c22⟩) (Nat.le_of_ble_eq_true rfl) (Nat.le_of_ble_eq_true rfl) dX1_yearOf_38
set_option maxHeartbeats 4000000 in
set_option maxRecDepth 100000 in
theorem x_volumeOf (G : zG) (l : Launch) (hl0 : l.stackTraces = false) (H : Heap) (R : xRo) (σ : zS) (n o tl pl : Nat) (ts ps : List Nat) (hX : xOp G H R σ n o tl pl ts ps) (hn29 : n < 2 ^ 29) (hW : sWf σ) (t y : Int32) : zXp G l yX1_volumeOf cX1_volumeOf 4 (Option.some Jvm.ClassFile.FieldType.int) 9 8 48 [.ref o, .int t, .int y] H (.int ((y - sA σ 0 t.toNatClampNeg) * sA σ 1 t.toNatClampNeg + 1)) (kVol σ t y = 0) (xE RJ12 RJ6 (kVol σ t y)) := by
  obtain ⟨mt9, dt9, hOt⟩ := hX.tO
  obtain ⟨mp9, dp9, hOp⟩ := hX.pO
  have hO := hX.ob
  have htl : ts.length = sN σ := hX.2.2.2.1.2.1
  have hpl : ps.length = sP σ := hX.2.2.2.2.2.1
  have hN20 : sN σ ≤ 20 := hW.2.1
  have hP10 : sP σ ≤ 10 := hW.2.2.1
  refine zX.of (by decide +kernel) (Nat.le_of_ble_eq_true rfl) ?_
  intro p0 e0 s0 m0 args0 below0 meth0 c0 Z hr hxt hH ls hl
  have Z : zC G p0 s0 m0 args0 meth0 c0 RX1 cX1_volumeOf 4 := Z
  have hl : lv_has ls 4 [(0, .ref o), (1, .int t), (2, .int y)] := hl
  have hL : zL G [] := zL.nil
  rcases hc9 : mIs t (nI (sN σ)) with _ | _
  · skip
    refine lv_aload_n Z.hx Z.hb dX1_volumeOf_0 rfl (lv_at hl 0 rfl) ?_
    refine lv_iload_n Z.hx Z.hb dX1_volumeOf_1 rfl (lv_at hl 1 rfl) ?_
    -- LinkResolver.title
    refine z_xpcallV (rest := []) (As := [.int t]) Z (x_title_no G l hl0 H R σ n o tl pl ts ps hX hn29 hW t hc9) gw_X1_50 gd_X1_50 rfl hO rfl hl.1 (Nat.le_of_ble_eq_true rfl) rfl dX1_volumeOf_2 ⟨⟨Nat.le_of_ble_eq_true rfl, Nat.le_of_ble_eq_true rfl⟩, Nat.le_of_ble_eq_true rfl, Nat.le_of_ble_eq_true rfl⟩ hL (fun E_ ce_ q_ H_ locs hL hk_ hx_ h1_ h2_ h3_ => z_out Z hxt hL ⟨hk_, Or.inl ⟨hx_, by simp [kVol, kIf, hc9]⟩⟩ h1_ h2_ h3_ (Nat.le_of_ble_eq_true rfl) (Nat.le_of_ble_eq_true rfl)) (fun locs hL c2 => ?_)
    exact c2.elim
  · obtain ⟨j, hj, rfl⟩ := mIs_nI (by omega) hc9
    have hjc : (nI j).toNatClampNeg = j := nI_clamp (by omega)
    obtain ⟨y9, hy9⟩ := hX.ty hj
    have hTy := hX.2.2.2.1.2.2 j y9 hy9
    have hj20 : j < 20 := by omega
    refine lv_aload_n Z.hx Z.hb dX1_volumeOf_0 rfl (lv_at hl 0 rfl) ?_
    refine lv_iload_n Z.hx Z.hb dX1_volumeOf_1 rfl (lv_at hl 1 rfl) ?_
    -- LinkResolver.title
    refine z_xpcallV (rest := []) (As := [.int (nI j)]) Z (x_title G l hl0 H R σ n o tl pl ts ps hX hn29 hW j y9 hy9) gw_X1_50 gd_X1_50 rfl hO rfl hl.1 (Nat.le_of_ble_eq_true rfl) rfl dX1_volumeOf_2 ⟨⟨Nat.le_of_ble_eq_true rfl, Nat.le_of_ble_eq_true rfl⟩, Nat.le_of_ble_eq_true rfl, Nat.le_of_ble_eq_true rfl⟩ hL (fun E_ ce_ q_ H_ locs hL hk_ hx_ h1_ h2_ h3_ => hx_.elim) (fun locs hL c2 => ?_)
    refine lv_astore_n (lv' := [(3, .ref y9), (0, .ref o), (1, .int (nI j)), (2, .int y)]) Z.hx Z.hb dX1_volumeOf_5 rfl hl (by decide) rfl (fun ls hl => ?_)
    refine lv_iload_n Z.hx Z.hb dX1_volumeOf_6 rfl (lv_at hl 3 rfl) ?_
    refine lv_aload_n Z.hx Z.hb dX1_volumeOf_7 rfl (lv_at hl 0 rfl) ?_
    -- LinkResolver$Title.firstYear
    refine z_pcallV (rest := [.int y]) (As := []) Z (t_first G l H y9 _ _ hTy.2) gw_X1_79 gd_X1_79 rfl hTy.2 rfl hl.1 (Nat.le_of_ble_eq_true rfl) rfl dX1_volumeOf_8 ⟨⟨Nat.le_of_ble_eq_true rfl, Nat.le_of_ble_eq_true rfl⟩, Nat.le_of_ble_eq_true rfl, Nat.le_of_ble_eq_true rfl⟩ hL (fun locs hL => ?_)
    refine lv_bipush (v := 55) Z.hx Z.hb dX1_volumeOf_11 (by decide) ?_
    -- LinkResolver.check
    refine z_xpcallS0 (rest := []) (As := [.int y, .int (sA σ 0 j), .int 55]) Z (x_check G l hl0 H y (sA σ 0 j) 55) gw_X1_54 gd_X1_54 rfl hl.1 (Nat.le_of_ble_eq_true rfl) rfl dX1_volumeOf_13 ⟨⟨Nat.le_of_ble_eq_true rfl, Nat.le_of_ble_eq_true rfl⟩, Nat.le_of_ble_eq_true rfl, Nat.le_of_ble_eq_true rfl⟩ hL (fun E_ ce_ q_ H_ locs hL hk_ hx_ h1_ h2_ h3_ => z_out Z hxt hL ⟨hk_, Or.inr ⟨hx_.1, by simp [kVol, kIf, kPT, hc9, hjc, hx_.2]⟩⟩ h1_ h2_ h3_ (Nat.le_of_ble_eq_true rfl) (Nat.le_of_ble_eq_true rfl)) (fun locs hL c13 => ?_)
    refine lv_iload_n Z.hx Z.hb dX1_volumeOf_16 rfl (lv_at hl 3 rfl) ?_
    refine lv_aload_n Z.hx Z.hb dX1_volumeOf_17 rfl (lv_at hl 0 rfl) ?_
    -- LinkResolver$Title.firstYear
    refine z_pcallV (rest := [.int y]) (As := []) Z (t_first G l H y9 _ _ hTy.2) gw_X1_79 gd_X1_79 rfl hTy.2 rfl hl.1 (Nat.le_of_ble_eq_true rfl) rfl dX1_volumeOf_18 ⟨⟨Nat.le_of_ble_eq_true rfl, Nat.le_of_ble_eq_true rfl⟩, Nat.le_of_ble_eq_true rfl, Nat.le_of_ble_eq_true rfl⟩ hL (fun locs hL => ?_)
    refine lv_isub Z.hx Z.hb dX1_volumeOf_21 ?_
    refine lv_aload_n Z.hx Z.hb dX1_volumeOf_22 rfl (lv_at hl 0 rfl) ?_
    -- LinkResolver$Title.volumes
    refine z_pcallV (rest := [.int (y - (sA σ 0 j))]) (As := []) Z (t_vols G l H y9 _ _ hTy.2) gw_X1_76 gd_X1_76 rfl hTy.2 rfl hl.1 (Nat.le_of_ble_eq_true rfl) rfl dX1_volumeOf_23 ⟨⟨Nat.le_of_ble_eq_true rfl, Nat.le_of_ble_eq_true rfl⟩, Nat.le_of_ble_eq_true rfl, Nat.le_of_ble_eq_true rfl⟩ hL (fun locs hL => ?_)
    refine lv_imul Z.hx Z.hb dX1_volumeOf_26 ?_
    refine lv_iconst (v := 1) Z.hx Z.hb dX1_volumeOf_27 (by decide) ?_
    refine lv_iadd Z.hx Z.hb dX1_volumeOf_28 ?_
    exact zx_iret Z hr hL (⟨by rw [hjc], rfl, by simp [kVol, kIf, kPT, hc9, hjc, c13]⟩) (Nat.le_of_ble_eq_true rfl) (Nat.le_of_ble_eq_true rfl) dX1_volumeOf_29
set_option maxHeartbeats 4000000 in
set_option maxRecDepth 100000 in
theorem x_isSubscribed (G : zG) (l : Launch) (hl0 : l.stackTraces = false) (H : Heap) (R : xRo) (σ : zS) (n o tl pl : Nat) (ts ps : List Nat) (hX : xOp G H R σ n o tl pl ts ps) (hn29 : n < 2 ^ 29) (hW : sWf σ) (p d : Int32) : zXp G l yX1_isSubscribed cX1_isSubscribed 4 (Option.some Jvm.ClassFile.FieldType.boolean) 9 8 48 [.ref o, .int p, .int d] H (.int (zb (sOn (sL σ p.toNatClampNeg 20 d)))) (kSub σ p d = 0) (xE RJ12 RJ6 (kSub σ p d)) := by
  obtain ⟨mt9, dt9, hOt⟩ := hX.tO
  obtain ⟨mp9, dp9, hOp⟩ := hX.pO
  have hO := hX.ob
  have htl : ts.length = sN σ := hX.2.2.2.1.2.1
  have hpl : ps.length = sP σ := hX.2.2.2.2.2.1
  have hN20 : sN σ ≤ 20 := hW.2.1
  have hP10 : sP σ ≤ 10 := hW.2.2.1
  refine zX.of (by decide +kernel) (Nat.le_of_ble_eq_true rfl) ?_
  intro p0 e0 s0 m0 args0 below0 meth0 c0 Z hr hxt hH ls hl
  have Z : zC G p0 s0 m0 args0 meth0 c0 RX1 cX1_isSubscribed 4 := Z
  have hl : lv_has ls 4 [(0, .ref o), (1, .int p), (2, .int d)] := hl
  have hL : zL G [] := zL.nil
  rcases hc9 : mIs p (nI (sP σ)) with _ | _
  · skip
    refine lv_aload_n Z.hx Z.hb dX1_isSubscribed_0 rfl (lv_at hl 0 rfl) ?_
    refine lv_iload_n Z.hx Z.hb dX1_isSubscribed_1 rfl (lv_at hl 1 rfl) ?_
    -- LinkResolver.pack
    refine z_xpcallV (rest := []) (As := [.int p]) Z (x_pack_no G l hl0 H R σ n o tl pl ts ps hX hn29 hW p hc9) gw_X1_46 gd_X1_46 rfl hO rfl hl.1 (Nat.le_of_ble_eq_true rfl) rfl dX1_isSubscribed_2 ⟨⟨Nat.le_of_ble_eq_true rfl, Nat.le_of_ble_eq_true rfl⟩, Nat.le_of_ble_eq_true rfl, Nat.le_of_ble_eq_true rfl⟩ hL (fun E_ ce_ q_ H_ locs hL hk_ hx_ h1_ h2_ h3_ => z_out Z hxt hL ⟨hk_, Or.inl ⟨hx_, by simp [kSub, kIf, hc9]⟩⟩ h1_ h2_ h3_ (Nat.le_of_ble_eq_true rfl) (Nat.le_of_ble_eq_true rfl)) (fun locs hL c2 => ?_)
    exact c2.elim
  · obtain ⟨j, hj, rfl⟩ := mIs_nI (by omega) hc9
    have hjc : (nI j).toNatClampNeg = j := nI_clamp (by omega)
    obtain ⟨y9, hy9⟩ := hX.py hj
    have hp9 := hX.2.2.2.2.2.2 j y9 hy9
    have hp8 := hp9
    obtain ⟨sl9, hl9, br9, hRp9, hpO9, hSb9, hHs9, hBk9⟩ := hp8
    refine lv_aload_n Z.hx Z.hb dX1_isSubscribed_0 rfl (lv_at hl 0 rfl) ?_
    refine lv_iload_n Z.hx Z.hb dX1_isSubscribed_1 rfl (lv_at hl 1 rfl) ?_
    -- LinkResolver.pack
    refine z_xpcallV (rest := []) (As := [.int (nI j)]) Z (x_pack G l hl0 H R σ n o tl pl ts ps hX hn29 hW j y9 hy9) gw_X1_46 gd_X1_46 rfl hO rfl hl.1 (Nat.le_of_ble_eq_true rfl) rfl dX1_isSubscribed_2 ⟨⟨Nat.le_of_ble_eq_true rfl, Nat.le_of_ble_eq_true rfl⟩, Nat.le_of_ble_eq_true rfl, Nat.le_of_ble_eq_true rfl⟩ hL (fun E_ ce_ q_ H_ locs hL hk_ hx_ h1_ h2_ h3_ => hx_.elim) (fun locs hL c2 => ?_)
    refine lv_astore_n (lv' := [(3, .ref y9), (0, .ref o), (1, .int (nI j)), (2, .int d)]) Z.hx Z.hb dX1_isSubscribed_5 rfl hl (by decide) rfl (fun ls hl => ?_)
    refine lv_iload_n Z.hx Z.hb dX1_isSubscribed_6 rfl (lv_at hl 3 rfl) ?_
    refine lv_iconst (v := 0) Z.hx Z.hb dX1_isSubscribed_7 (by decide) ?_
    refine lv_aload_n Z.hx Z.hb dX1_isSubscribed_8 rfl (lv_at hl 1 rfl) ?_
    refine gf_X1_62 Z hO (v := .int (sT σ)) rfl dX1_isSubscribed_9 ?_
    -- LinkResolver.check
    refine z_xpcallS0 (rest := []) (As := [.int d, .int 0, .int (sT σ)]) Z (x_check G l hl0 H d 0 (sT σ)) gw_X1_54 gd_X1_54 rfl hl.1 (Nat.le_of_ble_eq_true rfl) rfl dX1_isSubscribed_12 ⟨⟨Nat.le_of_ble_eq_true rfl, Nat.le_of_ble_eq_true rfl⟩, Nat.le_of_ble_eq_true rfl, Nat.le_of_ble_eq_true rfl⟩ hL (fun E_ ce_ q_ H_ locs hL hk_ hx_ h1_ h2_ h3_ => z_out Z hxt hL ⟨hk_, Or.inr ⟨hx_.1, by simp [kSub, kIf, kPT, hc9, hjc, hx_.2]⟩⟩ h1_ h2_ h3_ (Nat.le_of_ble_eq_true rfl) (Nat.le_of_ble_eq_true rfl)) (fun locs hL c12 => ?_)
    refine lv_aload_n Z.hx Z.hb dX1_isSubscribed_15 rfl (lv_at hl 0 rfl) ?_
    refine lv_iload_n Z.hx Z.hb dX1_isSubscribed_16 rfl (lv_at hl 3 rfl) ?_
    -- LinkResolver$Package.isSubscribed
    refine z_pcallV (rest := []) (As := [.int d]) Z (p_sub G l H R σ n j y9 hp9 hn29 d) gw_X1_85 gd_X1_85 rfl hpO9 rfl hl.1 (Nat.le_of_ble_eq_true rfl) rfl dX1_isSubscribed_17 ⟨⟨Nat.le_of_ble_eq_true rfl, Nat.le_of_ble_eq_true rfl⟩, Nat.le_of_ble_eq_true rfl, Nat.le_of_ble_eq_true rfl⟩ hL (fun locs hL => ?_)
    exact zx_zret Z hr hL (zb_01) (⟨by rw [hjc], rfl, by simp [kSub, kIf, kPT, hc9, hjc, c12]⟩) (Nat.le_of_ble_eq_true rfl) (Nat.le_of_ble_eq_true rfl) dX1_isSubscribed_20
set_option maxHeartbeats 4000000 in
set_option maxRecDepth 100000 in
theorem x_isIn (G : zG) (l : Launch) (hl0 : l.stackTraces = false) (H : Heap) (R : xRo) (σ : zS) (n o tl pl : Nat) (ts ps : List Nat) (hX : xOp G H R σ n o tl pl ts ps) (hn29 : n < 2 ^ 29) (hW : sWf σ) (p t d : Int32) : zXp G l yX1_isIn cX1_isIn 5 (Option.some Jvm.ClassFile.FieldType.boolean) 9 8 48 [.ref o, .int p, .int t, .int d] H (.int (zb (sOn (sL σ p.toNatClampNeg t.toNatClampNeg d)))) (kIn σ p t d = 0) (xE RJ12 RJ6 (kIn σ p t d)) := by
  obtain ⟨mt9, dt9, hOt⟩ := hX.tO
  obtain ⟨mp9, dp9, hOp⟩ := hX.pO
  have hO := hX.ob
  have htl : ts.length = sN σ := hX.2.2.2.1.2.1
  have hpl : ps.length = sP σ := hX.2.2.2.2.2.1
  have hN20 : sN σ ≤ 20 := hW.2.1
  have hP10 : sP σ ≤ 10 := hW.2.2.1
  refine zX.of (by decide +kernel) (Nat.le_of_ble_eq_true rfl) ?_
  intro p0 e0 s0 m0 args0 below0 meth0 c0 Z hr hxt hH ls hl
  have Z : zC G p0 s0 m0 args0 meth0 c0 RX1 cX1_isIn 5 := Z
  have hl : lv_has ls 5 [(0, .ref o), (1, .int p), (2, .int t), (3, .int d)] := hl
  have hL : zL G [] := zL.nil
  rcases hc9 : kPT σ p t with _ | _
  · skip
    refine lv_aload_n Z.hx Z.hb dX1_isIn_0 rfl (lv_at hl 0 rfl) ?_
    refine lv_iload_n Z.hx Z.hb dX1_isIn_1 rfl (lv_at hl 1 rfl) ?_
    refine lv_iload_n Z.hx Z.hb dX1_isIn_2 rfl (lv_at hl 2 rfl) ?_
    -- LinkResolver.packWith
    refine z_xpcallV (rest := []) (As := [.int p, .int t]) Z (x_pw_no G l hl0 H R σ n o tl pl ts ps hX hn29 hW p t hc9) gw_X1_97 gd_X1_97 rfl hO rfl hl.1 (Nat.le_of_ble_eq_true rfl) rfl dX1_isIn_3 ⟨⟨Nat.le_of_ble_eq_true rfl, Nat.le_of_ble_eq_true rfl⟩, Nat.le_of_ble_eq_true rfl, Nat.le_of_ble_eq_true rfl⟩ hL (fun E_ ce_ q_ H_ locs hL hk_ hx_ h1_ h2_ h3_ => z_out Z hxt hL ⟨hk_, Or.inl ⟨hx_, by simp [kIn, kIf, hc9]⟩⟩ h1_ h2_ h3_ (Nat.le_of_ble_eq_true rfl) (Nat.le_of_ble_eq_true rfl)) (fun locs hL c3 => ?_)
    exact c3.elim
  · have hc8 := hc9
    simp only [kPT, Bool.and_eq_true] at hc8
    obtain ⟨j, hj, rfl⟩ := mIs_nI (by omega) hc8.1
    obtain ⟨j2, hj2, rfl⟩ := mIs_nI (by omega) hc8.2
    have hjc : (nI j).toNatClampNeg = j := nI_clamp (by omega)
    obtain ⟨y9, hy9⟩ := hX.py hj
    have hp9 := hX.2.2.2.2.2.2 j y9 hy9
    have hp8 := hp9
    obtain ⟨sl9, hl9, br9, hRp9, hpO9, hSb9, hHs9, hBk9⟩ := hp8
    have hj2c : (nI j2).toNatClampNeg = j2 := nI_clamp (by omega)
    obtain ⟨y2, hy2⟩ := hX.ty hj2
    have hj20 : j2 < 20 := by omega
    refine lv_aload_n Z.hx Z.hb dX1_isIn_0 rfl (lv_at hl 0 rfl) ?_
    refine lv_iload_n Z.hx Z.hb dX1_isIn_1 rfl (lv_at hl 1 rfl) ?_
    refine lv_iload_n Z.hx Z.hb dX1_isIn_2 rfl (lv_at hl 2 rfl) ?_
    -- LinkResolver.packWith
    refine z_xpcallV (rest := []) (As := [.int (nI j), .int (nI j2)]) Z (x_pw G l hl0 H R σ n o tl pl ts ps hX hn29 hW j y9 hy9 j2 y2 hy2) gw_X1_97 gd_X1_97 rfl hO rfl hl.1 (Nat.le_of_ble_eq_true rfl) rfl dX1_isIn_3 ⟨⟨Nat.le_of_ble_eq_true rfl, Nat.le_of_ble_eq_true rfl⟩, Nat.le_of_ble_eq_true rfl, Nat.le_of_ble_eq_true rfl⟩ hL (fun E_ ce_ q_ H_ locs hL hk_ hx_ h1_ h2_ h3_ => hx_.elim) (fun locs hL c3 => ?_)
    refine lv_astore (lv' := [(4, .ref y9), (0, .ref o), (1, .int (nI j)), (2, .int (nI j2)), (3, .int d)]) Z.hx Z.hb dX1_isIn_6 hl (by decide) rfl (fun ls hl => ?_)
    refine lv_iload_n Z.hx Z.hb dX1_isIn_8 rfl (lv_at hl 4 rfl) ?_
    refine lv_iconst (v := 0) Z.hx Z.hb dX1_isIn_9 (by decide) ?_
    refine lv_aload_n Z.hx Z.hb dX1_isIn_10 rfl (lv_at hl 1 rfl) ?_
    refine gf_X1_62 Z hO (v := .int (sT σ)) rfl dX1_isIn_11 ?_
    -- LinkResolver.check
    refine z_xpcallS0 (rest := []) (As := [.int d, .int 0, .int (sT σ)]) Z (x_check G l hl0 H d 0 (sT σ)) gw_X1_54 gd_X1_54 rfl hl.1 (Nat.le_of_ble_eq_true rfl) rfl dX1_isIn_14 ⟨⟨Nat.le_of_ble_eq_true rfl, Nat.le_of_ble_eq_true rfl⟩, Nat.le_of_ble_eq_true rfl, Nat.le_of_ble_eq_true rfl⟩ hL (fun E_ ce_ q_ H_ locs hL hk_ hx_ h1_ h2_ h3_ => z_out Z hxt hL ⟨hk_, Or.inr ⟨hx_.1, by simp [kIn, kIf, hc9, hx_.2]⟩⟩ h1_ h2_ h3_ (Nat.le_of_ble_eq_true rfl) (Nat.le_of_ble_eq_true rfl)) (fun locs hL c14 => ?_)
    refine lv_aload Z.hx Z.hb dX1_isIn_17 (lv_at hl 0 rfl) ?_
    refine lv_iload_n Z.hx Z.hb dX1_isIn_19 rfl (lv_at hl 3 rfl) ?_
    refine lv_iload_n Z.hx Z.hb dX1_isIn_20 rfl (lv_at hl 4 rfl) ?_
    -- LinkResolver$Package.isIn
    refine z_pcallV (rest := []) (As := [.int (nI j2), .int d]) Z (p_in G l H R σ n j y9 hp9 hn29 j2 hj20 d) gw_X1_101 gd_X1_101 rfl hpO9 rfl hl.1 (Nat.le_of_ble_eq_true rfl) rfl dX1_isIn_21 ⟨⟨Nat.le_of_ble_eq_true rfl, Nat.le_of_ble_eq_true rfl⟩, Nat.le_of_ble_eq_true rfl, Nat.le_of_ble_eq_true rfl⟩ hL (fun locs hL => ?_)
    exact zx_zret Z hr hL (zb_01) (⟨by rw [hjc, hj2c], rfl, by simp [kIn, kIf, hc9, c14]⟩) (Nat.le_of_ble_eq_true rfl) (Nat.le_of_ble_eq_true rfl) dX1_isIn_24
set_option maxHeartbeats 4000000 in
set_option maxRecDepth 100000 in
theorem x_covers (G : zG) (l : Launch) (hl0 : l.stackTraces = false) (H : Heap) (R : xRo) (σ : zS) (n o tl pl : Nat) (ts ps : List Nat) (hX : xOp G H R σ n o tl pl ts ps) (hn29 : n < 2 ^ 29) (hW : sWf σ) (p t y g d : Int32) : zXp G l yX1_covers cX1_covers 7 (Option.some Jvm.ClassFile.FieldType.boolean) 9 8 48 [.ref o, .int p, .int t, .int y, .int g, .int d] H (.int (zb (sWay σ p.toNatClampNeg t.toNatClampNeg y g d))) (kCov σ p t y g d = 0) (xE RJ12 RJ6 (kCov σ p t y g d)) := by
  obtain ⟨mt9, dt9, hOt⟩ := hX.tO
  obtain ⟨mp9, dp9, hOp⟩ := hX.pO
  have hO := hX.ob
  have htl : ts.length = sN σ := hX.2.2.2.1.2.1
  have hpl : ps.length = sP σ := hX.2.2.2.2.2.1
  have hN20 : sN σ ≤ 20 := hW.2.1
  have hP10 : sP σ ≤ 10 := hW.2.2.1
  refine zX.of (by decide +kernel) (Nat.le_of_ble_eq_true rfl) ?_
  intro p0 e0 s0 m0 args0 below0 meth0 c0 Z hr hxt hH ls hl
  have Z : zC G p0 s0 m0 args0 meth0 c0 RX1 cX1_covers 7 := Z
  have hl : lv_has ls 7 [(0, .ref o), (1, .int p), (2, .int t), (3, .int y), (4, .int g), (5, .int d)] := hl
  have hL : zL G [] := zL.nil
  rcases hc9 : kPT σ p t with _ | _
  · skip
    refine lv_aload_n Z.hx Z.hb dX1_covers_0 rfl (lv_at hl 0 rfl) ?_
    refine lv_iload_n Z.hx Z.hb dX1_covers_1 rfl (lv_at hl 1 rfl) ?_
    refine lv_iload_n Z.hx Z.hb dX1_covers_2 rfl (lv_at hl 2 rfl) ?_
    -- LinkResolver.packWith
    refine z_xpcallV (rest := []) (As := [.int p, .int t]) Z (x_pw_no G l hl0 H R σ n o tl pl ts ps hX hn29 hW p t hc9) gw_X1_97 gd_X1_97 rfl hO rfl hl.1 (Nat.le_of_ble_eq_true rfl) rfl dX1_covers_3 ⟨⟨Nat.le_of_ble_eq_true rfl, Nat.le_of_ble_eq_true rfl⟩, Nat.le_of_ble_eq_true rfl, Nat.le_of_ble_eq_true rfl⟩ hL (fun E_ ce_ q_ H_ locs hL hk_ hx_ h1_ h2_ h3_ => z_out Z hxt hL ⟨hk_, Or.inl ⟨hx_, by simp [kCov, kIf, hc9]⟩⟩ h1_ h2_ h3_ (Nat.le_of_ble_eq_true rfl) (Nat.le_of_ble_eq_true rfl)) (fun locs hL c3 => ?_)
    exact c3.elim
  · have hc8 := hc9
    simp only [kPT, Bool.and_eq_true] at hc8
    obtain ⟨j, hj, rfl⟩ := mIs_nI (by omega) hc8.1
    obtain ⟨j2, hj2, rfl⟩ := mIs_nI (by omega) hc8.2
    have hjc : (nI j).toNatClampNeg = j := nI_clamp (by omega)
    obtain ⟨y9, hy9⟩ := hX.py hj
    have hp9 := hX.2.2.2.2.2.2 j y9 hy9
    have hp8 := hp9
    obtain ⟨sl9, hl9, br9, hRp9, hpO9, hSb9, hHs9, hBk9⟩ := hp8
    have hj2c : (nI j2).toNatClampNeg = j2 := nI_clamp (by omega)
    obtain ⟨y2, hy2⟩ := hX.ty hj2
    have hj20 : j2 < 20 := by omega
    refine lv_aload_n Z.hx Z.hb dX1_covers_0 rfl (lv_at hl 0 rfl) ?_
    refine lv_iload_n Z.hx Z.hb dX1_covers_1 rfl (lv_at hl 1 rfl) ?_
    refine lv_iload_n Z.hx Z.hb dX1_covers_2 rfl (lv_at hl 2 rfl) ?_
    -- LinkResolver.packWith
    refine z_xpcallV (rest := []) (As := [.int (nI j), .int (nI j2)]) Z (x_pw G l hl0 H R σ n o tl pl ts ps hX hn29 hW j y9 hy9 j2 y2 hy2) gw_X1_97 gd_X1_97 rfl hO rfl hl.1 (Nat.le_of_ble_eq_true rfl) rfl dX1_covers_3 ⟨⟨Nat.le_of_ble_eq_true rfl, Nat.le_of_ble_eq_true rfl⟩, Nat.le_of_ble_eq_true rfl, Nat.le_of_ble_eq_true rfl⟩ hL (fun E_ ce_ q_ H_ locs hL hk_ hx_ h1_ h2_ h3_ => hx_.elim) (fun locs hL c3 => ?_)
    refine lv_astore (lv' := [(6, .ref y9), (0, .ref o), (1, .int (nI j)), (2, .int (nI j2)), (3, .int y), (4, .int g), (5, .int d)]) Z.hx Z.hb dX1_covers_6 hl (by decide) rfl (fun ls hl => ?_)
    refine lv_aload_n Z.hx Z.hb dX1_covers_8 rfl (lv_at hl 1 rfl) ?_
    refine lv_iload_n Z.hx Z.hb dX1_covers_9 rfl (lv_at hl 4 rfl) ?_
    refine lv_iload Z.hx Z.hb dX1_covers_10 (lv_at hl 5 rfl) ?_
    refine lv_iload Z.hx Z.hb dX1_covers_12 (lv_at hl 6 rfl) ?_
    -- LinkResolver.checkArticle
    refine z_xpcallV0 (rest := []) (As := [.int y, .int g, .int d]) Z (x_art G l hl0 H R σ n o tl pl ts ps hX hn29 hW y g d) gw_X1_117 gd_X1_117 rfl hO rfl hl.1 (Nat.le_of_ble_eq_true rfl) rfl dX1_covers_14 ⟨⟨Nat.le_of_ble_eq_true rfl, Nat.le_of_ble_eq_true rfl⟩, Nat.le_of_ble_eq_true rfl, Nat.le_of_ble_eq_true rfl⟩ hL (fun E_ ce_ q_ H_ locs hL hk_ hx_ h1_ h2_ h3_ => z_out Z hxt hL ⟨hk_, Or.inr ⟨hx_.1, by simp [kCov, kIf, hc9, hx_.2]⟩⟩ h1_ h2_ h3_ (Nat.le_of_ble_eq_true rfl) (Nat.le_of_ble_eq_true rfl)) (fun locs hL c14 => ?_)
    refine lv_aload Z.hx Z.hb dX1_covers_17 (lv_at hl 0 rfl) ?_
    refine lv_iload_n Z.hx Z.hb dX1_covers_19 rfl (lv_at hl 3 rfl) ?_
    refine lv_iload_n Z.hx Z.hb dX1_covers_20 rfl (lv_at hl 4 rfl) ?_
    refine lv_iload Z.hx Z.hb dX1_covers_21 (lv_at hl 5 rfl) ?_
    refine lv_iload Z.hx Z.hb dX1_covers_23 (lv_at hl 6 rfl) ?_
    -- LinkResolver$Package.covers
    refine z_pcallV (rest := []) (As := [.int (nI j2), .int y, .int g, .int d]) Z (p_cov G l H R σ n j y9 hp9 hn29 j2 hj20 y g d) gw_X1_120 gd_X1_120 rfl hpO9 rfl hl.1 (Nat.le_of_ble_eq_true rfl) rfl dX1_covers_25 ⟨⟨Nat.le_of_ble_eq_true rfl, Nat.le_of_ble_eq_true rfl⟩, Nat.le_of_ble_eq_true rfl, Nat.le_of_ble_eq_true rfl⟩ hL (fun locs hL => ?_)
    exact zx_zret Z hr hL (zb_01) (⟨by rw [hjc, hj2c], rfl, by simp [kCov, kIf, hc9, c14]⟩) (Nat.le_of_ble_eq_true rfl) (Nat.le_of_ble_eq_true rfl) dX1_covers_28
