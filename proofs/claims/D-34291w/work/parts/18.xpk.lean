/-! the component: accessors, and what a package answers (nothing changes) -/
set_option maxHeartbeats 4000000 in
set_option maxRecDepth 100000 in
theorem t_first (G : zG) (l : Launch) (H : Heap) (y : Nat) (f0 f1 : Int32) (hO : zO G H y 1 [.int f0, .int f1]) : zMp G l yX3_firstYear cX3_firstYear 1 (Option.some Jvm.ClassFile.FieldType.int) 0 [.ref y] H (.int f0) := by
  refine zM.of (by decide +kernel) (Nat.le_of_ble_eq_true rfl) ?_
  intro p0 e0 s0 m0 args0 below0 meth0 c0 Z hr hH hn0 ls hl
  have Z : zC G p0 s0 m0 args0 meth0 c0 RX3 cX3_firstYear 1 := Z
  have hl : lv_has ls 1 [(0, .ref y)] := hl
  have hL : zL G [] := zL.nil
  refine lv_aload_n Z.hx Z.hb dX3_firstYear_0 rfl (lv_at hl 0 rfl) ?_
  refine gf_X3_7 Z hO (v := .int f0) rfl dX3_firstYear_1 ?_
  exact z_iret Z hr hL (⟨rfl, rfl⟩) (Nat.le_of_ble_eq_true rfl) (Nat.le_of_ble_eq_true rfl) dX3_firstYear_4
set_option maxHeartbeats 4000000 in
set_option maxRecDepth 100000 in
theorem t_vols (G : zG) (l : Launch) (H : Heap) (y : Nat) (f0 f1 : Int32) (hO : zO G H y 1 [.int f0, .int f1]) : zMp G l yX3_volumes cX3_volumes 1 (Option.some Jvm.ClassFile.FieldType.int) 0 [.ref y] H (.int f1) := by
  refine zM.of (by decide +kernel) (Nat.le_of_ble_eq_true rfl) ?_
  intro p0 e0 s0 m0 args0 below0 meth0 c0 Z hr hH hn0 ls hl
  have Z : zC G p0 s0 m0 args0 meth0 c0 RX3 cX3_volumes 1 := Z
  have hl : lv_has ls 1 [(0, .ref y)] := hl
  have hL : zL G [] := zL.nil
  refine lv_aload_n Z.hx Z.hb dX3_volumes_0 rfl (lv_at hl 0 rfl) ?_
  refine gf_X3_13 Z hO (v := .int f1) rfl dX3_volumes_1 ?_
  exact z_iret Z hr hL (⟨rfl, rfl⟩) (Nat.le_of_ble_eq_true rfl) (Nat.le_of_ble_eq_true rfl) dX3_volumes_4
set_option maxHeartbeats 4000000 in
set_option maxRecDepth 100000 in
theorem s_day (G : zG) (l : Launch) (H : Heap) (y : Nat) (f0 f1 : Int32) (hO : zO G H y 3 [.int f0, .int f1]) : zMp G l yX5_day cX5_day 1 (Option.some Jvm.ClassFile.FieldType.int) 0 [.ref y] H (.int f0) := by
  refine zM.of (by decide +kernel) (Nat.le_of_ble_eq_true rfl) ?_
  intro p0 e0 s0 m0 args0 below0 meth0 c0 Z hr hH hn0 ls hl
  have Z : zC G p0 s0 m0 args0 meth0 c0 RX5 cX5_day 1 := Z
  have hl : lv_has ls 1 [(0, .ref y)] := hl
  have hL : zL G [] := zL.nil
  refine lv_aload_n Z.hx Z.hb dX5_day_0 rfl (lv_at hl 0 rfl) ?_
  refine gf_X5_7 Z hO (v := .int f0) rfl dX5_day_1 ?_
  exact z_iret Z hr hL (⟨rfl, rfl⟩) (Nat.le_of_ble_eq_true rfl) (Nat.le_of_ble_eq_true rfl) dX5_day_4
set_option maxHeartbeats 4000000 in
set_option maxRecDepth 100000 in
theorem s_on (G : zG) (l : Launch) (H : Heap) (y : Nat) (f0 f1 : Int32) (hO : zO G H y 3 [.int f0, .int f1]) (h01 : f1 = 0 ∨ f1 = 1) : zMp G l yX5_isOn cX5_isOn 1 (Option.some Jvm.ClassFile.FieldType.boolean) 0 [.ref y] H (.int f1) := by
  refine zM.of (by decide +kernel) (Nat.le_of_ble_eq_true rfl) ?_
  intro p0 e0 s0 m0 args0 below0 meth0 c0 Z hr hH hn0 ls hl
  have Z : zC G p0 s0 m0 args0 meth0 c0 RX5 cX5_isOn 1 := Z
  have hl : lv_has ls 1 [(0, .ref y)] := hl
  have hL : zL G [] := zL.nil
  refine lv_aload_n Z.hx Z.hb dX5_isOn_0 rfl (lv_at hl 0 rfl) ?_
  refine gf_X5_13 Z hO (v := .int f1) rfl dX5_isOn_1 ?_
  exact z_zret Z hr hL (h01) (⟨rfl, rfl⟩) (Nat.le_of_ble_eq_true rfl) (Nat.le_of_ble_eq_true rfl) dX5_isOn_4
set_option maxHeartbeats 4000000 in
set_option maxRecDepth 100000 in
theorem h_day (G : zG) (l : Launch) (H : Heap) (y : Nat) (f0 f1 f2 f3 f4 : Int32) (hO : zO G H y 4 [.int f0, .int f1, .int f2, .int f3, .int f4]) : zMp G l yX6_day cX6_day 1 (Option.some Jvm.ClassFile.FieldType.int) 0 [.ref y] H (.int f0) := by
  refine zM.of (by decide +kernel) (Nat.le_of_ble_eq_true rfl) ?_
  intro p0 e0 s0 m0 args0 below0 meth0 c0 Z hr hH hn0 ls hl
  have Z : zC G p0 s0 m0 args0 meth0 c0 RX6 cX6_day 1 := Z
  have hl : lv_has ls 1 [(0, .ref y)] := hl
  have hL : zL G [] := zL.nil
  refine lv_aload_n Z.hx Z.hb dX6_day_0 rfl (lv_at hl 0 rfl) ?_
  refine gf_X6_7 Z hO (v := .int f0) rfl dX6_day_1 ?_
  exact z_iret Z hr hL (⟨rfl, rfl⟩) (Nat.le_of_ble_eq_true rfl) (Nat.le_of_ble_eq_true rfl) dX6_day_4
set_option maxHeartbeats 4000000 in
set_option maxRecDepth 100000 in
theorem h_in (G : zG) (l : Launch) (H : Heap) (y : Nat) (f0 f1 f2 f3 f4 : Int32) (hO : zO G H y 4 [.int f0, .int f1, .int f2, .int f3, .int f4]) (h01 : f1 = 0 ∨ f1 = 1) : zMp G l yX6_isIn cX6_isIn 1 (Option.some Jvm.ClassFile.FieldType.boolean) 0 [.ref y] H (.int f1) := by
  refine zM.of (by decide +kernel) (Nat.le_of_ble_eq_true rfl) ?_
  intro p0 e0 s0 m0 args0 below0 meth0 c0 Z hr hH hn0 ls hl
  have Z : zC G p0 s0 m0 args0 meth0 c0 RX6 cX6_isIn 1 := Z
  have hl : lv_has ls 1 [(0, .ref y)] := hl
  have hL : zL G [] := zL.nil
  refine lv_aload_n Z.hx Z.hb dX6_isIn_0 rfl (lv_at hl 0 rfl) ?_
  refine gf_X6_13 Z hO (v := .int f1) rfl dX6_isIn_1 ?_
  exact z_zret Z hr hL (h01) (⟨rfl, rfl⟩) (Nat.le_of_ble_eq_true rfl) (Nat.le_of_ble_eq_true rfl) dX6_isIn_4
set_option maxHeartbeats 4000000 in
set_option maxRecDepth 100000 in
theorem h_wall (G : zG) (l : Launch) (H : Heap) (y : Nat) (f0 f1 f2 f3 f4 : Int32) (hO : zO G H y 4 [.int f0, .int f1, .int f2, .int f3, .int f4]) : zMp G l yX6_wall cX6_wall 1 (Option.some Jvm.ClassFile.FieldType.int) 0 [.ref y] H (.int f4) := by
  refine zM.of (by decide +kernel) (Nat.le_of_ble_eq_true rfl) ?_
  intro p0 e0 s0 m0 args0 below0 meth0 c0 Z hr hH hn0 ls hl
  have Z : zC G p0 s0 m0 args0 meth0 c0 RX6 cX6_wall 1 := Z
  have hl : lv_has ls 1 [(0, .ref y)] := hl
  have hL : zL G [] := zL.nil
  refine lv_aload_n Z.hx Z.hb dX6_wall_0 rfl (lv_at hl 0 rfl) ?_
  refine gf_X6_23 Z hO (v := .int f4) rfl dX6_wall_1 ?_
  exact z_iret Z hr hL (⟨rfl, rfl⟩) (Nat.le_of_ble_eq_true rfl) (Nat.le_of_ble_eq_true rfl) dX6_wall_4
set_option maxHeartbeats 4000000 in
set_option maxRecDepth 100000 in
theorem h_year (G : zG) (l : Launch) (H : Heap) (y : Nat) (f0 f1 f2 f3 f4 : Int32) (hO : zO G H y 4 [.int f0, .int f1, .int f2, .int f3, .int f4]) (w : Int32) : zMp G l yX6_hasYear cX6_hasYear 2 (Option.some Jvm.ClassFile.FieldType.boolean) 0 [.ref y, .int w] H (.int (zb (!decide (f1 = 0) && mBt w f2 f3))) := by
  refine zM.of (by decide +kernel) (Nat.le_of_ble_eq_true rfl) ?_
  intro p0 e0 s0 m0 args0 below0 meth0 c0 Z hr hH hn0 ls hl
  have Z : zC G p0 s0 m0 args0 meth0 c0 RX6 cX6_hasYear 2 := Z
  have hl : lv_has ls 2 [(0, .ref y), (1, .int w)] := hl
  have hL : zL G [] := zL.nil
  refine lv_aload_n Z.hx Z.hb dX6_hasYear_0 rfl (lv_at hl 0 rfl) ?_
  refine gf_X6_13 Z hO (v := .int f1) rfl dX6_hasYear_1 ?_
  refine lv_if_eq (tgt := 27) Z.hx Z.hb dX6_hasYear_4 (by decide) (fun c4 => ?_) (fun c4 => ?_)
  · skip
    refine lv_iconst (v := 0) Z.hx Z.hb dX6_hasYear_27 (by decide) ?_
    exact z_zret Z hr hL (by decide) (⟨by simp [zb, mBt, c4], rfl⟩) (Nat.le_of_ble_eq_true rfl) (Nat.le_of_ble_eq_true rfl) dX6_hasYear_28
  · skip
    refine lv_iload_n Z.hx Z.hb dX6_hasYear_7 rfl (lv_at hl 1 rfl) ?_
    refine lv_aload_n Z.hx Z.hb dX6_hasYear_8 rfl (lv_at hl 0 rfl) ?_
    refine gf_X6_17 Z hO (v := .int f2) rfl dX6_hasYear_9 ?_
    refine lv_icmp_lt (tgt := 27) Z.hx Z.hb dX6_hasYear_12 (by decide) (fun c12 => ?_) (fun c12 => ?_)
    · skip
      refine lv_iconst (v := 0) Z.hx Z.hb dX6_hasYear_27 (by decide) ?_
      exact z_zret Z hr hL (by decide) (⟨by simp [zb, mBt, c4, c12], rfl⟩) (Nat.le_of_ble_eq_true rfl) (Nat.le_of_ble_eq_true rfl) dX6_hasYear_28
    · skip
      refine lv_iload_n Z.hx Z.hb dX6_hasYear_15 rfl (lv_at hl 1 rfl) ?_
      refine lv_aload_n Z.hx Z.hb dX6_hasYear_16 rfl (lv_at hl 0 rfl) ?_
      refine gf_X6_20 Z hO (v := .int f3) rfl dX6_hasYear_17 ?_
      refine lv_icmp_gt (tgt := 27) Z.hx Z.hb dX6_hasYear_20 (by decide) (fun c20 => ?_) (fun c20 => ?_)
      · skip
        refine lv_iconst (v := 0) Z.hx Z.hb dX6_hasYear_27 (by decide) ?_
        exact z_zret Z hr hL (by decide) (⟨by simp [zb, mBt, c4, c12, c20], rfl⟩) (Nat.le_of_ble_eq_true rfl) (Nat.le_of_ble_eq_true rfl) dX6_hasYear_28
      · skip
        refine lv_iconst (v := 1) Z.hx Z.hb dX6_hasYear_23 (by decide) ?_
        refine lv_goto (tgt := 28) Z.hx Z.hb dX6_hasYear_24 (by decide) ?_
        exact z_zret Z hr hL (by decide) (⟨by simp [zb, mBt, c4, c12, c20], rfl⟩) (Nat.le_of_ble_eq_true rfl) (Nat.le_of_ble_eq_true rfl) dX6_hasYear_28
set_option maxHeartbeats 4000000 in
set_option maxRecDepth 100000 in
theorem p_sub (G : zG) (l : Launch) (H : Heap) (R : xRo) (σ : zS) (n j p : Nat) (hp : xPk G H R σ n j p) (hn29 : n < 2 ^ 29) (d : Int32) : zMp G l yX4_isSubscribed cX4_isSubscribed 4 (Option.some Jvm.ClassFile.FieldType.boolean) 3 [.ref p, .int d] H (.int (zb (sOn (sL σ j 20 d)))) := by
  have hp0 := hp
  obtain ⟨sl, hl0, br, hRp, hO, hSb, hHs, hBk⟩ := hp
  refine zM.of (by decide +kernel) (Nat.le_of_ble_eq_true rfl) ?_
  intro p0 e0 s0 m0 args0 below0 meth0 c0 Z hr hH hn0 ls hl
  have Z : zC G p0 s0 m0 args0 meth0 c0 RX4 cX4_isSubscribed 4 := Z
  have hl : lv_has ls 4 [(0, .ref p), (1, .int d)] := hl
  have hL : zL G [] := zL.nil
  obtain ⟨es, q, hA, hlen, hEs, h01, hlk⟩ := hSb
  obtain ⟨m9, d9, hOl, -⟩ := hA.2.2.2
  have hy9 : ∀ k, k < es.length → ∃ y, es[k]? = some y := fun k hk => ⟨_, List.getElem?_eq_getElem hk⟩
  have loop : ∀ n k : Nat, k + n = es.length → ∀ (locs : List Loc), zL G locs → ∀ ls : Array Slot, lv_has ls 4 [(3, .int (nI k)), (2, .int (xVal (xFold q k d))), (0, .ref p), (1, .int d)] → W p0 l e0 (zr 3 0 0) s0 m0 args0 below0 meth0 c0 H locs 0 0 (MQ below0 (zQ (fun r H1 => r = some (.int (zb (sOn (sL σ j 20 d)))) ∧ H1 = H)) args0 s0 0 0 (zA G)) (F0 m0 4 ls []) := by
    intro n
    induction n with
    | zero =>
      intro k hkn locs hL ls hl
      have hke : k = es.length := hkn
      subst hke
      refine lv_iload_n Z.hx Z.hb dX4_isSubscribed_4 rfl (lv_at hl 0 rfl) ?_
      refine lv_aload_n Z.hx Z.hb dX4_isSubscribed_5 rfl (lv_at hl 2 rfl) ?_
      refine gf_X4_12 Z hO (v := .ref sl) rfl dX4_isSubscribed_6 ?_
      -- java/util/List.size
      refine z_pcallF (rest := [.int (nI es.length)]) (As := []) Z (j_size G l H _ sl es hA) gw_X4_48 Z.K.2.2.1.1 gd_L_size hOl rfl hl.1 (Nat.le_of_ble_eq_true rfl) rfl dX4_isSubscribed_9 ⟨⟨Nat.le_of_ble_eq_true rfl, Nat.le_of_ble_eq_true rfl⟩, Nat.le_of_ble_eq_true rfl, Nat.le_of_ble_eq_true rfl⟩ hL (fun locs hL => ?_)
      refine lv_icmp_ge (tgt := 64) Z.hx Z.hb dX4_isSubscribed_14 (by decide) (fun c14 => ?_) (fun c14 => ?_)
      · skip
        refine lv_iload_n Z.hx Z.hb dX4_isSubscribed_64 rfl (lv_at hl 1 rfl) ?_
        exact z_zret Z hr hL (xVal_01 h01 _ d) (⟨by rw [hlk d, ← xVal_zb (xVal_01 h01 _ d)], rfl⟩) (Nat.le_of_ble_eq_true rfl) (Nat.le_of_ble_eq_true rfl) dX4_isSubscribed_65
      · exact absurd (Int32.le_refl _) c14
    | succ n ihk =>
      intro k hkn locs hL ls hl
      have hkb : k < es.length := by omega
      refine lv_iload_n Z.hx Z.hb dX4_isSubscribed_4 rfl (lv_at hl 0 rfl) ?_
      refine lv_aload_n Z.hx Z.hb dX4_isSubscribed_5 rfl (lv_at hl 2 rfl) ?_
      refine gf_X4_12 Z hO (v := .ref sl) rfl dX4_isSubscribed_6 ?_
      -- java/util/List.size
      refine z_pcallF (rest := [.int (nI k)]) (As := []) Z (j_size G l H _ sl es hA) gw_X4_48 Z.K.2.2.1.1 gd_L_size hOl rfl hl.1 (Nat.le_of_ble_eq_true rfl) rfl dX4_isSubscribed_9 ⟨⟨Nat.le_of_ble_eq_true rfl, Nat.le_of_ble_eq_true rfl⟩, Nat.le_of_ble_eq_true rfl, Nat.le_of_ble_eq_true rfl⟩ hL (fun locs hL => ?_)
      refine lv_icmp_ge (tgt := 64) Z.hx Z.hb dX4_isSubscribed_14 (by decide) (fun c14 => ?_) (fun c14 => ?_)
      · exact absurd c14 (nI_ge hkb (by omega))
      · skip
        obtain ⟨y, hy⟩ := hy9 k hkb
        have hOy := hEs k y hy
        refine lv_aload_n Z.hx Z.hb dX4_isSubscribed_17 rfl (lv_at hl 2 rfl) ?_
        refine gf_X4_12 Z hO (v := .ref sl) rfl dX4_isSubscribed_18 ?_
        refine lv_iload_n Z.hx Z.hb dX4_isSubscribed_21 rfl (lv_at hl 0 rfl) ?_
        -- java/util/List.get
        refine z_pcallF (rest := []) (As := [.int (nI k)]) Z (j_get G l H _ sl es hA k y hkb (by omega) hy) gw_X4_52 Z.K.2.2.1.2.2 gd_L_get hOl rfl hl.1 (Nat.le_of_ble_eq_true rfl) rfl dX4_isSubscribed_22 ⟨⟨Nat.le_of_ble_eq_true rfl, Nat.le_of_ble_eq_true rfl⟩, Nat.le_of_ble_eq_true rfl, Nat.le_of_ble_eq_true rfl⟩ hL (fun locs hL => ?_)
        refine z_castS Z (ci := 3) rfl q446 hOy.2 dX4_isSubscribed_27 ?_
        -- LinkResolver$Subscription.day
        refine z_pcallV (rest := []) (As := []) Z (s_day G l H y _ _ hOy.2) gw_X4_58 gd_X4_58 rfl hOy.2 rfl hl.1 (Nat.le_of_ble_eq_true rfl) rfl dX4_isSubscribed_30 ⟨⟨Nat.le_of_ble_eq_true rfl, Nat.le_of_ble_eq_true rfl⟩, Nat.le_of_ble_eq_true rfl, Nat.le_of_ble_eq_true rfl⟩ hL (fun locs hL => ?_)
        refine lv_iload_n Z.hx Z.hb dX4_isSubscribed_33 rfl (lv_at hl 3 rfl) ?_
        refine lv_icmp_gt (tgt := 56) Z.hx Z.hb dX4_isSubscribed_34 (by decide) (fun c34 => ?_) (fun c34 => ?_)
        · skip
          refine lv_iload_n Z.hx Z.hb dX4_isSubscribed_56 rfl (lv_at hl 1 rfl) ?_
          refine lv_istore_n (lv' := [(2, .int (xVal (xFold q k d))), (3, .int (nI k)), (0, .ref p), (1, .int d)]) Z.hx Z.hb dX4_isSubscribed_57 rfl hl (by decide) rfl (fun ls hl => ?_)
          refine lv_iinc (v := (nI k) + 1) (lv' := [(3, .int ((nI k) + 1)), (2, .int (xVal (xFold q k d))), (0, .ref p), (1, .int d)]) Z.hx Z.hb dX4_isSubscribed_58 hl (k := 1) rfl rfl (by decide) rfl (fun ls hl => ?_)
          refine lv_goto (tgt := 4) Z.hx Z.hb dX4_isSubscribed_61 (by decide) ?_
          have hst : xFold q (k + 1) d = xFold q k d := if_neg (Int32.not_le.mpr c34)
          exact ihk (k + 1) (by omega) _ hL ls (lv_sub (z_loc (l' := [(3, .int (nI (k + 1))), (2, .int (xVal (xFold q (k + 1) d))), (0, .ref p), (1, .int d)]) hl (by rw [hst, nI_succ])) [0, 1, 2, 3] rfl)
        · skip
          refine lv_aload_n Z.hx Z.hb dX4_isSubscribed_37 rfl (lv_at hl 2 rfl) ?_
          refine gf_X4_12 Z hO (v := .ref sl) rfl dX4_isSubscribed_38 ?_
          refine lv_iload_n Z.hx Z.hb dX4_isSubscribed_41 rfl (lv_at hl 0 rfl) ?_
          -- java/util/List.get
          refine z_pcallF (rest := []) (As := [.int (nI k)]) Z (j_get G l H _ sl es hA k y hkb (by omega) hy) gw_X4_52 Z.K.2.2.1.2.2 gd_L_get hOl rfl hl.1 (Nat.le_of_ble_eq_true rfl) rfl dX4_isSubscribed_42 ⟨⟨Nat.le_of_ble_eq_true rfl, Nat.le_of_ble_eq_true rfl⟩, Nat.le_of_ble_eq_true rfl, Nat.le_of_ble_eq_true rfl⟩ hL (fun locs hL => ?_)
          refine z_castS Z (ci := 3) rfl q446 hOy.2 dX4_isSubscribed_47 ?_
          -- LinkResolver$Subscription.isOn
          refine z_pcallV (rest := []) (As := []) Z (s_on G l H y _ _ hOy.2 (h01 k)) gw_X4_61 gd_X4_61 rfl hOy.2 rfl hl.1 (Nat.le_of_ble_eq_true rfl) rfl dX4_isSubscribed_50 ⟨⟨Nat.le_of_ble_eq_true rfl, Nat.le_of_ble_eq_true rfl⟩, Nat.le_of_ble_eq_true rfl, Nat.le_of_ble_eq_true rfl⟩ hL (fun locs hL => ?_)
          refine lv_goto (tgt := 57) Z.hx Z.hb dX4_isSubscribed_53 (by decide) ?_
          refine lv_istore_n (lv' := [(2, .int ((q k).2.1)), (3, .int (nI k)), (0, .ref p), (1, .int d)]) Z.hx Z.hb dX4_isSubscribed_57 rfl hl (by decide) rfl (fun ls hl => ?_)
          refine lv_iinc (v := (nI k) + 1) (lv' := [(3, .int ((nI k) + 1)), (2, .int ((q k).2.1)), (0, .ref p), (1, .int d)]) Z.hx Z.hb dX4_isSubscribed_58 hl (k := 1) rfl rfl (by decide) rfl (fun ls hl => ?_)
          refine lv_goto (tgt := 4) Z.hx Z.hb dX4_isSubscribed_61 (by decide) ?_
          have hst : xFold q (k + 1) d = some (q k).2 := if_pos (Int32.not_lt.mp c34)
          exact ihk (k + 1) (by omega) _ hL ls (lv_sub (z_loc (l' := [(3, .int (nI (k + 1))), (2, .int (xVal (xFold q (k + 1) d))), (0, .ref p), (1, .int d)]) hl (by rw [hst, nI_succ]; rfl)) [0, 1, 2, 3] rfl)
  refine lv_iconst (v := 0) Z.hx Z.hb dX4_isSubscribed_0 (by decide) ?_
  refine lv_istore_n (lv' := [(2, .int 0), (0, .ref p), (1, .int d)]) Z.hx Z.hb dX4_isSubscribed_1 rfl hl (by decide) rfl (fun ls hl => ?_)
  refine lv_iconst (v := 0) Z.hx Z.hb dX4_isSubscribed_2 (by decide) ?_
  refine lv_istore_n (lv' := [(3, .int 0), (2, .int 0), (0, .ref p), (1, .int d)]) Z.hx Z.hb dX4_isSubscribed_3 rfl hl (by decide) rfl (fun ls hl => ?_)
  exact loop es.length 0 (by omega) _ hL ls (lv_sub (z_loc (l' := [(3, .int (nI 0)), (2, .int (xVal (xFold q 0 d))), (0, .ref p), (1, .int d)]) hl (by rfl)) [0, 1, 2, 3] rfl)
set_option maxHeartbeats 4000000 in
set_option maxRecDepth 100000 in
theorem p_hold (G : zG) (l : Launch) (H : Heap) (R : xRo) (σ : zS) (n j p : Nat) (hp : xPk G H R σ n j p) (hn29 : n < 2 ^ 29) (k : Nat) (hk20 : k < 20) (d : Int32) : ∃ r : Option Nat, zMp G l yX4_holding cX4_holding 6 (Option.some (Jvm.ClassFile.FieldType.object "LinkResolver$Holding")) 3 [.ref p, .int (nI k), .int d] H (va_rf r) ∧ (r = none → sL σ j k d = none) ∧ ∀ a, r = some a → ∃ (dy : Int32) (z : Int32 × Int32 × Int32 × Int32), sL σ j k d = some z ∧ zO G H a 4 [.int dy, .int z.1, .int z.2.1, .int z.2.2.1, .int z.2.2.2] ∧ (z.1 = 0 ∨ z.1 = 1) := by
  have hp0 := hp
  obtain ⟨sl, hl0, br, hRp, hO, hSb, hHs, hBk⟩ := hp
  obtain ⟨hs, hA0, hs20, hHd⟩ := hHs
  obtain ⟨h, hh⟩ : ∃ h, hs[k]? = some h := ⟨_, List.getElem?_eq_getElem (by omega)⟩
  obtain ⟨es, q, hA, hlen, hEs, h01, hlk⟩ := hHd k h hh
  obtain ⟨m9, d9, hOl, -⟩ := hA.2.2.2
  obtain ⟨m8, d8, hOs, -⟩ := hA0.2.2.2
  refine ⟨xAd es q d es.length, ?_, fun h9 => (hlk d).trans (xAd_none (Nat.le_refl _) h9), fun a h9 => ?_⟩
  · skip
    refine zM.of (by decide +kernel) (Nat.le_of_ble_eq_true rfl) ?_
    intro p0 e0 s0 m0 args0 below0 meth0 c0 Z hr hH hn0 ls hl
    have Z : zC G p0 s0 m0 args0 meth0 c0 RX4 cX4_holding 6 := Z
    have hl : lv_has ls 6 [(0, .ref p), (1, .int (nI k)), (2, .int d)] := hl
    have hL : zL G [] := zL.nil
    have hy9 : ∀ k, k < es.length → ∃ y, es[k]? = some y := fun k hk => ⟨_, List.getElem?_eq_getElem hk⟩
    have loop : ∀ n m : Nat, m + n = es.length → ∀ (locs : List Loc), zL G locs → ∀ ls : Array Slot, lv_has ls 6 [(5, .int (nI m)), (3, va_rf (xAd es q d m)), (4, .ref h), (0, .ref p), (1, .int (nI k)), (2, .int d)] → W p0 l e0 (zr 3 0 0) s0 m0 args0 below0 meth0 c0 H locs 0 0 (MQ below0 (zQ (fun r H1 => r = some (va_rf (xAd es q d es.length)) ∧ H1 = H)) args0 s0 0 0 (zA G)) (F0 m0 20 ls []) := by
      intro n
      induction n with
      | zero =>
        intro m hmn locs hL ls hl
        have hme : m = es.length := hmn
        subst hme
        cases hfd : xAd es q d es.length with
        | none =>
          have hl : lv_has ls 6 [(5, .int (nI es.length)), (3, .null), (4, .ref h), (0, .ref p), (1, .int (nI k)), (2, .int d)] := z_loc hl (by rw [hfd]; rfl)
          refine lv_iload Z.hx Z.hb dX4_holding_20 (lv_at hl 0 rfl) ?_
          refine lv_aload Z.hx Z.hb dX4_holding_22 (lv_at hl 2 rfl) ?_
          -- java/util/List.size
          refine z_pcallF (rest := [.int (nI es.length)]) (As := []) Z (j_size G l H _ h es hA) gw_X4_48 Z.K.2.2.1.1 gd_L_size hOl rfl hl.1 (Nat.le_of_ble_eq_true rfl) rfl dX4_holding_24 ⟨⟨Nat.le_of_ble_eq_true rfl, Nat.le_of_ble_eq_true rfl⟩, Nat.le_of_ble_eq_true rfl, Nat.le_of_ble_eq_true rfl⟩ hL (fun locs hL => ?_)
          refine lv_icmp_ge (tgt := 74) Z.hx Z.hb dX4_holding_29 (by decide) (fun c29 => ?_) (fun c29 => ?_)
          · skip
            refine lv_aload_nN Z.hx Z.hb dX4_holding_74 rfl (lv_at hl 1 rfl) ?_
            exact z_aret Z hr (Or.inl ⟨_, rfl⟩) hL (Or.inl rfl) (⟨by first | rfl | (rw [hfd]; rfl), rfl⟩) (Nat.le_of_ble_eq_true rfl) (Nat.le_of_ble_eq_true rfl) dX4_holding_75
          · exact absurd (Int32.le_refl _) c29
        | some a =>
          have hl : lv_has ls 6 [(5, .int (nI es.length)), (3, .ref a), (4, .ref h), (0, .ref p), (1, .int (nI k)), (2, .int d)] := z_loc hl (by rw [hfd]; rfl)
          refine lv_iload Z.hx Z.hb dX4_holding_20 (lv_at hl 0 rfl) ?_
          refine lv_aload Z.hx Z.hb dX4_holding_22 (lv_at hl 2 rfl) ?_
          -- java/util/List.size
          refine z_pcallF (rest := [.int (nI es.length)]) (As := []) Z (j_size G l H _ h es hA) gw_X4_48 Z.K.2.2.1.1 gd_L_size hOl rfl hl.1 (Nat.le_of_ble_eq_true rfl) rfl dX4_holding_24 ⟨⟨Nat.le_of_ble_eq_true rfl, Nat.le_of_ble_eq_true rfl⟩, Nat.le_of_ble_eq_true rfl, Nat.le_of_ble_eq_true rfl⟩ hL (fun locs hL => ?_)
          refine lv_icmp_ge (tgt := 74) Z.hx Z.hb dX4_holding_29 (by decide) (fun c29 => ?_) (fun c29 => ?_)
          · skip
            refine lv_aload_n Z.hx Z.hb dX4_holding_74 rfl (lv_at hl 1 rfl) ?_
            exact z_aret Z hr (Or.inl ⟨_, rfl⟩) hL (Or.inr ⟨_, rfl⟩) (⟨by first | rfl | (rw [hfd]; rfl), rfl⟩) (Nat.le_of_ble_eq_true rfl) (Nat.le_of_ble_eq_true rfl) dX4_holding_75
          · exact absurd (Int32.le_refl _) c29
      | succ n ih =>
        intro m hmn locs hL ls hl
        have hmb : m < es.length := by omega
        obtain ⟨y, hy⟩ := hy9 m hmb
        have hOy := hEs m y hy
        cases hfd : xAd es q d m with
        | none =>
          have hl : lv_has ls 6 [(5, .int (nI m)), (3, .null), (4, .ref h), (0, .ref p), (1, .int (nI k)), (2, .int d)] := z_loc hl (by rw [hfd]; rfl)
          refine lv_iload Z.hx Z.hb dX4_holding_20 (lv_at hl 0 rfl) ?_
          refine lv_aload Z.hx Z.hb dX4_holding_22 (lv_at hl 2 rfl) ?_
          -- java/util/List.size
          refine z_pcallF (rest := [.int (nI m)]) (As := []) Z (j_size G l H _ h es hA) gw_X4_48 Z.K.2.2.1.1 gd_L_size hOl rfl hl.1 (Nat.le_of_ble_eq_true rfl) rfl dX4_holding_24 ⟨⟨Nat.le_of_ble_eq_true rfl, Nat.le_of_ble_eq_true rfl⟩, Nat.le_of_ble_eq_true rfl, Nat.le_of_ble_eq_true rfl⟩ hL (fun locs hL => ?_)
          refine lv_icmp_ge (tgt := 74) Z.hx Z.hb dX4_holding_29 (by decide) (fun c29 => ?_) (fun c29 => ?_)
          · exact absurd c29 (nI_ge hmb (by omega))
          · skip
            refine lv_aload Z.hx Z.hb dX4_holding_32 (lv_at hl 2 rfl) ?_
            refine lv_iload Z.hx Z.hb dX4_holding_34 (lv_at hl 0 rfl) ?_
            -- java/util/List.get
            refine z_pcallF (rest := []) (As := [.int (nI m)]) Z (j_get G l H _ h es hA m y hmb (by omega) hy) gw_X4_52 Z.K.2.2.1.2.2 gd_L_get hOl rfl hl.1 (Nat.le_of_ble_eq_true rfl) rfl dX4_holding_36 ⟨⟨Nat.le_of_ble_eq_true rfl, Nat.le_of_ble_eq_true rfl⟩, Nat.le_of_ble_eq_true rfl, Nat.le_of_ble_eq_true rfl⟩ hL (fun locs hL => ?_)
            refine z_castS Z (ci := 4) rfl q488 hOy.2 dX4_holding_41 ?_
            -- LinkResolver$Holding.day
            refine z_pcallV (rest := []) (As := []) Z (h_day G l H y _ _ _ _ _ hOy.2) gw_X4_67 gd_X4_67 rfl hOy.2 rfl hl.1 (Nat.le_of_ble_eq_true rfl) rfl dX4_holding_44 ⟨⟨Nat.le_of_ble_eq_true rfl, Nat.le_of_ble_eq_true rfl⟩, Nat.le_of_ble_eq_true rfl, Nat.le_of_ble_eq_true rfl⟩ hL (fun locs hL => ?_)
            refine lv_iload_n Z.hx Z.hb dX4_holding_47 rfl (lv_at hl 5 rfl) ?_
            refine lv_icmp_gt (tgt := 66) Z.hx Z.hb dX4_holding_48 (by decide) (fun c48 => ?_) (fun c48 => ?_)
            · skip
              refine lv_aload_nN Z.hx Z.hb dX4_holding_66 rfl (lv_at hl 1 rfl) ?_
              refine lv_astore_nN (lv' := [(3, .null), (5, .int (nI m)), (4, .ref h), (0, .ref p), (1, .int (nI k)), (2, .int d)]) Z.hx Z.hb dX4_holding_67 rfl hl (by decide) rfl (fun ls hl => ?_)
              refine lv_iinc (v := (nI m) + 1) (lv' := [(5, .int ((nI m) + 1)), (3, .null), (4, .ref h), (0, .ref p), (1, .int (nI k)), (2, .int d)]) Z.hx Z.hb dX4_holding_68 hl (k := 1) rfl rfl (by decide) rfl (fun ls hl => ?_)
              refine lv_goto (tgt := 20) Z.hx Z.hb dX4_holding_71 (by decide) ?_
              have hst : xAd es q d (m + 1) = none := (if_neg (Int32.not_le.mpr c48)).trans hfd
              exact ih (m + 1) (by omega) _ hL ls (lv_sub (z_loc (l' := [(5, .int (nI (m + 1))), (3, va_rf (xAd es q d (m + 1))), (4, .ref h), (0, .ref p), (1, .int (nI k)), (2, .int d)]) hl (by rw [hst, nI_succ]; rfl)) [0, 1, 2, 3, 4, 5] rfl)
            · skip
              refine lv_aload Z.hx Z.hb dX4_holding_51 (lv_at hl 2 rfl) ?_
              refine lv_iload Z.hx Z.hb dX4_holding_53 (lv_at hl 0 rfl) ?_
              -- java/util/List.get
              refine z_pcallF (rest := []) (As := [.int (nI m)]) Z (j_get G l H _ h es hA m y hmb (by omega) hy) gw_X4_52 Z.K.2.2.1.2.2 gd_L_get hOl rfl hl.1 (Nat.le_of_ble_eq_true rfl) rfl dX4_holding_55 ⟨⟨Nat.le_of_ble_eq_true rfl, Nat.le_of_ble_eq_true rfl⟩, Nat.le_of_ble_eq_true rfl, Nat.le_of_ble_eq_true rfl⟩ hL (fun locs hL => ?_)
              refine z_castS Z (ci := 4) rfl q488 hOy.2 dX4_holding_60 ?_
              refine lv_goto (tgt := 67) Z.hx Z.hb dX4_holding_63 (by decide) ?_
              refine lv_astore_n (lv' := [(3, .ref y), (5, .int (nI m)), (4, .ref h), (0, .ref p), (1, .int (nI k)), (2, .int d)]) Z.hx Z.hb dX4_holding_67 rfl hl (by decide) rfl (fun ls hl => ?_)
              refine lv_iinc (v := (nI m) + 1) (lv' := [(5, .int ((nI m) + 1)), (3, .ref y), (4, .ref h), (0, .ref p), (1, .int (nI k)), (2, .int d)]) Z.hx Z.hb dX4_holding_68 hl (k := 1) rfl rfl (by decide) rfl (fun ls hl => ?_)
              refine lv_goto (tgt := 20) Z.hx Z.hb dX4_holding_71 (by decide) ?_
              have hst : xAd es q d (m + 1) = some y := (if_pos (Int32.not_lt.mp c48)).trans hy
              exact ih (m + 1) (by omega) _ hL ls (lv_sub (z_loc (l' := [(5, .int (nI (m + 1))), (3, va_rf (xAd es q d (m + 1))), (4, .ref h), (0, .ref p), (1, .int (nI k)), (2, .int d)]) hl (by rw [hst, nI_succ]; rfl)) [0, 1, 2, 3, 4, 5] rfl)
        | some a =>
          have hl : lv_has ls 6 [(5, .int (nI m)), (3, .ref a), (4, .ref h), (0, .ref p), (1, .int (nI k)), (2, .int d)] := z_loc hl (by rw [hfd]; rfl)
          refine lv_iload Z.hx Z.hb dX4_holding_20 (lv_at hl 0 rfl) ?_
          refine lv_aload Z.hx Z.hb dX4_holding_22 (lv_at hl 2 rfl) ?_
          -- java/util/List.size
          refine z_pcallF (rest := [.int (nI m)]) (As := []) Z (j_size G l H _ h es hA) gw_X4_48 Z.K.2.2.1.1 gd_L_size hOl rfl hl.1 (Nat.le_of_ble_eq_true rfl) rfl dX4_holding_24 ⟨⟨Nat.le_of_ble_eq_true rfl, Nat.le_of_ble_eq_true rfl⟩, Nat.le_of_ble_eq_true rfl, Nat.le_of_ble_eq_true rfl⟩ hL (fun locs hL => ?_)
          refine lv_icmp_ge (tgt := 74) Z.hx Z.hb dX4_holding_29 (by decide) (fun c29 => ?_) (fun c29 => ?_)
          · exact absurd c29 (nI_ge hmb (by omega))
          · skip
            refine lv_aload Z.hx Z.hb dX4_holding_32 (lv_at hl 2 rfl) ?_
            refine lv_iload Z.hx Z.hb dX4_holding_34 (lv_at hl 0 rfl) ?_
            -- java/util/List.get
            refine z_pcallF (rest := []) (As := [.int (nI m)]) Z (j_get G l H _ h es hA m y hmb (by omega) hy) gw_X4_52 Z.K.2.2.1.2.2 gd_L_get hOl rfl hl.1 (Nat.le_of_ble_eq_true rfl) rfl dX4_holding_36 ⟨⟨Nat.le_of_ble_eq_true rfl, Nat.le_of_ble_eq_true rfl⟩, Nat.le_of_ble_eq_true rfl, Nat.le_of_ble_eq_true rfl⟩ hL (fun locs hL => ?_)
            refine z_castS Z (ci := 4) rfl q488 hOy.2 dX4_holding_41 ?_
            -- LinkResolver$Holding.day
            refine z_pcallV (rest := []) (As := []) Z (h_day G l H y _ _ _ _ _ hOy.2) gw_X4_67 gd_X4_67 rfl hOy.2 rfl hl.1 (Nat.le_of_ble_eq_true rfl) rfl dX4_holding_44 ⟨⟨Nat.le_of_ble_eq_true rfl, Nat.le_of_ble_eq_true rfl⟩, Nat.le_of_ble_eq_true rfl, Nat.le_of_ble_eq_true rfl⟩ hL (fun locs hL => ?_)
            refine lv_iload_n Z.hx Z.hb dX4_holding_47 rfl (lv_at hl 5 rfl) ?_
            refine lv_icmp_gt (tgt := 66) Z.hx Z.hb dX4_holding_48 (by decide) (fun c48 => ?_) (fun c48 => ?_)
            · skip
              refine lv_aload_n Z.hx Z.hb dX4_holding_66 rfl (lv_at hl 1 rfl) ?_
              refine lv_astore_n (lv' := [(3, .ref a), (5, .int (nI m)), (4, .ref h), (0, .ref p), (1, .int (nI k)), (2, .int d)]) Z.hx Z.hb dX4_holding_67 rfl hl (by decide) rfl (fun ls hl => ?_)
              refine lv_iinc (v := (nI m) + 1) (lv' := [(5, .int ((nI m) + 1)), (3, .ref a), (4, .ref h), (0, .ref p), (1, .int (nI k)), (2, .int d)]) Z.hx Z.hb dX4_holding_68 hl (k := 1) rfl rfl (by decide) rfl (fun ls hl => ?_)
              refine lv_goto (tgt := 20) Z.hx Z.hb dX4_holding_71 (by decide) ?_
              have hst : xAd es q d (m + 1) = some a := (if_neg (Int32.not_le.mpr c48)).trans hfd
              exact ih (m + 1) (by omega) _ hL ls (lv_sub (z_loc (l' := [(5, .int (nI (m + 1))), (3, va_rf (xAd es q d (m + 1))), (4, .ref h), (0, .ref p), (1, .int (nI k)), (2, .int d)]) hl (by rw [hst, nI_succ]; rfl)) [0, 1, 2, 3, 4, 5] rfl)
            · skip
              refine lv_aload Z.hx Z.hb dX4_holding_51 (lv_at hl 2 rfl) ?_
              refine lv_iload Z.hx Z.hb dX4_holding_53 (lv_at hl 0 rfl) ?_
              -- java/util/List.get
              refine z_pcallF (rest := []) (As := [.int (nI m)]) Z (j_get G l H _ h es hA m y hmb (by omega) hy) gw_X4_52 Z.K.2.2.1.2.2 gd_L_get hOl rfl hl.1 (Nat.le_of_ble_eq_true rfl) rfl dX4_holding_55 ⟨⟨Nat.le_of_ble_eq_true rfl, Nat.le_of_ble_eq_true rfl⟩, Nat.le_of_ble_eq_true rfl, Nat.le_of_ble_eq_true rfl⟩ hL (fun locs hL => ?_)
              refine z_castS Z (ci := 4) rfl q488 hOy.2 dX4_holding_60 ?_
              refine lv_goto (tgt := 67) Z.hx Z.hb dX4_holding_63 (by decide) ?_
              refine lv_astore_n (lv' := [(3, .ref y), (5, .int (nI m)), (4, .ref h), (0, .ref p), (1, .int (nI k)), (2, .int d)]) Z.hx Z.hb dX4_holding_67 rfl hl (by decide) rfl (fun ls hl => ?_)
              refine lv_iinc (v := (nI m) + 1) (lv' := [(5, .int ((nI m) + 1)), (3, .ref y), (4, .ref h), (0, .ref p), (1, .int (nI k)), (2, .int d)]) Z.hx Z.hb dX4_holding_68 hl (k := 1) rfl rfl (by decide) rfl (fun ls hl => ?_)
              refine lv_goto (tgt := 20) Z.hx Z.hb dX4_holding_71 (by decide) ?_
              have hst : xAd es q d (m + 1) = some y := (if_pos (Int32.not_lt.mp c48)).trans hy
              exact ih (m + 1) (by omega) _ hL ls (lv_sub (z_loc (l' := [(5, .int (nI (m + 1))), (3, va_rf (xAd es q d (m + 1))), (4, .ref h), (0, .ref p), (1, .int (nI k)), (2, .int d)]) hl (by rw [hst, nI_succ]; rfl)) [0, 1, 2, 3, 4, 5] rfl)
    refine lv_null Z.hx Z.hb dX4_holding_0 ?_
    refine lv_astore_nN (lv' := [(3, .null), (0, .ref p), (1, .int (nI k)), (2, .int d)]) Z.hx Z.hb dX4_holding_1 rfl hl (by decide) rfl (fun ls hl => ?_)
    refine lv_aload_n Z.hx Z.hb dX4_holding_2 rfl (lv_at hl 1 rfl) ?_
    refine gf_X4_18 Z hO (v := .ref hl0) rfl dX4_holding_3 ?_
    refine lv_iload_n Z.hx Z.hb dX4_holding_6 rfl (lv_at hl 2 rfl) ?_
    -- java/util/List.get
    refine z_pcallF (rest := []) (As := [.int (nI k)]) Z (j_get G l H _ hl0 hs hA0 k h (by omega) (by omega) hh) gw_X4_52 Z.K.2.2.1.2.2 gd_L_get hOs rfl hl.1 (Nat.le_of_ble_eq_true rfl) rfl dX4_holding_7 ⟨⟨Nat.le_of_ble_eq_true rfl, Nat.le_of_ble_eq_true rfl⟩, Nat.le_of_ble_eq_true rfl, Nat.le_of_ble_eq_true rfl⟩ hL (fun locs hL => ?_)
    refine z_castY Z (ci := 6) rfl q487 q182 hOl dX4_holding_12 ?_
    refine lv_astore (lv' := [(4, .ref h), (3, .null), (0, .ref p), (1, .int (nI k)), (2, .int d)]) Z.hx Z.hb dX4_holding_15 hl (by decide) rfl (fun ls hl => ?_)
    refine lv_iconst (v := 0) Z.hx Z.hb dX4_holding_17 (by decide) ?_
    refine lv_istore (lv' := [(5, .int 0), (4, .ref h), (3, .null), (0, .ref p), (1, .int (nI k)), (2, .int d)]) Z.hx Z.hb dX4_holding_18 hl (by decide) rfl (fun ls hl => ?_)
    exact loop es.length 0 (by omega) _ hL ls (lv_sub (z_loc (l' := [(5, .int (nI 0)), (4, .ref h), (3, va_rf (xAd es q d 0)), (0, .ref p), (1, .int (nI k)), (2, .int d)]) hl (by rfl)) [0, 2, 1, 3, 4, 5] rfl)
  · obtain ⟨i, g1, g2⟩ := xAd_some h9
    exact ⟨(q i).1, (q i).2, (hlk d).trans g2, (hEs i a g1).2, h01 i⟩
set_option maxHeartbeats 4000000 in
set_option maxRecDepth 100000 in
theorem p_in (G : zG) (l : Launch) (H : Heap) (R : xRo) (σ : zS) (n j p : Nat) (hp : xPk G H R σ n j p) (hn29 : n < 2 ^ 29) (k : Nat) (hk20 : k < 20) (d : Int32) : zMp G l yX4_isIn cX4_isIn 4 (Option.some Jvm.ClassFile.FieldType.boolean) 4 [.ref p, .int (nI k), .int d] H (.int (zb (sOn (sL σ j k d)))) := by
  have hp0 := hp
  obtain ⟨sl, hl0, br, hRp, hO, hSb, hHs, hBk⟩ := hp
  refine zM.of (by decide +kernel) (Nat.le_of_ble_eq_true rfl) ?_
  intro p0 e0 s0 m0 args0 below0 meth0 c0 Z hr hH hn0 ls hl
  have Z : zC G p0 s0 m0 args0 meth0 c0 RX4 cX4_isIn 4 := Z
  have hl : lv_has ls 4 [(0, .ref p), (1, .int (nI k)), (2, .int d)] := hl
  have hL : zL G [] := zL.nil
  obtain ⟨r9, hM9, hn9, hs9⟩ := p_hold G l H R σ n j p hp0 hn29 k hk20 d
  cases r9 with
  | none =>
    refine lv_aload_n Z.hx Z.hb dX4_isIn_0 rfl (lv_at hl 0 rfl) ?_
    refine lv_iload_n Z.hx Z.hb dX4_isIn_1 rfl (lv_at hl 1 rfl) ?_
    refine lv_iload_n Z.hx Z.hb dX4_isIn_2 rfl (lv_at hl 2 rfl) ?_
    -- LinkResolver$Package.holding
    refine z_pcallV (rest := []) (As := [.int (nI k), .int d]) Z hM9 gw_X4_68 gd_X4_68 rfl hO rfl hl.1 (Nat.le_of_ble_eq_true rfl) rfl dX4_isIn_3 ⟨⟨Nat.le_of_ble_eq_true rfl, Nat.le_of_ble_eq_true rfl⟩, Nat.le_of_ble_eq_true rfl, Nat.le_of_ble_eq_true rfl⟩ hL (fun locs hL => ?_)
    refine lv_astore_nN (lv' := [(3, .null), (0, .ref p), (1, .int (nI k)), (2, .int d)]) Z.hx Z.hb dX4_isIn_6 rfl hl (by decide) rfl (fun ls hl => ?_)
    refine lv_aload_nN Z.hx Z.hb dX4_isIn_7 rfl (lv_at hl 0 rfl) ?_
    refine lv_ifnullN (tgt := 22) Z.hx Z.hb dX4_isIn_8 (by decide) ?_
    refine lv_iconst (v := 0) Z.hx Z.hb dX4_isIn_22 (by decide) ?_
    exact z_zret Z hr hL (by decide) (⟨by rw [hn9 rfl]; rfl, rfl⟩) (Nat.le_of_ble_eq_true rfl) (Nat.le_of_ble_eq_true rfl) dX4_isIn_23
  | some a =>
    obtain ⟨dy, z, hlk, hOh, hz01⟩ := hs9 a rfl
    refine lv_aload_n Z.hx Z.hb dX4_isIn_0 rfl (lv_at hl 0 rfl) ?_
    refine lv_iload_n Z.hx Z.hb dX4_isIn_1 rfl (lv_at hl 1 rfl) ?_
    refine lv_iload_n Z.hx Z.hb dX4_isIn_2 rfl (lv_at hl 2 rfl) ?_
    -- LinkResolver$Package.holding
    refine z_pcallV (rest := []) (As := [.int (nI k), .int d]) Z hM9 gw_X4_68 gd_X4_68 rfl hO rfl hl.1 (Nat.le_of_ble_eq_true rfl) rfl dX4_isIn_3 ⟨⟨Nat.le_of_ble_eq_true rfl, Nat.le_of_ble_eq_true rfl⟩, Nat.le_of_ble_eq_true rfl, Nat.le_of_ble_eq_true rfl⟩ hL (fun locs hL => ?_)
    refine lv_astore_n (lv' := [(3, .ref a), (0, .ref p), (1, .int (nI k)), (2, .int d)]) Z.hx Z.hb dX4_isIn_6 rfl hl (by decide) rfl (fun ls hl => ?_)
    refine lv_aload_n Z.hx Z.hb dX4_isIn_7 rfl (lv_at hl 0 rfl) ?_
    refine lv_ifnull Z.hx Z.hb dX4_isIn_8 ?_
    refine lv_aload_n Z.hx Z.hb dX4_isIn_11 rfl (lv_at hl 0 rfl) ?_
    -- LinkResolver$Holding.isIn
    refine z_pcallV (rest := []) (As := []) Z (h_in G l H a _ _ _ _ _ hOh hz01) gw_X4_72 gd_X4_72 rfl hOh rfl hl.1 (Nat.le_of_ble_eq_true rfl) rfl dX4_isIn_12 ⟨⟨Nat.le_of_ble_eq_true rfl, Nat.le_of_ble_eq_true rfl⟩, Nat.le_of_ble_eq_true rfl, Nat.le_of_ble_eq_true rfl⟩ hL (fun locs hL => ?_)
    refine lv_if_eq (tgt := 22) Z.hx Z.hb dX4_isIn_15 (by decide) (fun c15 => ?_) (fun c15 => ?_)
    · skip
      refine lv_iconst (v := 0) Z.hx Z.hb dX4_isIn_22 (by decide) ?_
      exact z_zret Z hr hL (by decide) (⟨by rw [hlk]; simp [zb, sOn, c15], rfl⟩) (Nat.le_of_ble_eq_true rfl) (Nat.le_of_ble_eq_true rfl) dX4_isIn_23
    · skip
      refine lv_iconst (v := 1) Z.hx Z.hb dX4_isIn_18 (by decide) ?_
      refine lv_goto (tgt := 23) Z.hx Z.hb dX4_isIn_19 (by decide) ?_
      exact z_zret Z hr hL (by decide) (⟨by rw [hlk]; simp [zb, sOn, c15], rfl⟩) (Nat.le_of_ble_eq_true rfl) (Nat.le_of_ble_eq_true rfl) dX4_isIn_23
set_option maxHeartbeats 4000000 in
set_option maxRecDepth 100000 in
theorem p_gives (G : zG) (l : Launch) (H : Heap) (R : xRo) (σ : zS) (n j p : Nat) (hp : xPk G H R σ n j p) (hn29 : n < 2 ^ 29) (k : Nat) (hk20 : k < 20) (y d ao : Int32) : zMp G l yX4_gives cX4_gives 7 (Option.some Jvm.ClassFile.FieldType.boolean) 4 [.ref p, .int (nI k), .int y, .int d, .int ao] H (.int (zb (sHas σ j k y d ao))) := by
  have hp0 := hp
  obtain ⟨sl, hl0, br, hRp, hO, hSb, hHs, hBk⟩ := hp
  refine zM.of (by decide +kernel) (Nat.le_of_ble_eq_true rfl) ?_
  intro p0 e0 s0 m0 args0 below0 meth0 c0 Z hr hH hn0 ls hl
  have Z : zC G p0 s0 m0 args0 meth0 c0 RX4 cX4_gives 7 := Z
  have hl : lv_has ls 7 [(0, .ref p), (1, .int (nI k)), (2, .int y), (3, .int d), (4, .int ao)] := hl
  have hL : zL G [] := zL.nil
  obtain ⟨r9, hM9, hn9, hs9⟩ := p_hold G l H R σ n j p hp0 hn29 k hk20 d
  cases r9 with
  | none =>
    refine lv_aload_n Z.hx Z.hb dX4_gives_0 rfl (lv_at hl 0 rfl) ?_
    refine lv_iload_n Z.hx Z.hb dX4_gives_1 rfl (lv_at hl 1 rfl) ?_
    refine lv_iload_n Z.hx Z.hb dX4_gives_2 rfl (lv_at hl 3 rfl) ?_
    -- LinkResolver$Package.holding
    refine z_pcallV (rest := []) (As := [.int (nI k), .int d]) Z hM9 gw_X4_68 gd_X4_68 rfl hO rfl hl.1 (Nat.le_of_ble_eq_true rfl) rfl dX4_gives_3 ⟨⟨Nat.le_of_ble_eq_true rfl, Nat.le_of_ble_eq_true rfl⟩, Nat.le_of_ble_eq_true rfl, Nat.le_of_ble_eq_true rfl⟩ hL (fun locs hL => ?_)
    refine lv_astoreN (lv' := [(5, .null), (0, .ref p), (1, .int (nI k)), (2, .int y), (3, .int d), (4, .int ao)]) Z.hx Z.hb dX4_gives_6 hl (by decide) rfl (fun ls hl => ?_)
    refine lv_aloadN Z.hx Z.hb dX4_gives_8 (lv_at hl 0 rfl) ?_
    refine lv_ifnullN (tgt := 34) Z.hx Z.hb dX4_gives_10 (by decide) ?_
    refine lv_iconst (v := 0) Z.hx Z.hb dX4_gives_34 (by decide) ?_
    refine lv_istore (lv' := [(6, .int 0), (5, .null), (0, .ref p), (1, .int (nI k)), (2, .int y), (3, .int d), (4, .int ao)]) Z.hx Z.hb dX4_gives_35 hl (by decide) rfl (fun ls hl => ?_)
    refine lv_iload Z.hx Z.hb dX4_gives_37 (lv_at hl 0 rfl) ?_
    refine lv_if_eq (tgt := 62) Z.hx Z.hb dX4_gives_39 (by decide) (fun c39 => ?_) (fun c39 => ?_)
    · skip
      refine lv_iconst (v := 0) Z.hx Z.hb dX4_gives_62 (by decide) ?_
      exact z_zret Z hr hL (by decide) (⟨by unfold sHas; rw [hn9 rfl]; rfl, rfl⟩) (Nat.le_of_ble_eq_true rfl) (Nat.le_of_ble_eq_true rfl) dX4_gives_63
    · exact absurd (by decide) c39
  | some a =>
    obtain ⟨dy, z, hlk, hOh, hz01⟩ := hs9 a rfl
    refine lv_aload_n Z.hx Z.hb dX4_gives_0 rfl (lv_at hl 0 rfl) ?_
    refine lv_iload_n Z.hx Z.hb dX4_gives_1 rfl (lv_at hl 1 rfl) ?_
    refine lv_iload_n Z.hx Z.hb dX4_gives_2 rfl (lv_at hl 3 rfl) ?_
    -- LinkResolver$Package.holding
    refine z_pcallV (rest := []) (As := [.int (nI k), .int d]) Z hM9 gw_X4_68 gd_X4_68 rfl hO rfl hl.1 (Nat.le_of_ble_eq_true rfl) rfl dX4_gives_3 ⟨⟨Nat.le_of_ble_eq_true rfl, Nat.le_of_ble_eq_true rfl⟩, Nat.le_of_ble_eq_true rfl, Nat.le_of_ble_eq_true rfl⟩ hL (fun locs hL => ?_)
    refine lv_astore (lv' := [(5, .ref a), (0, .ref p), (1, .int (nI k)), (2, .int y), (3, .int d), (4, .int ao)]) Z.hx Z.hb dX4_gives_6 hl (by decide) rfl (fun ls hl => ?_)
    refine lv_aload Z.hx Z.hb dX4_gives_8 (lv_at hl 0 rfl) ?_
    refine lv_ifnull Z.hx Z.hb dX4_gives_10 ?_
    refine lv_aload Z.hx Z.hb dX4_gives_13 (lv_at hl 0 rfl) ?_
    refine lv_iload_n Z.hx Z.hb dX4_gives_15 rfl (lv_at hl 3 rfl) ?_
    -- LinkResolver$Holding.hasYear
    refine z_pcallV (rest := []) (As := [.int y]) Z (h_year G l H a _ _ _ _ _ hOh y) gw_X4_75 gd_X4_75 rfl hOh rfl hl.1 (Nat.le_of_ble_eq_true rfl) rfl dX4_gives_16 ⟨⟨Nat.le_of_ble_eq_true rfl, Nat.le_of_ble_eq_true rfl⟩, Nat.le_of_ble_eq_true rfl, Nat.le_of_ble_eq_true rfl⟩ hL (fun locs hL => ?_)
    refine lv_if_eq (tgt := 34) Z.hx Z.hb dX4_gives_19 (by decide) (fun c19 => ?_) (fun c19 => ?_)
    · skip
      have c19 : (!decide (z.1 = 0) && mBt y z.2.1 z.2.2.1) = false := zb_0.mp c19
      refine lv_iconst (v := 0) Z.hx Z.hb dX4_gives_34 (by decide) ?_
      refine lv_istore (lv' := [(6, .int 0), (5, .ref a), (0, .ref p), (1, .int (nI k)), (2, .int y), (3, .int d), (4, .int ao)]) Z.hx Z.hb dX4_gives_35 hl (by decide) rfl (fun ls hl => ?_)
      refine lv_iload Z.hx Z.hb dX4_gives_37 (lv_at hl 0 rfl) ?_
      refine lv_if_eq (tgt := 62) Z.hx Z.hb dX4_gives_39 (by decide) (fun c39 => ?_) (fun c39 => ?_)
      · skip
        refine lv_iconst (v := 0) Z.hx Z.hb dX4_gives_62 (by decide) ?_
        exact z_zret Z hr hL (by decide) (⟨by unfold sHas; rw [hlk]; exact congrArg (fun z => some (Value.int z)) (zb_no (by show ((!decide (z.1 = 0) && mBt y z.2.1 z.2.2.1) && !decide (ao / 360 - z.2.2.2 < y) && sOn (sL σ j 20 d)) = _; simp [c19, c39])), rfl⟩) (Nat.le_of_ble_eq_true rfl) (Nat.le_of_ble_eq_true rfl) dX4_gives_63
      · exact absurd (by decide) c39
    · skip
      have c19 : (!decide (z.1 = 0) && mBt y z.2.1 z.2.2.1) = true := zb_n.mp c19
      refine lv_aload_n Z.hx Z.hb dX4_gives_22 rfl (lv_at hl 1 rfl) ?_
      refine lv_iload_n Z.hx Z.hb dX4_gives_23 rfl (lv_at hl 4 rfl) ?_
      -- LinkResolver$Package.isSubscribed
      refine z_pcallV (rest := []) (As := [.int d]) Z (p_sub G l H R σ n j p hp0 hn29 d) gw_X4_79 gd_X4_79 rfl hO rfl hl.1 (Nat.le_of_ble_eq_true rfl) rfl dX4_gives_24 ⟨⟨Nat.le_of_ble_eq_true rfl, Nat.le_of_ble_eq_true rfl⟩, Nat.le_of_ble_eq_true rfl, Nat.le_of_ble_eq_true rfl⟩ hL (fun locs hL => ?_)
      refine lv_if_eq (tgt := 34) Z.hx Z.hb dX4_gives_27 (by decide) (fun c27 => ?_) (fun c27 => ?_)
      · skip
        have c27 : (sOn (sL σ j 20 d)) = false := zb_0.mp c27
        refine lv_iconst (v := 0) Z.hx Z.hb dX4_gives_34 (by decide) ?_
        refine lv_istore (lv' := [(6, .int 0), (5, .ref a), (0, .ref p), (1, .int (nI k)), (2, .int y), (3, .int d), (4, .int ao)]) Z.hx Z.hb dX4_gives_35 hl (by decide) rfl (fun ls hl => ?_)
        refine lv_iload Z.hx Z.hb dX4_gives_37 (lv_at hl 0 rfl) ?_
        refine lv_if_eq (tgt := 62) Z.hx Z.hb dX4_gives_39 (by decide) (fun c39 => ?_) (fun c39 => ?_)
        · skip
          refine lv_iconst (v := 0) Z.hx Z.hb dX4_gives_62 (by decide) ?_
          exact z_zret Z hr hL (by decide) (⟨by unfold sHas; rw [hlk]; exact congrArg (fun z => some (Value.int z)) (zb_no (by show ((!decide (z.1 = 0) && mBt y z.2.1 z.2.2.1) && !decide (ao / 360 - z.2.2.2 < y) && sOn (sL σ j 20 d)) = _; simp [c19, c27, c39])), rfl⟩) (Nat.le_of_ble_eq_true rfl) (Nat.le_of_ble_eq_true rfl) dX4_gives_63
        · exact absurd (by decide) c39
      · skip
        have c27 : (sOn (sL σ j 20 d)) = true := zb_n.mp c27
        refine lv_iconst (v := 1) Z.hx Z.hb dX4_gives_30 (by decide) ?_
        refine lv_goto (tgt := 35) Z.hx Z.hb dX4_gives_31 (by decide) ?_
        refine lv_istore (lv' := [(6, .int 1), (5, .ref a), (0, .ref p), (1, .int (nI k)), (2, .int y), (3, .int d), (4, .int ao)]) Z.hx Z.hb dX4_gives_35 hl (by decide) rfl (fun ls hl => ?_)
        refine lv_iload Z.hx Z.hb dX4_gives_37 (lv_at hl 0 rfl) ?_
        refine lv_if_eq (tgt := 62) Z.hx Z.hb dX4_gives_39 (by decide) (fun c39 => ?_) (fun c39 => ?_)
        · exact absurd c39 (by decide)
        · skip
          refine lv_iload_n Z.hx Z.hb dX4_gives_42 rfl (lv_at hl 4 rfl) ?_
          refine lv_iload Z.hx Z.hb dX4_gives_43 (lv_at hl 6 rfl) ?_
          refine lv_sipush (v := 360) Z.hx Z.hb dX4_gives_45 (by decide) ?_
          refine lv_idiv Z.hx Z.hb dX4_gives_48 (by decide) ?_
          refine lv_aload Z.hx Z.hb dX4_gives_49 (lv_at hl 1 rfl) ?_
          -- LinkResolver$Holding.wall
          refine z_pcallV (rest := [.int (ao / 360), .int y]) (As := []) Z (h_wall G l H a _ _ _ _ _ hOh) gw_X4_82 gd_X4_82 rfl hOh rfl hl.1 (Nat.le_of_ble_eq_true rfl) rfl dX4_gives_51 ⟨⟨Nat.le_of_ble_eq_true rfl, Nat.le_of_ble_eq_true rfl⟩, Nat.le_of_ble_eq_true rfl, Nat.le_of_ble_eq_true rfl⟩ hL (fun locs hL => ?_)
          refine lv_isub Z.hx Z.hb dX4_gives_54 ?_
          refine lv_icmp_gt (tgt := 62) Z.hx Z.hb dX4_gives_55 (by decide) (fun c55 => ?_) (fun c55 => ?_)
          · skip
            refine lv_iconst (v := 0) Z.hx Z.hb dX4_gives_62 (by decide) ?_
            exact z_zret Z hr hL (by decide) (⟨by unfold sHas; rw [hlk]; exact congrArg (fun z => some (Value.int z)) (zb_no (by show ((!decide (z.1 = 0) && mBt y z.2.1 z.2.2.1) && !decide (ao / 360 - z.2.2.2 < y) && sOn (sL σ j 20 d)) = _; simp [c19, c27, c39, c55])), rfl⟩) (Nat.le_of_ble_eq_true rfl) (Nat.le_of_ble_eq_true rfl) dX4_gives_63
          · skip
            refine lv_iconst (v := 1) Z.hx Z.hb dX4_gives_58 (by decide) ?_
            refine lv_goto (tgt := 63) Z.hx Z.hb dX4_gives_59 (by decide) ?_
            exact z_zret Z hr hL (by decide) (⟨by unfold sHas; rw [hlk]; exact congrArg (fun z => some (Value.int z)) (zb_of (by show ((!decide (z.1 = 0) && mBt y z.2.1 z.2.2.1) && !decide (ao / 360 - z.2.2.2 < y) && sOn (sL σ j 20 d)) = _; simp [c19, c27, c39, c55])), rfl⟩) (Nat.le_of_ble_eq_true rfl) (Nat.le_of_ble_eq_true rfl) dX4_gives_63
set_option maxHeartbeats 4000000 in
set_option maxRecDepth 100000 in
theorem p_kept (G : zG) (l : Launch) (H : Heap) (R : xRo) (σ : zS) (n j p : Nat) (hp : xPk G H R σ n j p) (hn29 : n < 2 ^ 29) (k : Nat) (hk20 : k < 20) (y d : Int32) : zMp G l yX4_hasKept cX4_hasKept 5 (Option.some Jvm.ClassFile.FieldType.boolean) 5 [.ref p, .int (nI k), .int y, .int d] H (.int (zb (sKept σ j k y d))) := by
  have hp0 := hp
  obtain ⟨sl, hl0, br, hRp, hO, hSb, hHs, hBk⟩ := hp
  refine zM.of (by decide +kernel) (Nat.le_of_ble_eq_true rfl) ?_
  intro p0 e0 s0 m0 args0 below0 meth0 c0 Z hr hH hn0 ls hl
  have Z : zC G p0 s0 m0 args0 meth0 c0 RX4 cX4_hasKept 5 := Z
  have hl : lv_has ls 5 [(0, .ref p), (1, .int (nI k)), (2, .int y), (3, .int d)] := hl
  have hL : zL G [] := zL.nil
  refine lv_sipush (v := 360) Z.hx Z.hb dX4_hasKept_0 (by decide) ?_
  refine lv_iload_n Z.hx Z.hb dX4_hasKept_3 rfl (lv_at hl 2 rfl) ?_
  refine lv_imul Z.hx Z.hb dX4_hasKept_4 ?_
  refine lv_sipush (v := 360) Z.hx Z.hb dX4_hasKept_5 (by decide) ?_
  refine lv_iadd Z.hx Z.hb dX4_hasKept_8 ?_
  refine lv_iconst (v := 1) Z.hx Z.hb dX4_hasKept_9 (by decide) ?_
  refine lv_isub Z.hx Z.hb dX4_hasKept_10 ?_
  refine lv_istore (lv' := [(4, .int (((360 * y) + 360) - 1)), (0, .ref p), (1, .int (nI k)), (2, .int y), (3, .int d)]) Z.hx Z.hb dX4_hasKept_11 hl (by decide) rfl (fun ls hl => ?_)
  refine lv_aload_n Z.hx Z.hb dX4_hasKept_13 rfl (lv_at hl 1 rfl) ?_
  refine gf_X4_38 Z hO (v := .int (sA σ 5 j)) rfl dX4_hasKept_14 ?_
  refine lv_if_eq (tgt := 42) Z.hx Z.hb dX4_hasKept_17 (by decide) (fun c17 => ?_) (fun c17 => ?_)
  · skip
    refine lv_iconst (v := 0) Z.hx Z.hb dX4_hasKept_42 (by decide) ?_
    exact z_zret Z hr hL (by decide) (⟨by simp [zb, sKept, mLd, c17], rfl⟩) (Nat.le_of_ble_eq_true rfl) (Nat.le_of_ble_eq_true rfl) dX4_hasKept_43
  · skip
    refine lv_iload Z.hx Z.hb dX4_hasKept_20 (lv_at hl 0 rfl) ?_
    refine lv_iload_n Z.hx Z.hb dX4_hasKept_22 rfl (lv_at hl 4 rfl) ?_
    refine lv_icmp_ge (tgt := 42) Z.hx Z.hb dX4_hasKept_23 (by decide) (fun c23 => ?_) (fun c23 => ?_)
    · skip
      refine lv_iconst (v := 0) Z.hx Z.hb dX4_hasKept_42 (by decide) ?_
      exact z_zret Z hr hL (by decide) (⟨by simp [zb, sKept, mLd, c17, c23], rfl⟩) (Nat.le_of_ble_eq_true rfl) (Nat.le_of_ble_eq_true rfl) dX4_hasKept_43
    · skip
      refine lv_aload_n Z.hx Z.hb dX4_hasKept_26 rfl (lv_at hl 1 rfl) ?_
      refine lv_iload_n Z.hx Z.hb dX4_hasKept_27 rfl (lv_at hl 2 rfl) ?_
      refine lv_iload_n Z.hx Z.hb dX4_hasKept_28 rfl (lv_at hl 3 rfl) ?_
      refine lv_iload Z.hx Z.hb dX4_hasKept_29 (lv_at hl 0 rfl) ?_
      refine lv_iload_n Z.hx Z.hb dX4_hasKept_31 rfl (lv_at hl 4 rfl) ?_
      -- LinkResolver$Package.gives
      refine z_pcallV (rest := []) (As := [.int (nI k), .int y, .int (((360 * y) + 360) - 1), .int d]) Z (p_gives G l H R σ n j p hp0 hn29 k hk20 y (((360 * y) + 360) - 1) d) gw_X4_85 gd_X4_85 rfl hO rfl hl.1 (Nat.le_of_ble_eq_true rfl) rfl dX4_hasKept_32 ⟨⟨Nat.le_of_ble_eq_true rfl, Nat.le_of_ble_eq_true rfl⟩, Nat.le_of_ble_eq_true rfl, Nat.le_of_ble_eq_true rfl⟩ hL (fun locs hL => ?_)
      refine lv_if_eq (tgt := 42) Z.hx Z.hb dX4_hasKept_35 (by decide) (fun c35 => ?_) (fun c35 => ?_)
      · skip
        have c35 : (sHas σ j k y (((360 * y) + 360) - 1) d) = false := zb_0.mp c35
        refine lv_iconst (v := 0) Z.hx Z.hb dX4_hasKept_42 (by decide) ?_
        exact z_zret Z hr hL (by decide) (⟨by simp [zb, sKept, mLd, c17, c23, c35], rfl⟩) (Nat.le_of_ble_eq_true rfl) (Nat.le_of_ble_eq_true rfl) dX4_hasKept_43
      · skip
        have c35 : (sHas σ j k y (((360 * y) + 360) - 1) d) = true := zb_n.mp c35
        refine lv_iconst (v := 1) Z.hx Z.hb dX4_hasKept_38 (by decide) ?_
        refine lv_goto (tgt := 43) Z.hx Z.hb dX4_hasKept_39 (by decide) ?_
        exact z_zret Z hr hL (by decide) (⟨by simp [zb, sKept, mLd, c17, c23, c35], rfl⟩) (Nat.le_of_ble_eq_true rfl) (Nat.le_of_ble_eq_true rfl) dX4_hasKept_43
set_option maxHeartbeats 4000000 in
set_option maxRecDepth 100000 in
theorem p_lets (G : zG) (l : Launch) (H : Heap) (R : xRo) (σ : zS) (n j p : Nat) (hp : xPk G H R σ n j p) (hn29 : n < 2 ^ 29) (g : Int32) : zMp G l yX4_letsIn cX4_letsIn 2 (Option.some Jvm.ClassFile.FieldType.boolean) 0 [.ref p, .int g] H (.int (zb (sLet σ j g))) := by
  have hp0 := hp
  obtain ⟨sl, hl0, br, hRp, hO, hSb, hHs, hBk⟩ := hp
  refine zM.of (by decide +kernel) (Nat.le_of_ble_eq_true rfl) ?_
  intro p0 e0 s0 m0 args0 below0 meth0 c0 Z hr hH hn0 ls hl
  have Z : zC G p0 s0 m0 args0 meth0 c0 RX4 cX4_letsIn 2 := Z
  have hl : lv_has ls 2 [(0, .ref p), (1, .int g)] := hl
  have hL : zL G [] := zL.nil
  refine lv_aload_n Z.hx Z.hb dX4_letsIn_0 rfl (lv_at hl 0 rfl) ?_
  refine gf_X4_35 Z hO (v := .int (sA σ 4 j)) rfl dX4_letsIn_1 ?_
  refine lv_iload_n Z.hx Z.hb dX4_letsIn_4 rfl (lv_at hl 1 rfl) ?_
  refine lv_ishr Z.hx Z.hb dX4_letsIn_5 ?_
  refine lv_iconst (v := 1) Z.hx Z.hb dX4_letsIn_6 (by decide) ?_
  refine lv_iand Z.hx Z.hb dX4_letsIn_7 ?_
  refine lv_iconst (v := 1) Z.hx Z.hb dX4_letsIn_8 (by decide) ?_
  refine lv_icmp_ne (tgt := 16) Z.hx Z.hb dX4_letsIn_9 (by decide) (fun c9 => ?_) (fun c9 => ?_)
  · skip
    refine lv_iconst (v := 0) Z.hx Z.hb dX4_letsIn_16 (by decide) ?_
    exact z_zret Z hr hL (by decide) (⟨by simp [zb, sLet, c9], rfl⟩) (Nat.le_of_ble_eq_true rfl) (Nat.le_of_ble_eq_true rfl) dX4_letsIn_17
  · skip
    refine lv_iconst (v := 1) Z.hx Z.hb dX4_letsIn_12 (by decide) ?_
    refine lv_goto (tgt := 17) Z.hx Z.hb dX4_letsIn_13 (by decide) ?_
    exact z_zret Z hr hL (by decide) (⟨by simp [zb, sLet, c9], rfl⟩) (Nat.le_of_ble_eq_true rfl) (Nat.le_of_ble_eq_true rfl) dX4_letsIn_17
set_option maxHeartbeats 4000000 in
set_option maxRecDepth 100000 in
theorem p_cov (G : zG) (l : Launch) (H : Heap) (R : xRo) (σ : zS) (n j p : Nat) (hp : xPk G H R σ n j p) (hn29 : n < 2 ^ 29) (k : Nat) (hk20 : k < 20) (y g d : Int32) : zMp G l yX4_covers cX4_covers 5 (Option.some Jvm.ClassFile.FieldType.boolean) 6 [.ref p, .int (nI k), .int y, .int g, .int d] H (.int (zb (sWay σ j k y g d))) := by
  have hp0 := hp
  obtain ⟨sl, hl0, br, hRp, hO, hSb, hHs, hBk⟩ := hp
  refine zM.of (by decide +kernel) (Nat.le_of_ble_eq_true rfl) ?_
  intro p0 e0 s0 m0 args0 below0 meth0 c0 Z hr hH hn0 ls hl
  have Z : zC G p0 s0 m0 args0 meth0 c0 RX4 cX4_covers 5 := Z
  have hl : lv_has ls 5 [(0, .ref p), (1, .int (nI k)), (2, .int y), (3, .int g), (4, .int d)] := hl
  have hL : zL G [] := zL.nil
  refine lv_aload_n Z.hx Z.hb dX4_covers_0 rfl (lv_at hl 0 rfl) ?_
  refine lv_iload_n Z.hx Z.hb dX4_covers_1 rfl (lv_at hl 3 rfl) ?_
  -- LinkResolver$Package.letsIn
  refine z_pcallV (rest := []) (As := [.int g]) Z (p_lets G l H R σ n j p hp0 hn29 g) gw_X4_89 gd_X4_89 rfl hO rfl hl.1 (Nat.le_of_ble_eq_true rfl) rfl dX4_covers_2 ⟨⟨Nat.le_of_ble_eq_true rfl, Nat.le_of_ble_eq_true rfl⟩, Nat.le_of_ble_eq_true rfl, Nat.le_of_ble_eq_true rfl⟩ hL (fun locs hL => ?_)
  refine lv_if_eq (tgt := 36) Z.hx Z.hb dX4_covers_5 (by decide) (fun c5 => ?_) (fun c5 => ?_)
  · skip
    have c5 : (sLet σ j g) = false := zb_0.mp c5
    refine lv_iconst (v := 0) Z.hx Z.hb dX4_covers_36 (by decide) ?_
    exact z_zret Z hr hL (by decide) (⟨by simp [zb, sWay, sCov, c5], rfl⟩) (Nat.le_of_ble_eq_true rfl) (Nat.le_of_ble_eq_true rfl) dX4_covers_37
  · skip
    have c5 : (sLet σ j g) = true := zb_n.mp c5
    refine lv_aload_n Z.hx Z.hb dX4_covers_8 rfl (lv_at hl 0 rfl) ?_
    refine lv_iload_n Z.hx Z.hb dX4_covers_9 rfl (lv_at hl 1 rfl) ?_
    refine lv_iload_n Z.hx Z.hb dX4_covers_10 rfl (lv_at hl 2 rfl) ?_
    refine lv_iload Z.hx Z.hb dX4_covers_11 (lv_at hl 4 rfl) ?_
    refine lv_iload Z.hx Z.hb dX4_covers_13 (lv_at hl 4 rfl) ?_
    -- LinkResolver$Package.gives
    refine z_pcallV (rest := []) (As := [.int (nI k), .int y, .int d, .int d]) Z (p_gives G l H R σ n j p hp0 hn29 k hk20 y d d) gw_X4_85 gd_X4_85 rfl hO rfl hl.1 (Nat.le_of_ble_eq_true rfl) rfl dX4_covers_15 ⟨⟨Nat.le_of_ble_eq_true rfl, Nat.le_of_ble_eq_true rfl⟩, Nat.le_of_ble_eq_true rfl, Nat.le_of_ble_eq_true rfl⟩ hL (fun locs hL => ?_)
    refine lv_if_ne (tgt := 32) Z.hx Z.hb dX4_covers_18 (by decide) (fun c18 => ?_) (fun c18 => ?_)
    · skip
      have c18 : (sHas σ j k y d d) = true := zb_n.mp c18
      refine lv_iconst (v := 1) Z.hx Z.hb dX4_covers_32 (by decide) ?_
      refine lv_goto (tgt := 37) Z.hx Z.hb dX4_covers_33 (by decide) ?_
      exact z_zret Z hr hL (by decide) (⟨by simp [zb, sWay, sCov, c5, c18], rfl⟩) (Nat.le_of_ble_eq_true rfl) (Nat.le_of_ble_eq_true rfl) dX4_covers_37
    · skip
      have c18 : (sHas σ j k y d d) = false := zb_0.mp c18
      refine lv_aload_n Z.hx Z.hb dX4_covers_21 rfl (lv_at hl 0 rfl) ?_
      refine lv_iload_n Z.hx Z.hb dX4_covers_22 rfl (lv_at hl 1 rfl) ?_
      refine lv_iload_n Z.hx Z.hb dX4_covers_23 rfl (lv_at hl 2 rfl) ?_
      refine lv_iload Z.hx Z.hb dX4_covers_24 (lv_at hl 4 rfl) ?_
      -- LinkResolver$Package.hasKept
      refine z_pcallV (rest := []) (As := [.int (nI k), .int y, .int d]) Z (p_kept G l H R σ n j p hp0 hn29 k hk20 y d) gw_X4_92 gd_X4_92 rfl hO rfl hl.1 (Nat.le_of_ble_eq_true rfl) rfl dX4_covers_26 ⟨⟨Nat.le_of_ble_eq_true rfl, Nat.le_of_ble_eq_true rfl⟩, Nat.le_of_ble_eq_true rfl, Nat.le_of_ble_eq_true rfl⟩ hL (fun locs hL => ?_)
      refine lv_if_eq (tgt := 36) Z.hx Z.hb dX4_covers_29 (by decide) (fun c29 => ?_) (fun c29 => ?_)
      · skip
        have c29 : (sKept σ j k y d) = false := zb_0.mp c29
        refine lv_iconst (v := 0) Z.hx Z.hb dX4_covers_36 (by decide) ?_
        exact z_zret Z hr hL (by decide) (⟨by simp [zb, sWay, sCov, c5, c18, c29], rfl⟩) (Nat.le_of_ble_eq_true rfl) (Nat.le_of_ble_eq_true rfl) dX4_covers_37
      · skip
        have c29 : (sKept σ j k y d) = true := zb_n.mp c29
        refine lv_iconst (v := 1) Z.hx Z.hb dX4_covers_32 (by decide) ?_
        refine lv_goto (tgt := 37) Z.hx Z.hb dX4_covers_33 (by decide) ?_
        exact z_zret Z hr hL (by decide) (⟨by simp [zb, sWay, sCov, c5, c18, c29], rfl⟩) (Nat.le_of_ble_eq_true rfl) (Nat.le_of_ble_eq_true rfl) dX4_covers_37
theorem zlt2 {x : Int32} : x < 2 ↔ x ≤ 1 := by
  rw [Int32.lt_iff_toInt_lt, Int32.le_iff_toInt_le]
  have h1 : (1 : Int32).toInt = 1 := by decide
  have h2 : (2 : Int32).toInt = 2 := by decide
  omega
set_option maxHeartbeats 4000000 in
set_option maxRecDepth 100000 in
theorem p_ahead (G : zG) (l : Launch) (H : Heap) (R : xRo) (σ : zS) (n j p : Nat) (hp : xPk G H R σ n j p) (hn29 : n < 2 ^ 29) (j2 p2 : Nat) (hp2 : xPk G H R σ n j2 p2) (k : Nat) (hk20 : k < 20) : zMp G l yX4_isWayAheadOf cX4_isWayAheadOf 4 (Option.some Jvm.ClassFile.FieldType.boolean) 0 [.ref p, .ref p2, .int (nI k)] H (.int (zb (sAh σ j j2 k))) := by
  have hp0 := hp
  obtain ⟨sl, hl0, br, hRp, hO, hSb, hHs, hBk⟩ := hp
  refine zM.of (by decide +kernel) (Nat.le_of_ble_eq_true rfl) ?_
  intro p0 e0 s0 m0 args0 below0 meth0 c0 Z hr hH hn0 ls hl
  have Z : zC G p0 s0 m0 args0 meth0 c0 RX4 cX4_isWayAheadOf 4 := Z
  have hl : lv_has ls 4 [(0, .ref p), (1, .ref p2), (2, .int (nI k))] := hl
  have hL : zL G [] := zL.nil
  obtain ⟨sl2, hl02, br2, hRp2, hO2, hSb2, hHs2, hBk2⟩ := hp2
  obtain ⟨hb1, hb2, bf, hbI, hbf⟩ := hBk
  obtain ⟨hb12, hb22, bf2, hbI2, hbf2⟩ := hBk2
  refine lv_aload_n Z.hx Z.hb dX4_isWayAheadOf_0 rfl (lv_at hl 0 rfl) ?_
  refine gf_X4_21 Z hO (v := .ref br) rfl dX4_isWayAheadOf_1 ?_
  refine lv_iload_n Z.hx Z.hb dX4_isWayAheadOf_4 rfl (lv_at hl 2 rfl) ?_
  refine z_ialdN Z hbI (k := k) hk20 (by decide) dX4_isWayAheadOf_5 ?_
  refine lv_iconst (v := 2) Z.hx Z.hb dX4_isWayAheadOf_6 (by decide) ?_
  refine lv_icmp_lt (tgt := 14) Z.hx Z.hb dX4_isWayAheadOf_7 (by decide) (fun c7 => ?_) (fun c7 => ?_)
  · skip
    refine lv_iconst (v := 0) Z.hx Z.hb dX4_isWayAheadOf_14 (by decide) ?_
    refine lv_istore_n (lv' := [(3, .int 0), (0, .ref p), (1, .ref p2), (2, .int (nI k))]) Z.hx Z.hb dX4_isWayAheadOf_15 rfl hl (by decide) rfl (fun ls hl => ?_)
    refine lv_iload_n Z.hx Z.hb dX4_isWayAheadOf_16 rfl (lv_at hl 0 rfl) ?_
    refine lv_aload_n Z.hx Z.hb dX4_isWayAheadOf_17 rfl (lv_at hl 2 rfl) ?_
    refine gf_X4_21 Z hO2 (v := .ref br2) rfl dX4_isWayAheadOf_18 ?_
    refine lv_iload_n Z.hx Z.hb dX4_isWayAheadOf_21 rfl (lv_at hl 3 rfl) ?_
    refine z_ialdN Z hbI2 (k := k) hk20 (by decide) dX4_isWayAheadOf_22 ?_
    refine lv_iconst (v := 2) Z.hx Z.hb dX4_isWayAheadOf_23 (by decide) ?_
    refine lv_icmp_lt (tgt := 31) Z.hx Z.hb dX4_isWayAheadOf_24 (by decide) (fun c24 => ?_) (fun c24 => ?_)
    · skip
      refine lv_iconst (v := 0) Z.hx Z.hb dX4_isWayAheadOf_31 (by decide) ?_
      refine lv_icmp_eq (tgt := 45) Z.hx Z.hb dX4_isWayAheadOf_32 (by decide) (fun c32 => ?_) (fun c32 => ?_)
      · skip
        refine lv_aload_n Z.hx Z.hb dX4_isWayAheadOf_45 rfl (lv_at hl 1 rfl) ?_
        refine gf_X4_29 Z hO (v := .int (sA σ 2 j)) rfl dX4_isWayAheadOf_46 ?_
        refine lv_aload_n Z.hx Z.hb dX4_isWayAheadOf_49 rfl (lv_at hl 2 rfl) ?_
        refine gf_X4_29 Z hO2 (v := .int (sA σ 2 j2)) rfl dX4_isWayAheadOf_50 ?_
        refine lv_icmp_eq (tgt := 73) Z.hx Z.hb dX4_isWayAheadOf_53 (by decide) (fun c53 => ?_) (fun c53 => ?_)
        · skip
          refine lv_aload_n Z.hx Z.hb dX4_isWayAheadOf_73 rfl (lv_at hl 1 rfl) ?_
          refine gf_X4_32 Z hO (v := .int (sA σ 3 j)) rfl dX4_isWayAheadOf_74 ?_
          refine lv_aload_n Z.hx Z.hb dX4_isWayAheadOf_77 rfl (lv_at hl 2 rfl) ?_
          refine gf_X4_32 Z hO2 (v := .int (sA σ 3 j2)) rfl dX4_isWayAheadOf_78 ?_
          refine lv_icmp_eq (tgt := 103) Z.hx Z.hb dX4_isWayAheadOf_81 (by decide) (fun c81 => ?_) (fun c81 => ?_)
          · skip
            refine lv_aload_n Z.hx Z.hb dX4_isWayAheadOf_103 rfl (lv_at hl 1 rfl) ?_
            refine gf_X4_25 Z hO (v := .int (nI j)) rfl dX4_isWayAheadOf_104 ?_
            refine lv_aload_n Z.hx Z.hb dX4_isWayAheadOf_107 rfl (lv_at hl 2 rfl) ?_
            refine gf_X4_25 Z hO2 (v := .int (nI j2)) rfl dX4_isWayAheadOf_108 ?_
            refine lv_icmp_ge (tgt := 118) Z.hx Z.hb dX4_isWayAheadOf_111 (by decide) (fun c111 => ?_) (fun c111 => ?_)
            · skip
              refine lv_iconst (v := 0) Z.hx Z.hb dX4_isWayAheadOf_118 (by decide) ?_
              rw [hbf k hk20, zlt2] at c7
              rw [hbf2 k hk20, zlt2] at c24
              exact z_zret Z hr hL (by decide) (⟨by simp [zb, sAh, sBr, c7, c24, c53, c81, c111], rfl⟩) (Nat.le_of_ble_eq_true rfl) (Nat.le_of_ble_eq_true rfl) dX4_isWayAheadOf_119
            · skip
              refine lv_iconst (v := 1) Z.hx Z.hb dX4_isWayAheadOf_114 (by decide) ?_
              refine lv_goto (tgt := 119) Z.hx Z.hb dX4_isWayAheadOf_115 (by decide) ?_
              rw [hbf k hk20, zlt2] at c7
              rw [hbf2 k hk20, zlt2] at c24
              exact z_zret Z hr hL (by decide) (⟨by simp [zb, sAh, sBr, c7, c24, c53, c81, c111], rfl⟩) (Nat.le_of_ble_eq_true rfl) (Nat.le_of_ble_eq_true rfl) dX4_isWayAheadOf_119
          · skip
            refine lv_aload_n Z.hx Z.hb dX4_isWayAheadOf_84 rfl (lv_at hl 1 rfl) ?_
            refine gf_X4_32 Z hO (v := .int (sA σ 3 j)) rfl dX4_isWayAheadOf_85 ?_
            refine lv_aload_n Z.hx Z.hb dX4_isWayAheadOf_88 rfl (lv_at hl 2 rfl) ?_
            refine gf_X4_32 Z hO2 (v := .int (sA σ 3 j2)) rfl dX4_isWayAheadOf_89 ?_
            refine lv_icmp_ge (tgt := 99) Z.hx Z.hb dX4_isWayAheadOf_92 (by decide) (fun c92 => ?_) (fun c92 => ?_)
            · skip
              refine lv_iconst (v := 0) Z.hx Z.hb dX4_isWayAheadOf_99 (by decide) ?_
              refine lv_goto (tgt := 119) Z.hx Z.hb dX4_isWayAheadOf_100 (by decide) ?_
              rw [hbf k hk20, zlt2] at c7
              rw [hbf2 k hk20, zlt2] at c24
              exact z_zret Z hr hL (by decide) (⟨by simp [zb, sAh, sBr, c7, c24, c53, c81, c92], rfl⟩) (Nat.le_of_ble_eq_true rfl) (Nat.le_of_ble_eq_true rfl) dX4_isWayAheadOf_119
            · skip
              refine lv_iconst (v := 1) Z.hx Z.hb dX4_isWayAheadOf_95 (by decide) ?_
              refine lv_goto (tgt := 119) Z.hx Z.hb dX4_isWayAheadOf_96 (by decide) ?_
              rw [hbf k hk20, zlt2] at c7
              rw [hbf2 k hk20, zlt2] at c24
              exact z_zret Z hr hL (by decide) (⟨by simp [zb, sAh, sBr, c7, c24, c53, c81, c92], rfl⟩) (Nat.le_of_ble_eq_true rfl) (Nat.le_of_ble_eq_true rfl) dX4_isWayAheadOf_119
        · skip
          refine lv_aload_n Z.hx Z.hb dX4_isWayAheadOf_56 rfl (lv_at hl 1 rfl) ?_
          refine gf_X4_29 Z hO (v := .int (sA σ 2 j)) rfl dX4_isWayAheadOf_57 ?_
          refine lv_aload_n Z.hx Z.hb dX4_isWayAheadOf_60 rfl (lv_at hl 2 rfl) ?_
          refine gf_X4_29 Z hO2 (v := .int (sA σ 2 j2)) rfl dX4_isWayAheadOf_61 ?_
          refine lv_icmp_ge (tgt := 71) Z.hx Z.hb dX4_isWayAheadOf_64 (by decide) (fun c64 => ?_) (fun c64 => ?_)
          · skip
            refine lv_iconst (v := 0) Z.hx Z.hb dX4_isWayAheadOf_71 (by decide) ?_
            rw [hbf k hk20, zlt2] at c7
            rw [hbf2 k hk20, zlt2] at c24
            exact z_zret Z hr hL (by decide) (⟨by simp [zb, sAh, sBr, c7, c24, c53, c64], rfl⟩) (Nat.le_of_ble_eq_true rfl) (Nat.le_of_ble_eq_true rfl) dX4_isWayAheadOf_72
          · skip
            refine lv_iconst (v := 1) Z.hx Z.hb dX4_isWayAheadOf_67 (by decide) ?_
            refine lv_goto (tgt := 72) Z.hx Z.hb dX4_isWayAheadOf_68 (by decide) ?_
            rw [hbf k hk20, zlt2] at c7
            rw [hbf2 k hk20, zlt2] at c24
            exact z_zret Z hr hL (by decide) (⟨by simp [zb, sAh, sBr, c7, c24, c53, c64], rfl⟩) (Nat.le_of_ble_eq_true rfl) (Nat.le_of_ble_eq_true rfl) dX4_isWayAheadOf_72
      · exact absurd (by decide) c32
    · skip
      refine lv_iconst (v := 1) Z.hx Z.hb dX4_isWayAheadOf_27 (by decide) ?_
      refine lv_goto (tgt := 32) Z.hx Z.hb dX4_isWayAheadOf_28 (by decide) ?_
      refine lv_icmp_eq (tgt := 45) Z.hx Z.hb dX4_isWayAheadOf_32 (by decide) (fun c32 => ?_) (fun c32 => ?_)
      · exact absurd c32 (by decide)
      · skip
        refine lv_iload_n Z.hx Z.hb dX4_isWayAheadOf_35 rfl (lv_at hl 0 rfl) ?_
        refine lv_if_ne (tgt := 43) Z.hx Z.hb dX4_isWayAheadOf_36 (by decide) (fun c36 => ?_) (fun c36 => ?_)
        · exact absurd (by decide) c36
        · skip
          refine lv_iconst (v := 1) Z.hx Z.hb dX4_isWayAheadOf_39 (by decide) ?_
          refine lv_goto (tgt := 44) Z.hx Z.hb dX4_isWayAheadOf_40 (by decide) ?_
          rw [hbf k hk20, zlt2] at c7
          rw [hbf2 k hk20, zlt2] at c24
          exact z_zret Z hr hL (by decide) (⟨by simp [zb, sAh, sBr, c7, c24], rfl⟩) (Nat.le_of_ble_eq_true rfl) (Nat.le_of_ble_eq_true rfl) dX4_isWayAheadOf_44
  · skip
    refine lv_iconst (v := 1) Z.hx Z.hb dX4_isWayAheadOf_10 (by decide) ?_
    refine lv_goto (tgt := 15) Z.hx Z.hb dX4_isWayAheadOf_11 (by decide) ?_
    refine lv_istore_n (lv' := [(3, .int 1), (0, .ref p), (1, .ref p2), (2, .int (nI k))]) Z.hx Z.hb dX4_isWayAheadOf_15 rfl hl (by decide) rfl (fun ls hl => ?_)
    refine lv_iload_n Z.hx Z.hb dX4_isWayAheadOf_16 rfl (lv_at hl 0 rfl) ?_
    refine lv_aload_n Z.hx Z.hb dX4_isWayAheadOf_17 rfl (lv_at hl 2 rfl) ?_
    refine gf_X4_21 Z hO2 (v := .ref br2) rfl dX4_isWayAheadOf_18 ?_
    refine lv_iload_n Z.hx Z.hb dX4_isWayAheadOf_21 rfl (lv_at hl 3 rfl) ?_
    refine z_ialdN Z hbI2 (k := k) hk20 (by decide) dX4_isWayAheadOf_22 ?_
    refine lv_iconst (v := 2) Z.hx Z.hb dX4_isWayAheadOf_23 (by decide) ?_
    refine lv_icmp_lt (tgt := 31) Z.hx Z.hb dX4_isWayAheadOf_24 (by decide) (fun c24 => ?_) (fun c24 => ?_)
    · skip
      refine lv_iconst (v := 0) Z.hx Z.hb dX4_isWayAheadOf_31 (by decide) ?_
      refine lv_icmp_eq (tgt := 45) Z.hx Z.hb dX4_isWayAheadOf_32 (by decide) (fun c32 => ?_) (fun c32 => ?_)
      · exact absurd c32 (by decide)
      · skip
        refine lv_iload_n Z.hx Z.hb dX4_isWayAheadOf_35 rfl (lv_at hl 0 rfl) ?_
        refine lv_if_ne (tgt := 43) Z.hx Z.hb dX4_isWayAheadOf_36 (by decide) (fun c36 => ?_) (fun c36 => ?_)
        · skip
          refine lv_iconst (v := 0) Z.hx Z.hb dX4_isWayAheadOf_43 (by decide) ?_
          rw [hbf k hk20, zlt2] at c7
          rw [hbf2 k hk20, zlt2] at c24
          exact z_zret Z hr hL (by decide) (⟨by simp [zb, sAh, sBr, c7, c24], rfl⟩) (Nat.le_of_ble_eq_true rfl) (Nat.le_of_ble_eq_true rfl) dX4_isWayAheadOf_44
        · exact absurd c36 (by decide)
    · skip
      refine lv_iconst (v := 1) Z.hx Z.hb dX4_isWayAheadOf_27 (by decide) ?_
      refine lv_goto (tgt := 32) Z.hx Z.hb dX4_isWayAheadOf_28 (by decide) ?_
      refine lv_icmp_eq (tgt := 45) Z.hx Z.hb dX4_isWayAheadOf_32 (by decide) (fun c32 => ?_) (fun c32 => ?_)
      · skip
        refine lv_aload_n Z.hx Z.hb dX4_isWayAheadOf_45 rfl (lv_at hl 1 rfl) ?_
        refine gf_X4_29 Z hO (v := .int (sA σ 2 j)) rfl dX4_isWayAheadOf_46 ?_
        refine lv_aload_n Z.hx Z.hb dX4_isWayAheadOf_49 rfl (lv_at hl 2 rfl) ?_
        refine gf_X4_29 Z hO2 (v := .int (sA σ 2 j2)) rfl dX4_isWayAheadOf_50 ?_
        refine lv_icmp_eq (tgt := 73) Z.hx Z.hb dX4_isWayAheadOf_53 (by decide) (fun c53 => ?_) (fun c53 => ?_)
        · skip
          refine lv_aload_n Z.hx Z.hb dX4_isWayAheadOf_73 rfl (lv_at hl 1 rfl) ?_
          refine gf_X4_32 Z hO (v := .int (sA σ 3 j)) rfl dX4_isWayAheadOf_74 ?_
          refine lv_aload_n Z.hx Z.hb dX4_isWayAheadOf_77 rfl (lv_at hl 2 rfl) ?_
          refine gf_X4_32 Z hO2 (v := .int (sA σ 3 j2)) rfl dX4_isWayAheadOf_78 ?_
          refine lv_icmp_eq (tgt := 103) Z.hx Z.hb dX4_isWayAheadOf_81 (by decide) (fun c81 => ?_) (fun c81 => ?_)
          · skip
            refine lv_aload_n Z.hx Z.hb dX4_isWayAheadOf_103 rfl (lv_at hl 1 rfl) ?_
            refine gf_X4_25 Z hO (v := .int (nI j)) rfl dX4_isWayAheadOf_104 ?_
            refine lv_aload_n Z.hx Z.hb dX4_isWayAheadOf_107 rfl (lv_at hl 2 rfl) ?_
            refine gf_X4_25 Z hO2 (v := .int (nI j2)) rfl dX4_isWayAheadOf_108 ?_
            refine lv_icmp_ge (tgt := 118) Z.hx Z.hb dX4_isWayAheadOf_111 (by decide) (fun c111 => ?_) (fun c111 => ?_)
            · skip
              refine lv_iconst (v := 0) Z.hx Z.hb dX4_isWayAheadOf_118 (by decide) ?_
              rw [hbf k hk20, zlt2] at c7
              rw [hbf2 k hk20, zlt2] at c24
              exact z_zret Z hr hL (by decide) (⟨by simp [zb, sAh, sBr, c7, c24, c53, c81, c111], rfl⟩) (Nat.le_of_ble_eq_true rfl) (Nat.le_of_ble_eq_true rfl) dX4_isWayAheadOf_119
            · skip
              refine lv_iconst (v := 1) Z.hx Z.hb dX4_isWayAheadOf_114 (by decide) ?_
              refine lv_goto (tgt := 119) Z.hx Z.hb dX4_isWayAheadOf_115 (by decide) ?_
              rw [hbf k hk20, zlt2] at c7
              rw [hbf2 k hk20, zlt2] at c24
              exact z_zret Z hr hL (by decide) (⟨by simp [zb, sAh, sBr, c7, c24, c53, c81, c111], rfl⟩) (Nat.le_of_ble_eq_true rfl) (Nat.le_of_ble_eq_true rfl) dX4_isWayAheadOf_119
          · skip
            refine lv_aload_n Z.hx Z.hb dX4_isWayAheadOf_84 rfl (lv_at hl 1 rfl) ?_
            refine gf_X4_32 Z hO (v := .int (sA σ 3 j)) rfl dX4_isWayAheadOf_85 ?_
            refine lv_aload_n Z.hx Z.hb dX4_isWayAheadOf_88 rfl (lv_at hl 2 rfl) ?_
            refine gf_X4_32 Z hO2 (v := .int (sA σ 3 j2)) rfl dX4_isWayAheadOf_89 ?_
            refine lv_icmp_ge (tgt := 99) Z.hx Z.hb dX4_isWayAheadOf_92 (by decide) (fun c92 => ?_) (fun c92 => ?_)
            · skip
              refine lv_iconst (v := 0) Z.hx Z.hb dX4_isWayAheadOf_99 (by decide) ?_
              refine lv_goto (tgt := 119) Z.hx Z.hb dX4_isWayAheadOf_100 (by decide) ?_
              rw [hbf k hk20, zlt2] at c7
              rw [hbf2 k hk20, zlt2] at c24
              exact z_zret Z hr hL (by decide) (⟨by simp [zb, sAh, sBr, c7, c24, c53, c81, c92], rfl⟩) (Nat.le_of_ble_eq_true rfl) (Nat.le_of_ble_eq_true rfl) dX4_isWayAheadOf_119
            · skip
              refine lv_iconst (v := 1) Z.hx Z.hb dX4_isWayAheadOf_95 (by decide) ?_
              refine lv_goto (tgt := 119) Z.hx Z.hb dX4_isWayAheadOf_96 (by decide) ?_
              rw [hbf k hk20, zlt2] at c7
              rw [hbf2 k hk20, zlt2] at c24
              exact z_zret Z hr hL (by decide) (⟨by simp [zb, sAh, sBr, c7, c24, c53, c81, c92], rfl⟩) (Nat.le_of_ble_eq_true rfl) (Nat.le_of_ble_eq_true rfl) dX4_isWayAheadOf_119
        · skip
          refine lv_aload_n Z.hx Z.hb dX4_isWayAheadOf_56 rfl (lv_at hl 1 rfl) ?_
          refine gf_X4_29 Z hO (v := .int (sA σ 2 j)) rfl dX4_isWayAheadOf_57 ?_
          refine lv_aload_n Z.hx Z.hb dX4_isWayAheadOf_60 rfl (lv_at hl 2 rfl) ?_
          refine gf_X4_29 Z hO2 (v := .int (sA σ 2 j2)) rfl dX4_isWayAheadOf_61 ?_
          refine lv_icmp_ge (tgt := 71) Z.hx Z.hb dX4_isWayAheadOf_64 (by decide) (fun c64 => ?_) (fun c64 => ?_)
          · skip
            refine lv_iconst (v := 0) Z.hx Z.hb dX4_isWayAheadOf_71 (by decide) ?_
            rw [hbf k hk20, zlt2] at c7
            rw [hbf2 k hk20, zlt2] at c24
            exact z_zret Z hr hL (by decide) (⟨by simp [zb, sAh, sBr, c7, c24, c53, c64], rfl⟩) (Nat.le_of_ble_eq_true rfl) (Nat.le_of_ble_eq_true rfl) dX4_isWayAheadOf_72
          · skip
            refine lv_iconst (v := 1) Z.hx Z.hb dX4_isWayAheadOf_67 (by decide) ?_
            refine lv_goto (tgt := 72) Z.hx Z.hb dX4_isWayAheadOf_68 (by decide) ?_
            rw [hbf k hk20, zlt2] at c7
            rw [hbf2 k hk20, zlt2] at c24
            exact z_zret Z hr hL (by decide) (⟨by simp [zb, sAh, sBr, c7, c24, c53, c64], rfl⟩) (Nat.le_of_ble_eq_true rfl) (Nat.le_of_ble_eq_true rfl) dX4_isWayAheadOf_72
      · exact absurd (by decide) c32
