/-! the component: changes, walked -/
theorem zfull {k M : Nat} (h : k ≤ M) (hM : M < 2 ^ 31) : nI M ≤ nI k ↔ nI k = nI M := by
  rw [nI_leI (by omega) (by omega), nI_eq (by omega) (by omega)]
  omega
set_option maxHeartbeats 4000000 in
set_option maxRecDepth 100000 in
theorem x_addTitle (G : zG) (l : Launch) (hl0 : l.stackTraces = false) (H : Heap) (R : xRo) (σ : zS) (n o tl pl : Nat) (ts ps : List Nat) (hX : xOp G H R σ n o tl pl ts ps) (hn64 : n ≤ 64) (hW : sWf σ) (a b : Int32) : zXg G l yX1_addTitle cX1_addTitle 3 (Option.some Jvm.ClassFile.FieldType.int) 9 16 400 [.ref o, .int a, .int b] H (.int (nI (sN σ))) (fun H1 => kAddT σ a b = 0 ∧ xNx G H R (sAddT σ a b) (n + 1) o H1) (xE RJ6 RJ7 (kAddT σ a b)) := by
  have hn29 : n < 2 ^ 29 := by omega
  obtain ⟨mt9, dt9, hOt⟩ := hX.tO
  obtain ⟨mp9, dp9, hOp⟩ := hX.pO
  have hO := hX.ob
  have htl : ts.length = sN σ := hX.2.2.2.1.2.1
  have hpl : ps.length = sP σ := hX.2.2.2.2.2.1
  have hN20 : sN σ ≤ 20 := hW.2.1
  have hP10 : sP σ ≤ 10 := hW.2.2.1
  refine zX.of (by decide +kernel) (Nat.le_of_ble_eq_true rfl) ?_
  intro p0 e0 s0 m0 args0 below0 meth0 c0 Z hr hxt hH ls hl
  have Z : zC G p0 s0 m0 args0 meth0 c0 RX1 cX1_addTitle 3 := Z
  have hl : lv_has ls 3 [(0, .ref o), (1, .int a), (2, .int b)] := hl
  have hL : zL G [] := zL.nil
  refine z_base Z hL (fun hB9 => ?_)
  have hB1 := hB9.1
  refine lv_iload_n Z.hx Z.hb dX1_addTitle_0 rfl (lv_at hl 1 rfl) ?_
  refine lv_iconst (v := 0) Z.hx Z.hb dX1_addTitle_1 (by decide) ?_
  refine lv_bipush (v := 55) Z.hx Z.hb dX1_addTitle_2 (by decide) ?_
  -- LinkResolver.check
  refine z_xpcallS0 (rest := []) (As := [.int a, .int 0, .int 55]) Z (x_check G l hl0 H a 0 55) gw_X1_54 gd_X1_54 rfl hl.1 (Nat.le_of_ble_eq_true rfl) rfl dX1_addTitle_4 ⟨⟨Nat.le_of_ble_eq_true rfl, Nat.le_of_ble_eq_true rfl⟩, Nat.le_of_ble_eq_true rfl, Nat.le_of_ble_eq_true rfl⟩ hL (fun E_ ce_ q_ H_ locs hL hk_ hx_ h1_ h2_ h3_ => z_out Z hxt hL ⟨hk_, Or.inl ⟨hx_.1, by simp [kAddT, kIf, kPT, hx_.2]⟩⟩ h1_ h2_ h3_ (Nat.le_of_ble_eq_true rfl) (Nat.le_of_ble_eq_true rfl)) (fun locs hL c4 => ?_)
  refine lv_iload_n Z.hx Z.hb dX1_addTitle_7 rfl (lv_at hl 2 rfl) ?_
  refine lv_iconst (v := 1) Z.hx Z.hb dX1_addTitle_8 (by decide) ?_
  refine lv_iconst (v := 4) Z.hx Z.hb dX1_addTitle_9 (by decide) ?_
  -- LinkResolver.check
  refine z_xpcallS0 (rest := []) (As := [.int b, .int 1, .int 4]) Z (x_check G l hl0 H b 1 4) gw_X1_54 gd_X1_54 rfl hl.1 (Nat.le_of_ble_eq_true rfl) rfl dX1_addTitle_10 ⟨⟨Nat.le_of_ble_eq_true rfl, Nat.le_of_ble_eq_true rfl⟩, Nat.le_of_ble_eq_true rfl, Nat.le_of_ble_eq_true rfl⟩ hL (fun E_ ce_ q_ H_ locs hL hk_ hx_ h1_ h2_ h3_ => z_out Z hxt hL ⟨hk_, Or.inl ⟨hx_.1, by simp [kAddT, kIf, kPT, c4, hx_.2]⟩⟩ h1_ h2_ h3_ (Nat.le_of_ble_eq_true rfl) (Nat.le_of_ble_eq_true rfl)) (fun locs hL c10 => ?_)
  refine lv_aload_n Z.hx Z.hb dX1_addTitle_13 rfl (lv_at hl 0 rfl) ?_
  refine gf_X1_12 Z hO (v := .ref tl) rfl dX1_addTitle_14 ?_
  -- java/util/List.size
  refine z_pcallF (rest := []) (As := []) Z (j_size G l H _ tl ts hX.2.2.2.1.1) gw_X1_28 Z.K.2.2.1.1 gd_L_size hOt rfl hl.1 (Nat.le_of_ble_eq_true rfl) rfl dX1_addTitle_17 ⟨⟨Nat.le_of_ble_eq_true rfl, Nat.le_of_ble_eq_true rfl⟩, Nat.le_of_ble_eq_true rfl, Nat.le_of_ble_eq_true rfl⟩ hL (fun locs hL => ?_)
  refine lv_bipush (v := 20) Z.hx Z.hb dX1_addTitle_22 (by decide) ?_
  refine lv_icmp_ge (tgt := 31) Z.hx Z.hb dX1_addTitle_24 (by decide) (fun c24 => ?_) (fun c24 => ?_)
  · skip
    have hf9 : nI (sN σ) = 20 := by rw [← htl]; exact (zfull (M := 20) (by omega) (by decide)).mp c24
    refine lv_iconst (v := 0) Z.hx Z.hb dX1_addTitle_31 (by decide) ?_
    -- LinkResolver.checkState
    refine z_xpcallS0 (rest := []) (As := [.int 0]) Z (x_state G l hl0 H false) gw_X1_66 gd_X1_66 rfl hl.1 (Nat.le_of_ble_eq_true rfl) rfl dX1_addTitle_32 ⟨⟨Nat.le_of_ble_eq_true rfl, Nat.le_of_ble_eq_true rfl⟩, Nat.le_of_ble_eq_true rfl, Nat.le_of_ble_eq_true rfl⟩ hL (fun E_ ce_ q_ H_ locs hL hk_ hx_ h1_ h2_ h3_ => z_out Z hxt hL ⟨hk_, Or.inr ⟨hx_.1, by simp [kAddT, kIf, kPT, c4, c10, hf9, hx_.2]⟩⟩ h1_ h2_ h3_ (Nat.le_of_ble_eq_true rfl) (Nat.le_of_ble_eq_true rfl)) (fun locs hL c32 => ?_)
    exact absurd c32 (by decide)
  · skip
    have hf9 : ¬ nI (sN σ) = 20 := by rw [← htl]; exact fun z => c24 ((zfull (M := 20) (by omega) (by decide)).mpr z)
    refine lv_iconst (v := 1) Z.hx Z.hb dX1_addTitle_27 (by decide) ?_
    refine lv_goto (tgt := 32) Z.hx Z.hb dX1_addTitle_28 (by decide) ?_
    -- LinkResolver.checkState
    refine z_xpcallS0 (rest := []) (As := [.int 1]) Z (x_state G l hl0 H true) gw_X1_66 gd_X1_66 rfl hl.1 (Nat.le_of_ble_eq_true rfl) rfl dX1_addTitle_32 ⟨⟨Nat.le_of_ble_eq_true rfl, Nat.le_of_ble_eq_true rfl⟩, Nat.le_of_ble_eq_true rfl, Nat.le_of_ble_eq_true rfl⟩ hL (fun E_ ce_ q_ H_ locs hL hk_ hx_ h1_ h2_ h3_ => absurd hx_.2 (by decide)) (fun locs hL c32 => ?_)
    refine lv_aload_n Z.hx Z.hb dX1_addTitle_35 rfl (lv_at hl 0 rfl) ?_
    refine gf_X1_12 Z hO (v := .ref tl) rfl dX1_addTitle_36 ?_
    refine z_new Z (C := RX3) (T := TX3) (N := 2) (ci := 1) rfl in_X3 tyX3 tyX3_ok q206 q207 q40 (fs := [.int 0, .int 0]) (fun j hj => by
      rcases j with _ | _ | j
      all_goals first | rfl | (exact absurd hj (by omega))) (Nat.le_of_ble_eq_true rfl) (Nat.le_of_ble_eq_true rfl) dX1_addTitle_39 (fun H_1 hO1_ hz1_ hq1_ => ?_)
    refine lv_dup Z.hx Z.hb dX1_addTitle_42 rfl ?_
    refine lv_iload_n Z.hx Z.hb dX1_addTitle_43 rfl (lv_at hl 1 rfl) ?_
    refine lv_iload_n Z.hx Z.hb dX1_addTitle_44 rfl (lv_at hl 2 rfl) ?_
    -- LinkResolver$Title.<init>
    refine z_gcallIN (rest := [.ref H.size, .ref tl]) (As := [.int a, .int b]) Z (t_init G l H_1 H.size (by omega) hO1_ a b) gw_X1_70 q40 q208 q209 rfl gd_X1_70 rfl hl.1 (Nat.le_of_ble_eq_true rfl) rfl dX1_addTitle_45 ⟨⟨Nat.le_of_ble_eq_true rfl, Nat.le_of_ble_eq_true rfl⟩, Nat.le_of_ble_eq_true rfl, Nat.le_of_ble_eq_true rfl⟩ hL (fun H_2 locs hL hP_ => ?_)
    obtain ⟨hO2_, hz2_, hq2_⟩ := hP_
    have hk9 : zKeep H H_2 := ⟨by omega, fun q h1 => (hq2_ q (by omega)).trans (hq1_ q h1)⟩
    obtain ⟨S_, hA_, hns_, hnx_⟩ := hX.ttl hk9 hO2_
    -- java/util/List.add
    refine z_gcallF (rest := []) (As := [.ref H.size]) Z (j_add G l H_2 S_ tl H.size ts hA_ (zEl.o1 hO2_) hns_ (by omega)) gw_X1_72 Z.K.2.2.1.2.1 gd_L_add (hOt.kept (hk9.2 _ hOt.lt)) rfl hl.1 (Nat.le_of_ble_eq_true rfl) rfl dX1_addTitle_48 ⟨⟨Nat.le_of_ble_eq_true rfl, Nat.le_of_ble_eq_true rfl⟩, Nat.le_of_ble_eq_true rfl, Nat.le_of_ble_eq_true rfl⟩ hL (fun H_3 locs hL hP_ => ?_)
    obtain ⟨R_3, hC_, hX3⟩ := hnx_ _ hP_
    refine lv_pop Z.hx Z.hb dX1_addTitle_53 rfl ?_
    refine lv_aload_n Z.hx Z.hb dX1_addTitle_54 rfl (lv_at hl 0 rfl) ?_
    refine gf_X1_12 Z hX3.ob (v := .ref tl) rfl dX1_addTitle_55 ?_
    -- java/util/List.size
    refine z_pcallF (rest := []) (As := []) Z (j_size G l H_3 _ tl (ts ++ [H.size]) hX3.2.2.2.1.1) gw_X1_28 Z.K.2.2.1.1 gd_L_size hX3.tO.choose_spec.choose_spec rfl hl.1 (Nat.le_of_ble_eq_true rfl) rfl dX1_addTitle_58 ⟨⟨Nat.le_of_ble_eq_true rfl, Nat.le_of_ble_eq_true rfl⟩, Nat.le_of_ble_eq_true rfl, Nat.le_of_ble_eq_true rfl⟩ hL (fun locs hL => ?_)
    refine lv_iconst (v := 1) Z.hx Z.hb dX1_addTitle_63 (by decide) ?_
    refine lv_isub Z.hx Z.hb dX1_addTitle_64 ?_
    exact zx_iret Z hr hL (⟨by rw [List.length_append, htl, show [H.size].length = 1 from rfl, nI_pred], by simp [kAddT, kIf, c4, c10, hf9], xNx.of hC_ (rne (by decide)) hX3.rep⟩) (Nat.le_of_ble_eq_true rfl) (Nat.le_of_ble_eq_true rfl) dX1_addTitle_65
set_option maxHeartbeats 4000000 in
set_option maxRecDepth 100000 in
theorem x_pass (G : zG) (l : Launch) (hl0 : l.stackTraces = false) (H : Heap) (R : xRo) (σ : zS) (n o tl pl : Nat) (ts ps : List Nat) (hX : xOp G H R σ n o tl pl ts ps) (hn64 : n ≤ 64) (hW : sWf σ) (d : Int32) : zXg G l yX1_pass cX1_pass 2 (Option.some Jvm.ClassFile.FieldType.int) 9 16 400 [.ref o, .int d] H (.int (sT σ + d)) (fun H1 => kPass σ d = 0 ∧ xNx G H R (sPass σ d) (n + 1) o H1) (xE RJ6 RJ7 (kPass σ d)) := by
  have hn29 : n < 2 ^ 29 := by omega
  obtain ⟨mt9, dt9, hOt⟩ := hX.tO
  obtain ⟨mp9, dp9, hOp⟩ := hX.pO
  have hO := hX.ob
  have htl : ts.length = sN σ := hX.2.2.2.1.2.1
  have hpl : ps.length = sP σ := hX.2.2.2.2.2.1
  have hN20 : sN σ ≤ 20 := hW.2.1
  have hP10 : sP σ ≤ 10 := hW.2.2.1
  refine zX.of (by decide +kernel) (Nat.le_of_ble_eq_true rfl) ?_
  intro p0 e0 s0 m0 args0 below0 meth0 c0 Z hr hxt hH ls hl
  have Z : zC G p0 s0 m0 args0 meth0 c0 RX1 cX1_pass 2 := Z
  have hl : lv_has ls 2 [(0, .ref o), (1, .int d)] := hl
  have hL : zL G [] := zL.nil
  refine z_base Z hL (fun hB9 => ?_)
  have hB1 := hB9.1
  refine lv_iload_n Z.hx Z.hb dX1_pass_0 rfl (lv_at hl 1 rfl) ?_
  refine lv_iconst (v := 1) Z.hx Z.hb dX1_pass_1 (by decide) ?_
  refine lv_sipush (v := 20000) Z.hx Z.hb dX1_pass_2 (by decide) ?_
  -- LinkResolver.check
  refine z_xpcallS0 (rest := []) (As := [.int d, .int 1, .int 20000]) Z (x_check G l hl0 H d 1 20000) gw_X1_54 gd_X1_54 rfl hl.1 (Nat.le_of_ble_eq_true rfl) rfl dX1_pass_5 ⟨⟨Nat.le_of_ble_eq_true rfl, Nat.le_of_ble_eq_true rfl⟩, Nat.le_of_ble_eq_true rfl, Nat.le_of_ble_eq_true rfl⟩ hL (fun E_ ce_ q_ H_ locs hL hk_ hx_ h1_ h2_ h3_ => z_out Z hxt hL ⟨hk_, Or.inl ⟨hx_.1, by simp [kPass, kIf, kPT, hx_.2]⟩⟩ h1_ h2_ h3_ (Nat.le_of_ble_eq_true rfl) (Nat.le_of_ble_eq_true rfl)) (fun locs hL c5 => ?_)
  refine lv_aload_n Z.hx Z.hb dX1_pass_8 rfl (lv_at hl 0 rfl) ?_
  refine gf_X1_62 Z hO (v := .int (sT σ)) rfl dX1_pass_9 ?_
  refine lv_iload_n Z.hx Z.hb dX1_pass_12 rfl (lv_at hl 1 rfl) ?_
  refine lv_iadd Z.hx Z.hb dX1_pass_13 ?_
  refine lv_sipush (v := 20000) Z.hx Z.hb dX1_pass_14 (by decide) ?_
  refine lv_icmp_gt (tgt := 24) Z.hx Z.hb dX1_pass_17 (by decide) (fun c17 => ?_) (fun c17 => ?_)
  · skip
    have hf9 : ¬ sT σ + d ≤ 20000 := Int32.not_le.mpr c17
    refine lv_iconst (v := 0) Z.hx Z.hb dX1_pass_24 (by decide) ?_
    -- LinkResolver.checkState
    refine z_xpcallS0 (rest := []) (As := [.int 0]) Z (x_state G l hl0 H false) gw_X1_66 gd_X1_66 rfl hl.1 (Nat.le_of_ble_eq_true rfl) rfl dX1_pass_25 ⟨⟨Nat.le_of_ble_eq_true rfl, Nat.le_of_ble_eq_true rfl⟩, Nat.le_of_ble_eq_true rfl, Nat.le_of_ble_eq_true rfl⟩ hL (fun E_ ce_ q_ H_ locs hL hk_ hx_ h1_ h2_ h3_ => z_out Z hxt hL ⟨hk_, Or.inr ⟨hx_.1, by simp [kPass, kIf, kPT, c5, hf9, hx_.2]⟩⟩ h1_ h2_ h3_ (Nat.le_of_ble_eq_true rfl) (Nat.le_of_ble_eq_true rfl)) (fun locs hL c25 => ?_)
    exact absurd c25 (by decide)
  · skip
    have hf9 : sT σ + d ≤ 20000 := Int32.not_lt.mp c17
    refine lv_iconst (v := 1) Z.hx Z.hb dX1_pass_20 (by decide) ?_
    refine lv_goto (tgt := 25) Z.hx Z.hb dX1_pass_21 (by decide) ?_
    -- LinkResolver.checkState
    refine z_xpcallS0 (rest := []) (As := [.int 1]) Z (x_state G l hl0 H true) gw_X1_66 gd_X1_66 rfl hl.1 (Nat.le_of_ble_eq_true rfl) rfl dX1_pass_25 ⟨⟨Nat.le_of_ble_eq_true rfl, Nat.le_of_ble_eq_true rfl⟩, Nat.le_of_ble_eq_true rfl, Nat.le_of_ble_eq_true rfl⟩ hL (fun E_ ce_ q_ H_ locs hL hk_ hx_ h1_ h2_ h3_ => absurd hx_.2 (by decide)) (fun locs hL c25 => ?_)
    refine lv_aload_n Z.hx Z.hb dX1_pass_28 rfl (lv_at hl 0 rfl) ?_
    refine lv_dup Z.hx Z.hb dX1_pass_29 rfl ?_
    refine gf_X1_62 Z hO (v := .int (sT σ)) rfl dX1_pass_30 ?_
    refine lv_iload_n Z.hx Z.hb dX1_pass_33 rfl (lv_at hl 1 rfl) ?_
    refine lv_iadd Z.hx Z.hb dX1_pass_34 ?_
    refine pf_X1_62 Z hO (Nat.le_of_ble_eq_true rfl) hL hX.2.1 dX1_pass_35 (fun H_1 locs hL hO1_ hz1_ hq1_ => ?_)
    have hO1_ : zO G H_1 o 0 [.ref tl, .ref pl, .int (sT σ + d)] := hO1_
    have hd9 := hX.day (d := d) hO1_ hz1_ hq1_
    refine lv_aload_n Z.hx Z.hb dX1_pass_38 rfl (lv_at hl 0 rfl) ?_
    refine gf_X1_62 Z hO1_ (v := .int (sT σ + d)) rfl dX1_pass_39 ?_
    exact zx_iret Z hr hL (⟨rfl, by simp [kPass, kIf, c5, hf9], xNx.of hd9.1 (rne (by decide)) hd9.2.rep⟩) (Nat.le_of_ble_eq_true rfl) (Nat.le_of_ble_eq_true rfl) dX1_pass_42
set_option maxHeartbeats 4000000 in
set_option maxRecDepth 100000 in
theorem x_subscribe (G : zG) (l : Launch) (hl0 : l.stackTraces = false) (H : Heap) (R : xRo) (σ : zS) (n o tl pl : Nat) (ts ps : List Nat) (hX : xOp G H R σ n o tl pl ts ps) (hn64 : n ≤ 64) (hW : sWf σ) (p on : Int32) (hon : on = 0 ∨ on = 1) : zXg G l yX1_subscribe cX1_subscribe 5 (Option.some Jvm.ClassFile.FieldType.boolean) 9 16 400 [.ref o, .int p, .int on] H (.int (zb (sOn (sL σ p.toNatClampNeg 20 (sT σ))))) (fun H1 => kPk σ p = 0 ∧ xNx G H R (sNote σ p.toNatClampNeg 20 on 0 0 0) (n + 1) o H1) (fun E => E = RJ12 ∧ kPk σ p = 1) := by
  have hn29 : n < 2 ^ 29 := by omega
  obtain ⟨mt9, dt9, hOt⟩ := hX.tO
  obtain ⟨mp9, dp9, hOp⟩ := hX.pO
  have hO := hX.ob
  have htl : ts.length = sN σ := hX.2.2.2.1.2.1
  have hpl : ps.length = sP σ := hX.2.2.2.2.2.1
  have hN20 : sN σ ≤ 20 := hW.2.1
  have hP10 : sP σ ≤ 10 := hW.2.2.1
  refine zX.of (by decide +kernel) (Nat.le_of_ble_eq_true rfl) ?_
  intro p0 e0 s0 m0 args0 below0 meth0 c0 Z hr hxt hH ls hl
  have Z : zC G p0 s0 m0 args0 meth0 c0 RX1 cX1_subscribe 5 := Z
  have hl : lv_has ls 5 [(0, .ref o), (1, .int p), (2, .int on)] := hl
  have hL : zL G [] := zL.nil
  refine z_base Z hL (fun hB9 => ?_)
  have hB1 := hB9.1
  rcases hc9 : mIs p (nI (sP σ)) with _ | _
  · skip
    refine lv_aload_n Z.hx Z.hb dX1_subscribe_0 rfl (lv_at hl 0 rfl) ?_
    refine lv_iload_n Z.hx Z.hb dX1_subscribe_1 rfl (lv_at hl 1 rfl) ?_
    -- LinkResolver.pack
    refine z_xpcallV (rest := []) (As := [.int p]) Z (x_pack_no G l hl0 H R σ n o tl pl ts ps hX hn29 hW p hc9) gw_X1_46 gd_X1_46 rfl hO rfl hl.1 (Nat.le_of_ble_eq_true rfl) rfl dX1_subscribe_2 ⟨⟨Nat.le_of_ble_eq_true rfl, Nat.le_of_ble_eq_true rfl⟩, Nat.le_of_ble_eq_true rfl, Nat.le_of_ble_eq_true rfl⟩ hL (fun E_ ce_ q_ H_ locs hL hk_ hx_ h1_ h2_ h3_ => z_out Z hxt hL ⟨hk_, ⟨hx_, by simp [kPk, kIf, hc9]⟩⟩ h1_ h2_ h3_ (Nat.le_of_ble_eq_true rfl) (Nat.le_of_ble_eq_true rfl)) (fun locs hL c2 => ?_)
    exact c2.elim
  · obtain ⟨j, hj, rfl⟩ := mIs_nI (by omega) hc9
    have hjc : (nI j).toNatClampNeg = j := nI_clamp (by omega)
    obtain ⟨y9, hy9⟩ := hX.py hj
    have hp9 := hX.2.2.2.2.2.2 j y9 hy9
    have hp8 := hp9
    obtain ⟨sl9, hl9, br9, hRp9, hpO9, hSb9, hHs9, hBk9⟩ := hp8
    obtain ⟨es9, q9, hA9, hlen9, hEs9, h019, hlk9⟩ := hSb9
    obtain ⟨m7, d7, hOl9, -⟩ := hA9.2.2.2
    refine lv_aload_n Z.hx Z.hb dX1_subscribe_0 rfl (lv_at hl 0 rfl) ?_
    refine lv_iload_n Z.hx Z.hb dX1_subscribe_1 rfl (lv_at hl 1 rfl) ?_
    -- LinkResolver.pack
    refine z_xpcallV (rest := []) (As := [.int (nI j)]) Z (x_pack G l hl0 H R σ n o tl pl ts ps hX hn29 hW j y9 hy9) gw_X1_46 gd_X1_46 rfl hO rfl hl.1 (Nat.le_of_ble_eq_true rfl) rfl dX1_subscribe_2 ⟨⟨Nat.le_of_ble_eq_true rfl, Nat.le_of_ble_eq_true rfl⟩, Nat.le_of_ble_eq_true rfl, Nat.le_of_ble_eq_true rfl⟩ hL (fun E_ ce_ q_ H_ locs hL hk_ hx_ h1_ h2_ h3_ => hx_.elim) (fun locs hL c2 => ?_)
    refine lv_astore_n (lv' := [(3, .ref y9), (0, .ref o), (1, .int (nI j)), (2, .int on)]) Z.hx Z.hb dX1_subscribe_5 rfl hl (by decide) rfl (fun ls hl => ?_)
    refine lv_aload_n Z.hx Z.hb dX1_subscribe_6 rfl (lv_at hl 0 rfl) ?_
    refine lv_aload_n Z.hx Z.hb dX1_subscribe_7 rfl (lv_at hl 1 rfl) ?_
    refine gf_X1_62 Z hO (v := .int (sT σ)) rfl dX1_subscribe_8 ?_
    -- LinkResolver$Package.isSubscribed
    refine z_pcallV (rest := []) (As := [.int (sT σ)]) Z (p_sub G l H R σ n j y9 hp9 hn29 (sT σ)) gw_X1_85 gd_X1_85 rfl hpO9 rfl hl.1 (Nat.le_of_ble_eq_true rfl) rfl dX1_subscribe_11 ⟨⟨Nat.le_of_ble_eq_true rfl, Nat.le_of_ble_eq_true rfl⟩, Nat.le_of_ble_eq_true rfl, Nat.le_of_ble_eq_true rfl⟩ hL (fun locs hL => ?_)
    refine lv_istore (lv' := [(4, .int (zb (sOn (sL σ j 20 (sT σ))))), (3, .ref y9), (0, .ref o), (1, .int (nI j)), (2, .int on)]) Z.hx Z.hb dX1_subscribe_14 hl (by decide) rfl (fun ls hl => ?_)
    refine lv_aload_n Z.hx Z.hb dX1_subscribe_16 rfl (lv_at hl 1 rfl) ?_
    refine gf_X1_89 Z hpO9 (v := .ref sl9) rfl dX1_subscribe_17 ?_
    refine z_new Z (C := RX5) (T := TX5) (N := 2) (ci := 3) rfl in_X5 tyX5 tyX5_ok q455 q456 q51 (fs := [.int 0, .int 0]) (fun j hj => by
      rcases j with _ | _ | j
      all_goals first | rfl | (exact absurd hj (by omega))) (Nat.le_of_ble_eq_true rfl) (Nat.le_of_ble_eq_true rfl) dX1_subscribe_20 (fun H_1 hO1_ hz1_ hq1_ => ?_)
    refine lv_dup Z.hx Z.hb dX1_subscribe_23 rfl ?_
    refine lv_aload_n Z.hx Z.hb dX1_subscribe_24 rfl (lv_at hl 2 rfl) ?_
    refine gf_X1_62 Z (hO.kept (hq1_ _ hO.lt)) (v := .int (sT σ)) rfl dX1_subscribe_25 ?_
    refine lv_iload_n Z.hx Z.hb dX1_subscribe_28 rfl (lv_at hl 4 rfl) ?_
    -- LinkResolver$Subscription.<init>
    refine z_gcallIN (rest := [.ref H.size, .ref sl9]) (As := [.int (sT σ), .int on]) Z (s_init G l H_1 H.size (by omega) hO1_ (sT σ) on hon) gw_X1_94 q51 q457 q458 rfl gd_X1_94 rfl hl.1 (Nat.le_of_ble_eq_true rfl) rfl dX1_subscribe_29 ⟨⟨Nat.le_of_ble_eq_true rfl, Nat.le_of_ble_eq_true rfl⟩, Nat.le_of_ble_eq_true rfl, Nat.le_of_ble_eq_true rfl⟩ hL (fun H_2 locs hL hP_ => ?_)
    obtain ⟨hO2_, hz2_, hq2_⟩ := hP_
    have hk9 : zKeep H H_2 := ⟨by omega, fun q h1 => (hq2_ q (by omega)).trans (hq1_ q h1)⟩
    obtain ⟨S_, hA_, hns_, hnx_⟩ := hX.sub hy9 hRp9 hpO9 hHs9 hBk9 hA9 hlen9 hEs9 h019 hlk9 hon hk9 hO2_
    -- java/util/List.add
    refine z_gcallF (rest := []) (As := [.ref H.size]) Z (j_add G l H_2 S_ sl9 H.size es9 hA_ (zEl.o3 hO2_) hns_ (by omega)) gw_X1_72 Z.K.2.2.1.2.1 gd_L_add (hOl9.kept (hk9.2 _ hOl9.lt)) rfl hl.1 (Nat.le_of_ble_eq_true rfl) rfl dX1_subscribe_32 ⟨⟨Nat.le_of_ble_eq_true rfl, Nat.le_of_ble_eq_true rfl⟩, Nat.le_of_ble_eq_true rfl, Nat.le_of_ble_eq_true rfl⟩ hL (fun H_3 locs hL hP_ => ?_)
    refine lv_pop Z.hx Z.hb dX1_subscribe_37 rfl ?_
    refine lv_iload Z.hx Z.hb dX1_subscribe_38 (lv_at hl 0 rfl) ?_
    exact zx_zret Z hr hL (zb_01) (⟨by rw [hjc], by simp [kPk, kIf, kPT, hc9, hjc], by rw [hjc]; exact hnx_ _ hP_⟩) (Nat.le_of_ble_eq_true rfl) (Nat.le_of_ble_eq_true rfl) dX1_subscribe_40
set_option maxHeartbeats 4000000 in
set_option maxRecDepth 100000 in
theorem x_come (G : zG) (l : Launch) (hl0 : l.stackTraces = false) (H : Heap) (R : xRo) (σ : zS) (n o tl pl : Nat) (ts ps : List Nat) (hX : xOp G H R σ n o tl pl ts ps) (hn64 : n ≤ 64) (hW : sWf σ) (p t f la w : Int32) : zXg G l yX1_come cX1_come 8 (Option.some Jvm.ClassFile.FieldType.boolean) 9 16 400 [.ref o, .int p, .int t, .int f, .int la, .int w] H (.int (zb (sOn (sL σ p.toNatClampNeg t.toNatClampNeg (sT σ))))) (fun H1 => kCome σ p t f la w = 0 ∧ xNx G H R (sNote σ p.toNatClampNeg t.toNatClampNeg 1 f la w) (n + 1) o H1) (xE RJ12 RJ6 (kCome σ p t f la w)) := by
  have hn29 : n < 2 ^ 29 := by omega
  obtain ⟨mt9, dt9, hOt⟩ := hX.tO
  obtain ⟨mp9, dp9, hOp⟩ := hX.pO
  have hO := hX.ob
  have htl : ts.length = sN σ := hX.2.2.2.1.2.1
  have hpl : ps.length = sP σ := hX.2.2.2.2.2.1
  have hN20 : sN σ ≤ 20 := hW.2.1
  have hP10 : sP σ ≤ 10 := hW.2.2.1
  refine zX.of (by decide +kernel) (Nat.le_of_ble_eq_true rfl) ?_
  intro p0 e0 s0 m0 args0 below0 meth0 c0 Z hr hxt hH ls hl
  have Z : zC G p0 s0 m0 args0 meth0 c0 RX1 cX1_come 8 := Z
  have hl : lv_has ls 8 [(0, .ref o), (1, .int p), (2, .int t), (3, .int f), (4, .int la), (5, .int w)] := hl
  have hL : zL G [] := zL.nil
  refine z_base Z hL (fun hB9 => ?_)
  have hB1 := hB9.1
  rcases hc9 : kPT σ p t with _ | _
  · skip
    refine lv_aload_n Z.hx Z.hb dX1_come_0 rfl (lv_at hl 0 rfl) ?_
    refine lv_iload_n Z.hx Z.hb dX1_come_1 rfl (lv_at hl 1 rfl) ?_
    refine lv_iload_n Z.hx Z.hb dX1_come_2 rfl (lv_at hl 2 rfl) ?_
    -- LinkResolver.packWith
    refine z_xpcallV (rest := []) (As := [.int p, .int t]) Z (x_pw_no G l hl0 H R σ n o tl pl ts ps hX hn29 hW p t hc9) gw_X1_97 gd_X1_97 rfl hO rfl hl.1 (Nat.le_of_ble_eq_true rfl) rfl dX1_come_3 ⟨⟨Nat.le_of_ble_eq_true rfl, Nat.le_of_ble_eq_true rfl⟩, Nat.le_of_ble_eq_true rfl, Nat.le_of_ble_eq_true rfl⟩ hL (fun E_ ce_ q_ H_ locs hL hk_ hx_ h1_ h2_ h3_ => z_out Z hxt hL ⟨hk_, Or.inl ⟨hx_, by simp [kCome, kIf, hc9]⟩⟩ h1_ h2_ h3_ (Nat.le_of_ble_eq_true rfl) (Nat.le_of_ble_eq_true rfl)) (fun locs hL c3 => ?_)
    exact c3.elim
  · have hc8 := hc9
    simp only [kPT, Bool.and_eq_true] at hc8
    obtain ⟨j, hj, rfl⟩ := mIs_nI (by omega) hc8.1
    obtain ⟨j2, hj2, rfl⟩ := mIs_nI (by omega) hc8.2
    have hjc : (nI j).toNatClampNeg = j := nI_clamp (by omega)
    obtain ⟨y9, hy9⟩ := hX.py hj
    have hp9 := hX.2.2.2.2.2.2 j y9 hy9
    have hp8 := hp9
    obtain ⟨sl9, hl9, br9, hRp9, hpO9, hSb9, hHs9, hBk9⟩ := hp8
    have hj2c : (nI j2).toNatClampNeg = j2 := nI_clamp (by omega)
    obtain ⟨y2, hy2⟩ := hX.ty hj2
    have hj20 : j2 < 20 := by omega
    obtain ⟨hs9, hA09, h209, hHd9⟩ := hHs9
    obtain ⟨h9, hh9⟩ : ∃ h, hs9[j2]? = some h := ⟨_, List.getElem?_eq_getElem (by omega)⟩
    obtain ⟨es9, q9, hA9, hlen9, hEs9, h019, hlk9⟩ := hHd9 j2 h9 hh9
    obtain ⟨m7, d7, hOl9, -⟩ := hA9.2.2.2
    obtain ⟨m8, d8, hOs9, -⟩ := hA09.2.2.2
    refine lv_aload_n Z.hx Z.hb dX1_come_0 rfl (lv_at hl 0 rfl) ?_
    refine lv_iload_n Z.hx Z.hb dX1_come_1 rfl (lv_at hl 1 rfl) ?_
    refine lv_iload_n Z.hx Z.hb dX1_come_2 rfl (lv_at hl 2 rfl) ?_
    -- LinkResolver.packWith
    refine z_xpcallV (rest := []) (As := [.int (nI j), .int (nI j2)]) Z (x_pw G l hl0 H R σ n o tl pl ts ps hX hn29 hW j y9 hy9 j2 y2 hy2) gw_X1_97 gd_X1_97 rfl hO rfl hl.1 (Nat.le_of_ble_eq_true rfl) rfl dX1_come_3 ⟨⟨Nat.le_of_ble_eq_true rfl, Nat.le_of_ble_eq_true rfl⟩, Nat.le_of_ble_eq_true rfl, Nat.le_of_ble_eq_true rfl⟩ hL (fun E_ ce_ q_ H_ locs hL hk_ hx_ h1_ h2_ h3_ => hx_.elim) (fun locs hL c3 => ?_)
    refine lv_astore (lv' := [(6, .ref y9), (0, .ref o), (1, .int (nI j)), (2, .int (nI j2)), (3, .int f), (4, .int la), (5, .int w)]) Z.hx Z.hb dX1_come_6 hl (by decide) rfl (fun ls hl => ?_)
    refine lv_iload_n Z.hx Z.hb dX1_come_8 rfl (lv_at hl 4 rfl) ?_
    refine lv_iconst (v := 0) Z.hx Z.hb dX1_come_9 (by decide) ?_
    refine lv_bipush (v := 55) Z.hx Z.hb dX1_come_10 (by decide) ?_
    -- LinkResolver.check
    refine z_xpcallS0 (rest := []) (As := [.int f, .int 0, .int 55]) Z (x_check G l hl0 H f 0 55) gw_X1_54 gd_X1_54 rfl hl.1 (Nat.le_of_ble_eq_true rfl) rfl dX1_come_12 ⟨⟨Nat.le_of_ble_eq_true rfl, Nat.le_of_ble_eq_true rfl⟩, Nat.le_of_ble_eq_true rfl, Nat.le_of_ble_eq_true rfl⟩ hL (fun E_ ce_ q_ H_ locs hL hk_ hx_ h1_ h2_ h3_ => z_out Z hxt hL ⟨hk_, Or.inr ⟨hx_.1, by simp [kCome, kIf, hc9, hx_.2]⟩⟩ h1_ h2_ h3_ (Nat.le_of_ble_eq_true rfl) (Nat.le_of_ble_eq_true rfl)) (fun locs hL c12 => ?_)
    refine lv_iload Z.hx Z.hb dX1_come_15 (lv_at hl 5 rfl) ?_
    refine lv_iload_n Z.hx Z.hb dX1_come_17 rfl (lv_at hl 4 rfl) ?_
    refine lv_bipush (v := 55) Z.hx Z.hb dX1_come_18 (by decide) ?_
    -- LinkResolver.check
    refine z_xpcallS0 (rest := []) (As := [.int la, .int f, .int 55]) Z (x_check G l hl0 H la f 55) gw_X1_54 gd_X1_54 rfl hl.1 (Nat.le_of_ble_eq_true rfl) rfl dX1_come_20 ⟨⟨Nat.le_of_ble_eq_true rfl, Nat.le_of_ble_eq_true rfl⟩, Nat.le_of_ble_eq_true rfl, Nat.le_of_ble_eq_true rfl⟩ hL (fun E_ ce_ q_ H_ locs hL hk_ hx_ h1_ h2_ h3_ => z_out Z hxt hL ⟨hk_, Or.inr ⟨hx_.1, by simp [kCome, kIf, hc9, c12, hx_.2]⟩⟩ h1_ h2_ h3_ (Nat.le_of_ble_eq_true rfl) (Nat.le_of_ble_eq_true rfl)) (fun locs hL c20 => ?_)
    refine lv_iload Z.hx Z.hb dX1_come_23 (lv_at hl 6 rfl) ?_
    refine lv_iconst (v := 0) Z.hx Z.hb dX1_come_25 (by decide) ?_
    refine lv_bipush (v := 20) Z.hx Z.hb dX1_come_26 (by decide) ?_
    -- LinkResolver.check
    refine z_xpcallS0 (rest := []) (As := [.int w, .int 0, .int 20]) Z (x_check G l hl0 H w 0 20) gw_X1_54 gd_X1_54 rfl hl.1 (Nat.le_of_ble_eq_true rfl) rfl dX1_come_28 ⟨⟨Nat.le_of_ble_eq_true rfl, Nat.le_of_ble_eq_true rfl⟩, Nat.le_of_ble_eq_true rfl, Nat.le_of_ble_eq_true rfl⟩ hL (fun E_ ce_ q_ H_ locs hL hk_ hx_ h1_ h2_ h3_ => z_out Z hxt hL ⟨hk_, Or.inr ⟨hx_.1, by simp [kCome, kIf, hc9, c12, c20, hx_.2]⟩⟩ h1_ h2_ h3_ (Nat.le_of_ble_eq_true rfl) (Nat.le_of_ble_eq_true rfl)) (fun locs hL c28 => ?_)
    refine lv_aload Z.hx Z.hb dX1_come_31 (lv_at hl 0 rfl) ?_
    refine lv_iload_n Z.hx Z.hb dX1_come_33 rfl (lv_at hl 3 rfl) ?_
    refine lv_aload_n Z.hx Z.hb dX1_come_34 rfl (lv_at hl 1 rfl) ?_
    refine gf_X1_62 Z hO (v := .int (sT σ)) rfl dX1_come_35 ?_
    -- LinkResolver$Package.isIn
    refine z_pcallV (rest := []) (As := [.int (nI j2), .int (sT σ)]) Z (p_in G l H R σ n j y9 hp9 hn29 j2 hj20 (sT σ)) gw_X1_101 gd_X1_101 rfl hpO9 rfl hl.1 (Nat.le_of_ble_eq_true rfl) rfl dX1_come_38 ⟨⟨Nat.le_of_ble_eq_true rfl, Nat.le_of_ble_eq_true rfl⟩, Nat.le_of_ble_eq_true rfl, Nat.le_of_ble_eq_true rfl⟩ hL (fun locs hL => ?_)
    refine lv_istore (lv' := [(7, .int (zb (sOn (sL σ j j2 (sT σ))))), (6, .ref y9), (0, .ref o), (1, .int (nI j)), (2, .int (nI j2)), (3, .int f), (4, .int la), (5, .int w)]) Z.hx Z.hb dX1_come_41 hl (by decide) rfl (fun ls hl => ?_)
    refine lv_aload Z.hx Z.hb dX1_come_43 (lv_at hl 1 rfl) ?_
    refine gf_X1_105 Z hpO9 (v := .ref hl9) rfl dX1_come_45 ?_
    refine lv_iload_n Z.hx Z.hb dX1_come_48 rfl (lv_at hl 4 rfl) ?_
    -- java/util/List.get
    refine z_pcallF (rest := []) (As := [.int (nI j2)]) Z (j_get G l H _ hl9 hs9 hA09 j2 h9 (by omega) (by omega) hh9) gw_X1_38 Z.K.2.2.1.2.2 gd_L_get hOs9 rfl hl.1 (Nat.le_of_ble_eq_true rfl) rfl dX1_come_49 ⟨⟨Nat.le_of_ble_eq_true rfl, Nat.le_of_ble_eq_true rfl⟩, Nat.le_of_ble_eq_true rfl, Nat.le_of_ble_eq_true rfl⟩ hL (fun locs hL => ?_)
    refine z_castY Z (ci := 6) rfl q497 q182 hOl9 dX1_come_54 ?_
    refine z_new Z (C := RX6) (T := TX6) (N := 5) (ci := 4) rfl in_X6 tyX6 tyX6_ok q498 q499 q52 (fs := [.int 0, .int 0, .int 0, .int 0, .int 0]) (fun j hj => by
      rcases j with _ | _ | _ | _ | _ | j
      all_goals first | rfl | (exact absurd hj (by omega))) (Nat.le_of_ble_eq_true rfl) (Nat.le_of_ble_eq_true rfl) dX1_come_57 (fun H_1 hO1_ hz1_ hq1_ => ?_)
    refine lv_dup Z.hx Z.hb dX1_come_60 rfl ?_
    refine lv_aload_n Z.hx Z.hb dX1_come_61 rfl (lv_at hl 2 rfl) ?_
    refine gf_X1_62 Z (hO.kept (hq1_ _ hO.lt)) (v := .int (sT σ)) rfl dX1_come_62 ?_
    refine lv_iconst (v := 1) Z.hx Z.hb dX1_come_65 (by decide) ?_
    refine lv_iload_n Z.hx Z.hb dX1_come_66 rfl (lv_at hl 5 rfl) ?_
    refine lv_iload Z.hx Z.hb dX1_come_67 (lv_at hl 6 rfl) ?_
    refine lv_iload Z.hx Z.hb dX1_come_69 (lv_at hl 7 rfl) ?_
    -- LinkResolver$Holding.<init>
    refine z_gcallIN (rest := [.ref H.size, .ref h9]) (As := [.int (sT σ), .int 1, .int f, .int la, .int w]) Z (h_init G l H_1 H.size (by omega) hO1_ (sT σ) 1 f la w (Or.inr rfl)) gw_X1_110 q52 q500 q501 rfl gd_X1_110 rfl hl.1 (Nat.le_of_ble_eq_true rfl) rfl dX1_come_71 ⟨⟨Nat.le_of_ble_eq_true rfl, Nat.le_of_ble_eq_true rfl⟩, Nat.le_of_ble_eq_true rfl, Nat.le_of_ble_eq_true rfl⟩ hL (fun H_2 locs hL hP_ => ?_)
    obtain ⟨hO2_, hz2_, hq2_⟩ := hP_
    have hk9 : zKeep H H_2 := ⟨by omega, fun q h1 => (hq2_ q (by omega)).trans (hq1_ q h1)⟩
    obtain ⟨S_, hA_, hns_, hnx_⟩ := hX.hld hy9 hRp9 hpO9 hSb9 hBk9 hA09 h209 hHd9 hj20 hh9 hA9 hlen9 hEs9 h019 hlk9 (Or.inr rfl) hk9 hO2_
    -- java/util/List.add
    refine z_gcallF (rest := []) (As := [.ref H.size]) Z (j_add G l H_2 S_ h9 H.size es9 hA_ (zEl.o4 hO2_) hns_ (by omega)) gw_X1_72 Z.K.2.2.1.2.1 gd_L_add (hOl9.kept (hk9.2 _ hOl9.lt)) rfl hl.1 (Nat.le_of_ble_eq_true rfl) rfl dX1_come_74 ⟨⟨Nat.le_of_ble_eq_true rfl, Nat.le_of_ble_eq_true rfl⟩, Nat.le_of_ble_eq_true rfl, Nat.le_of_ble_eq_true rfl⟩ hL (fun H_3 locs hL hP_ => ?_)
    refine lv_pop Z.hx Z.hb dX1_come_79 rfl ?_
    refine lv_iload Z.hx Z.hb dX1_come_80 (lv_at hl 0 rfl) ?_
    exact zx_zret Z hr hL (zb_01) (⟨by rw [hjc, hj2c], by simp [kCome, kIf, hc9, c12, c20, c28], by rw [hjc, hj2c]; exact hnx_ _ hP_⟩) (Nat.le_of_ble_eq_true rfl) (Nat.le_of_ble_eq_true rfl) dX1_come_82
set_option maxHeartbeats 4000000 in
set_option maxRecDepth 100000 in
theorem x_go (G : zG) (l : Launch) (hl0 : l.stackTraces = false) (H : Heap) (R : xRo) (σ : zS) (n o tl pl : Nat) (ts ps : List Nat) (hX : xOp G H R σ n o tl pl ts ps) (hn64 : n ≤ 64) (hW : sWf σ) (p t : Int32) : zXg0 G l yX1_go cX1_go 4 none 9 16 400 [.ref o, .int p, .int t] H (fun H1 => kGo σ p t = 0 ∧ xNx G H R (sNote σ p.toNatClampNeg t.toNatClampNeg 0 0 0 0) (n + 1) o H1) (xE RJ12 RJ7 (kGo σ p t)) := by
  have hn29 : n < 2 ^ 29 := by omega
  obtain ⟨mt9, dt9, hOt⟩ := hX.tO
  obtain ⟨mp9, dp9, hOp⟩ := hX.pO
  have hO := hX.ob
  have htl : ts.length = sN σ := hX.2.2.2.1.2.1
  have hpl : ps.length = sP σ := hX.2.2.2.2.2.1
  have hN20 : sN σ ≤ 20 := hW.2.1
  have hP10 : sP σ ≤ 10 := hW.2.2.1
  refine zX.of (by decide +kernel) (Nat.le_of_ble_eq_true rfl) ?_
  intro p0 e0 s0 m0 args0 below0 meth0 c0 Z hr hxt hH ls hl
  have Z : zC G p0 s0 m0 args0 meth0 c0 RX1 cX1_go 4 := Z
  have hl : lv_has ls 4 [(0, .ref o), (1, .int p), (2, .int t)] := hl
  have hL : zL G [] := zL.nil
  refine z_base Z hL (fun hB9 => ?_)
  have hB1 := hB9.1
  rcases hc9 : kPT σ p t with _ | _
  · skip
    refine lv_aload_n Z.hx Z.hb dX1_go_0 rfl (lv_at hl 0 rfl) ?_
    refine lv_iload_n Z.hx Z.hb dX1_go_1 rfl (lv_at hl 1 rfl) ?_
    refine lv_iload_n Z.hx Z.hb dX1_go_2 rfl (lv_at hl 2 rfl) ?_
    -- LinkResolver.packWith
    refine z_xpcallV (rest := []) (As := [.int p, .int t]) Z (x_pw_no G l hl0 H R σ n o tl pl ts ps hX hn29 hW p t hc9) gw_X1_97 gd_X1_97 rfl hO rfl hl.1 (Nat.le_of_ble_eq_true rfl) rfl dX1_go_3 ⟨⟨Nat.le_of_ble_eq_true rfl, Nat.le_of_ble_eq_true rfl⟩, Nat.le_of_ble_eq_true rfl, Nat.le_of_ble_eq_true rfl⟩ hL (fun E_ ce_ q_ H_ locs hL hk_ hx_ h1_ h2_ h3_ => z_out Z hxt hL ⟨hk_, Or.inl ⟨hx_, by simp [kGo, kIf, hc9]⟩⟩ h1_ h2_ h3_ (Nat.le_of_ble_eq_true rfl) (Nat.le_of_ble_eq_true rfl)) (fun locs hL c3 => ?_)
    exact c3.elim
  · have hc8 := hc9
    simp only [kPT, Bool.and_eq_true] at hc8
    obtain ⟨j, hj, rfl⟩ := mIs_nI (by omega) hc8.1
    obtain ⟨j2, hj2, rfl⟩ := mIs_nI (by omega) hc8.2
    have hjc : (nI j).toNatClampNeg = j := nI_clamp (by omega)
    obtain ⟨y9, hy9⟩ := hX.py hj
    have hp9 := hX.2.2.2.2.2.2 j y9 hy9
    have hp8 := hp9
    obtain ⟨sl9, hl9, br9, hRp9, hpO9, hSb9, hHs9, hBk9⟩ := hp8
    have hj2c : (nI j2).toNatClampNeg = j2 := nI_clamp (by omega)
    obtain ⟨y2, hy2⟩ := hX.ty hj2
    have hj20 : j2 < 20 := by omega
    obtain ⟨hs9, hA09, h209, hHd9⟩ := hHs9
    obtain ⟨h9, hh9⟩ : ∃ h, hs9[j2]? = some h := ⟨_, List.getElem?_eq_getElem (by omega)⟩
    obtain ⟨es9, q9, hA9, hlen9, hEs9, h019, hlk9⟩ := hHd9 j2 h9 hh9
    obtain ⟨m7, d7, hOl9, -⟩ := hA9.2.2.2
    obtain ⟨m8, d8, hOs9, -⟩ := hA09.2.2.2
    refine lv_aload_n Z.hx Z.hb dX1_go_0 rfl (lv_at hl 0 rfl) ?_
    refine lv_iload_n Z.hx Z.hb dX1_go_1 rfl (lv_at hl 1 rfl) ?_
    refine lv_iload_n Z.hx Z.hb dX1_go_2 rfl (lv_at hl 2 rfl) ?_
    -- LinkResolver.packWith
    refine z_xpcallV (rest := []) (As := [.int (nI j), .int (nI j2)]) Z (x_pw G l hl0 H R σ n o tl pl ts ps hX hn29 hW j y9 hy9 j2 y2 hy2) gw_X1_97 gd_X1_97 rfl hO rfl hl.1 (Nat.le_of_ble_eq_true rfl) rfl dX1_go_3 ⟨⟨Nat.le_of_ble_eq_true rfl, Nat.le_of_ble_eq_true rfl⟩, Nat.le_of_ble_eq_true rfl, Nat.le_of_ble_eq_true rfl⟩ hL (fun E_ ce_ q_ H_ locs hL hk_ hx_ h1_ h2_ h3_ => hx_.elim) (fun locs hL c3 => ?_)
    refine lv_astore_n (lv' := [(3, .ref y9), (0, .ref o), (1, .int (nI j)), (2, .int (nI j2))]) Z.hx Z.hb dX1_go_6 rfl hl (by decide) rfl (fun ls hl => ?_)
    refine lv_aload_n Z.hx Z.hb dX1_go_7 rfl (lv_at hl 0 rfl) ?_
    refine lv_iload_n Z.hx Z.hb dX1_go_8 rfl (lv_at hl 3 rfl) ?_
    refine lv_aload_n Z.hx Z.hb dX1_go_9 rfl (lv_at hl 1 rfl) ?_
    refine gf_X1_62 Z hO (v := .int (sT σ)) rfl dX1_go_10 ?_
    -- LinkResolver$Package.isIn
    refine z_pcallV (rest := []) (As := [.int (nI j2), .int (sT σ)]) Z (p_in G l H R σ n j y9 hp9 hn29 j2 hj20 (sT σ)) gw_X1_101 gd_X1_101 rfl hpO9 rfl hl.1 (Nat.le_of_ble_eq_true rfl) rfl dX1_go_13 ⟨⟨Nat.le_of_ble_eq_true rfl, Nat.le_of_ble_eq_true rfl⟩, Nat.le_of_ble_eq_true rfl, Nat.le_of_ble_eq_true rfl⟩ hL (fun locs hL => ?_)
    -- LinkResolver.checkState
    refine z_xpcallS0 (rest := []) (As := [.int (zb (sOn (sL σ j j2 (sT σ))))]) Z (x_state G l hl0 H (sOn (sL σ j j2 (sT σ)))) gw_X1_66 gd_X1_66 rfl hl.1 (Nat.le_of_ble_eq_true rfl) rfl dX1_go_16 ⟨⟨Nat.le_of_ble_eq_true rfl, Nat.le_of_ble_eq_true rfl⟩, Nat.le_of_ble_eq_true rfl, Nat.le_of_ble_eq_true rfl⟩ hL (fun E_ ce_ q_ H_ locs hL hk_ hx_ h1_ h2_ h3_ => z_out Z hxt hL ⟨hk_, Or.inr ⟨hx_.1, by simp [kGo, kIf, hc9, hjc, hj2c, hx_.2]⟩⟩ h1_ h2_ h3_ (Nat.le_of_ble_eq_true rfl) (Nat.le_of_ble_eq_true rfl)) (fun locs hL c16 => ?_)
    refine lv_aload_n Z.hx Z.hb dX1_go_19 rfl (lv_at hl 0 rfl) ?_
    refine gf_X1_105 Z hpO9 (v := .ref hl9) rfl dX1_go_20 ?_
    refine lv_iload_n Z.hx Z.hb dX1_go_23 rfl (lv_at hl 3 rfl) ?_
    -- java/util/List.get
    refine z_pcallF (rest := []) (As := [.int (nI j2)]) Z (j_get G l H _ hl9 hs9 hA09 j2 h9 (by omega) (by omega) hh9) gw_X1_38 Z.K.2.2.1.2.2 gd_L_get hOs9 rfl hl.1 (Nat.le_of_ble_eq_true rfl) rfl dX1_go_24 ⟨⟨Nat.le_of_ble_eq_true rfl, Nat.le_of_ble_eq_true rfl⟩, Nat.le_of_ble_eq_true rfl, Nat.le_of_ble_eq_true rfl⟩ hL (fun locs hL => ?_)
    refine z_castY Z (ci := 6) rfl q497 q182 hOl9 dX1_go_29 ?_
    refine z_new Z (C := RX6) (T := TX6) (N := 5) (ci := 4) rfl in_X6 tyX6 tyX6_ok q498 q499 q52 (fs := [.int 0, .int 0, .int 0, .int 0, .int 0]) (fun j hj => by
      rcases j with _ | _ | _ | _ | _ | j
      all_goals first | rfl | (exact absurd hj (by omega))) (Nat.le_of_ble_eq_true rfl) (Nat.le_of_ble_eq_true rfl) dX1_go_32 (fun H_1 hO1_ hz1_ hq1_ => ?_)
    refine lv_dup Z.hx Z.hb dX1_go_35 rfl ?_
    refine lv_aload_n Z.hx Z.hb dX1_go_36 rfl (lv_at hl 1 rfl) ?_
    refine gf_X1_62 Z (hO.kept (hq1_ _ hO.lt)) (v := .int (sT σ)) rfl dX1_go_37 ?_
    refine lv_iconst (v := 0) Z.hx Z.hb dX1_go_40 (by decide) ?_
    refine lv_iconst (v := 0) Z.hx Z.hb dX1_go_41 (by decide) ?_
    refine lv_iconst (v := 0) Z.hx Z.hb dX1_go_42 (by decide) ?_
    refine lv_iconst (v := 0) Z.hx Z.hb dX1_go_43 (by decide) ?_
    -- LinkResolver$Holding.<init>
    refine z_gcallIN (rest := [.ref H.size, .ref h9]) (As := [.int (sT σ), .int 0, .int 0, .int 0, .int 0]) Z (h_init G l H_1 H.size (by omega) hO1_ (sT σ) 0 0 0 0 (Or.inl rfl)) gw_X1_110 q52 q500 q501 rfl gd_X1_110 rfl hl.1 (Nat.le_of_ble_eq_true rfl) rfl dX1_go_44 ⟨⟨Nat.le_of_ble_eq_true rfl, Nat.le_of_ble_eq_true rfl⟩, Nat.le_of_ble_eq_true rfl, Nat.le_of_ble_eq_true rfl⟩ hL (fun H_2 locs hL hP_ => ?_)
    obtain ⟨hO2_, hz2_, hq2_⟩ := hP_
    have hk9 : zKeep H H_2 := ⟨by omega, fun q h1 => (hq2_ q (by omega)).trans (hq1_ q h1)⟩
    obtain ⟨S_, hA_, hns_, hnx_⟩ := hX.hld hy9 hRp9 hpO9 hSb9 hBk9 hA09 h209 hHd9 hj20 hh9 hA9 hlen9 hEs9 h019 hlk9 (Or.inl rfl) hk9 hO2_
    -- java/util/List.add
    refine z_gcallF (rest := []) (As := [.ref H.size]) Z (j_add G l H_2 S_ h9 H.size es9 hA_ (zEl.o4 hO2_) hns_ (by omega)) gw_X1_72 Z.K.2.2.1.2.1 gd_L_add (hOl9.kept (hk9.2 _ hOl9.lt)) rfl hl.1 (Nat.le_of_ble_eq_true rfl) rfl dX1_go_47 ⟨⟨Nat.le_of_ble_eq_true rfl, Nat.le_of_ble_eq_true rfl⟩, Nat.le_of_ble_eq_true rfl, Nat.le_of_ble_eq_true rfl⟩ hL (fun H_3 locs hL hP_ => ?_)
    refine lv_pop Z.hx Z.hb dX1_go_52 rfl ?_
    exact zx_vret Z hr hL (⟨rfl, by simp [kGo, kIf, hc9, hjc, hj2c, c16], by rw [hjc, hj2c]; exact hnx_ _ hP_⟩) (Nat.le_of_ble_eq_true rfl) (Nat.le_of_ble_eq_true rfl) dX1_go_53
set_option maxHeartbeats 4000000 in
set_option maxRecDepth 100000 in
theorem x_report (G : zG) (l : Launch) (hl0 : l.stackTraces = false) (H : Heap) (R : xRo) (σ : zS) (n o tl pl : Nat) (ts ps : List Nat) (hX : xOp G H R σ n o tl pl ts ps) (hn64 : n ≤ 64) (hW : sWf σ) (p t : Int32) : zXg G l yX1_report cX1_report 4 (Option.some Jvm.ClassFile.FieldType.int) 9 16 400 [.ref o, .int p, .int t] H (.int (sB σ p.toNatClampNeg t.toNatClampNeg + 1)) (fun H1 => kRep σ p t = 0 ∧ xNx G H R (sPutB σ p.toNatClampNeg t.toNatClampNeg (sB σ p.toNatClampNeg t.toNatClampNeg + 1)) (n + 1) o H1) (fun E => E = RJ12 ∧ kRep σ p t = 1) := by
  have hn29 : n < 2 ^ 29 := by omega
  obtain ⟨mt9, dt9, hOt⟩ := hX.tO
  obtain ⟨mp9, dp9, hOp⟩ := hX.pO
  have hO := hX.ob
  have htl : ts.length = sN σ := hX.2.2.2.1.2.1
  have hpl : ps.length = sP σ := hX.2.2.2.2.2.1
  have hN20 : sN σ ≤ 20 := hW.2.1
  have hP10 : sP σ ≤ 10 := hW.2.2.1
  refine zX.of (by decide +kernel) (Nat.le_of_ble_eq_true rfl) ?_
  intro p0 e0 s0 m0 args0 below0 meth0 c0 Z hr hxt hH ls hl
  have Z : zC G p0 s0 m0 args0 meth0 c0 RX1 cX1_report 4 := Z
  have hl : lv_has ls 4 [(0, .ref o), (1, .int p), (2, .int t)] := hl
  have hL : zL G [] := zL.nil
  refine z_base Z hL (fun hB9 => ?_)
  have hB1 := hB9.1
  rcases hc9 : kPT σ p t with _ | _
  · skip
    refine lv_aload_n Z.hx Z.hb dX1_report_0 rfl (lv_at hl 0 rfl) ?_
    refine lv_iload_n Z.hx Z.hb dX1_report_1 rfl (lv_at hl 1 rfl) ?_
    refine lv_iload_n Z.hx Z.hb dX1_report_2 rfl (lv_at hl 2 rfl) ?_
    -- LinkResolver.packWith
    refine z_xpcallV (rest := []) (As := [.int p, .int t]) Z (x_pw_no G l hl0 H R σ n o tl pl ts ps hX hn29 hW p t hc9) gw_X1_97 gd_X1_97 rfl hO rfl hl.1 (Nat.le_of_ble_eq_true rfl) rfl dX1_report_3 ⟨⟨Nat.le_of_ble_eq_true rfl, Nat.le_of_ble_eq_true rfl⟩, Nat.le_of_ble_eq_true rfl, Nat.le_of_ble_eq_true rfl⟩ hL (fun E_ ce_ q_ H_ locs hL hk_ hx_ h1_ h2_ h3_ => z_out Z hxt hL ⟨hk_, ⟨hx_, by simp [kRep, kIf, hc9]⟩⟩ h1_ h2_ h3_ (Nat.le_of_ble_eq_true rfl) (Nat.le_of_ble_eq_true rfl)) (fun locs hL c3 => ?_)
    exact c3.elim
  · have hc8 := hc9
    simp only [kPT, Bool.and_eq_true] at hc8
    obtain ⟨j, hj, rfl⟩ := mIs_nI (by omega) hc8.1
    obtain ⟨j2, hj2, rfl⟩ := mIs_nI (by omega) hc8.2
    have hjc : (nI j).toNatClampNeg = j := nI_clamp (by omega)
    obtain ⟨y9, hy9⟩ := hX.py hj
    have hp9 := hX.2.2.2.2.2.2 j y9 hy9
    have hp8 := hp9
    obtain ⟨sl9, hl9, br9, hRp9, hpO9, hSb9, hHs9, hBk9⟩ := hp8
    have hj2c : (nI j2).toNatClampNeg = j2 := nI_clamp (by omega)
    obtain ⟨y2, hy2⟩ := hX.ty hj2
    have hj20 : j2 < 20 := by omega
    obtain ⟨hBr9, hBb9, bf9, hbI9, hbf9⟩ := hBk9
    have hne9 : y9 ≠ br9 := fun e => rne (a := 6) (b := 9) (by decide) (hBr9.symm.trans (e ▸ hRp9))
    refine lv_aload_n Z.hx Z.hb dX1_report_0 rfl (lv_at hl 0 rfl) ?_
    refine lv_iload_n Z.hx Z.hb dX1_report_1 rfl (lv_at hl 1 rfl) ?_
    refine lv_iload_n Z.hx Z.hb dX1_report_2 rfl (lv_at hl 2 rfl) ?_
    -- LinkResolver.packWith
    refine z_xpcallV (rest := []) (As := [.int (nI j), .int (nI j2)]) Z (x_pw G l hl0 H R σ n o tl pl ts ps hX hn29 hW j y9 hy9 j2 y2 hy2) gw_X1_97 gd_X1_97 rfl hO rfl hl.1 (Nat.le_of_ble_eq_true rfl) rfl dX1_report_3 ⟨⟨Nat.le_of_ble_eq_true rfl, Nat.le_of_ble_eq_true rfl⟩, Nat.le_of_ble_eq_true rfl, Nat.le_of_ble_eq_true rfl⟩ hL (fun E_ ce_ q_ H_ locs hL hk_ hx_ h1_ h2_ h3_ => hx_.elim) (fun locs hL c3 => ?_)
    refine lv_astore_n (lv' := [(3, .ref y9), (0, .ref o), (1, .int (nI j)), (2, .int (nI j2))]) Z.hx Z.hb dX1_report_6 rfl hl (by decide) rfl (fun ls hl => ?_)
    refine lv_aload_n Z.hx Z.hb dX1_report_7 rfl (lv_at hl 0 rfl) ?_
    refine gf_X1_113 Z hpO9 (v := .ref br9) rfl dX1_report_8 ?_
    refine lv_iload_n Z.hx Z.hb dX1_report_11 rfl (lv_at hl 3 rfl) ?_
    refine lv_dup2_11 Z.hx Z.hb dX1_report_12 rfl rfl ?_
    refine z_ialdN Z hbI9 (k := j2) hj20 (by decide) dX1_report_13 ?_
    refine lv_iconst (v := 1) Z.hx Z.hb dX1_report_14 (by decide) ?_
    refine lv_iadd Z.hx Z.hb dX1_report_15 ?_
    refine z_iastN Z hbI9 (k := j2) hj20 (by decide) hL hBb9 dX1_report_16 (fun H_1 locs hL hI_ hz_ hq_ => ?_)
    refine lv_aload_n Z.hx Z.hb dX1_report_17 rfl (lv_at hl 0 rfl) ?_
    refine gf_X1_113 Z (hpO9.kept (hq_ _ hne9)) (v := .ref br9) rfl dX1_report_18 ?_
    refine lv_iload_n Z.hx Z.hb dX1_report_21 rfl (lv_at hl 3 rfl) ?_
    refine z_ialdN Z hI_ (k := j2) hj20 (by decide) dX1_report_22 ?_
    exact zx_iret Z hr hL (⟨by rw [hjc, hj2c, ← hbf9 j2 hj20]; exact congrArg (fun z => some (Value.int z)) upd_eq, by simp [kRep, kIf, hc9], by rw [hjc, hj2c, ← hbf9 j2 hj20]; exact hX.brk hy9 hRp9 hpO9 hSb9 hHs9 hBr9 hBb9 hbf9 hj20 hI_ hz_ hq_⟩) (Nat.le_of_ble_eq_true rfl) (Nat.le_of_ble_eq_true rfl) dX1_report_23
set_option maxHeartbeats 4000000 in
set_option maxRecDepth 100000 in
theorem x_mend (G : zG) (l : Launch) (hl0 : l.stackTraces = false) (H : Heap) (R : xRo) (σ : zS) (n o tl pl : Nat) (ts ps : List Nat) (hX : xOp G H R σ n o tl pl ts ps) (hn64 : n ≤ 64) (hW : sWf σ) (p t : Int32) : zXg G l yX1_mend cX1_mend 5 (Option.some Jvm.ClassFile.FieldType.int) 9 16 400 [.ref o, .int p, .int t] H (.int (sB σ p.toNatClampNeg t.toNatClampNeg)) (fun H1 => kRep σ p t = 0 ∧ xNx G H R (sPutB σ p.toNatClampNeg t.toNatClampNeg 0) (n + 1) o H1) (fun E => E = RJ12 ∧ kRep σ p t = 1) := by
  have hn29 : n < 2 ^ 29 := by omega
  obtain ⟨mt9, dt9, hOt⟩ := hX.tO
  obtain ⟨mp9, dp9, hOp⟩ := hX.pO
  have hO := hX.ob
  have htl : ts.length = sN σ := hX.2.2.2.1.2.1
  have hpl : ps.length = sP σ := hX.2.2.2.2.2.1
  have hN20 : sN σ ≤ 20 := hW.2.1
  have hP10 : sP σ ≤ 10 := hW.2.2.1
  refine zX.of (by decide +kernel) (Nat.le_of_ble_eq_true rfl) ?_
  intro p0 e0 s0 m0 args0 below0 meth0 c0 Z hr hxt hH ls hl
  have Z : zC G p0 s0 m0 args0 meth0 c0 RX1 cX1_mend 5 := Z
  have hl : lv_has ls 5 [(0, .ref o), (1, .int p), (2, .int t)] := hl
  have hL : zL G [] := zL.nil
  refine z_base Z hL (fun hB9 => ?_)
  have hB1 := hB9.1
  rcases hc9 : kPT σ p t with _ | _
  · skip
    refine lv_aload_n Z.hx Z.hb dX1_mend_0 rfl (lv_at hl 0 rfl) ?_
    refine lv_iload_n Z.hx Z.hb dX1_mend_1 rfl (lv_at hl 1 rfl) ?_
    refine lv_iload_n Z.hx Z.hb dX1_mend_2 rfl (lv_at hl 2 rfl) ?_
    -- LinkResolver.packWith
    refine z_xpcallV (rest := []) (As := [.int p, .int t]) Z (x_pw_no G l hl0 H R σ n o tl pl ts ps hX hn29 hW p t hc9) gw_X1_97 gd_X1_97 rfl hO rfl hl.1 (Nat.le_of_ble_eq_true rfl) rfl dX1_mend_3 ⟨⟨Nat.le_of_ble_eq_true rfl, Nat.le_of_ble_eq_true rfl⟩, Nat.le_of_ble_eq_true rfl, Nat.le_of_ble_eq_true rfl⟩ hL (fun E_ ce_ q_ H_ locs hL hk_ hx_ h1_ h2_ h3_ => z_out Z hxt hL ⟨hk_, ⟨hx_, by simp [kRep, kIf, hc9]⟩⟩ h1_ h2_ h3_ (Nat.le_of_ble_eq_true rfl) (Nat.le_of_ble_eq_true rfl)) (fun locs hL c3 => ?_)
    exact c3.elim
  · have hc8 := hc9
    simp only [kPT, Bool.and_eq_true] at hc8
    obtain ⟨j, hj, rfl⟩ := mIs_nI (by omega) hc8.1
    obtain ⟨j2, hj2, rfl⟩ := mIs_nI (by omega) hc8.2
    have hjc : (nI j).toNatClampNeg = j := nI_clamp (by omega)
    obtain ⟨y9, hy9⟩ := hX.py hj
    have hp9 := hX.2.2.2.2.2.2 j y9 hy9
    have hp8 := hp9
    obtain ⟨sl9, hl9, br9, hRp9, hpO9, hSb9, hHs9, hBk9⟩ := hp8
    have hj2c : (nI j2).toNatClampNeg = j2 := nI_clamp (by omega)
    obtain ⟨y2, hy2⟩ := hX.ty hj2
    have hj20 : j2 < 20 := by omega
    obtain ⟨hBr9, hBb9, bf9, hbI9, hbf9⟩ := hBk9
    have hne9 : y9 ≠ br9 := fun e => rne (a := 6) (b := 9) (by decide) (hBr9.symm.trans (e ▸ hRp9))
    refine lv_aload_n Z.hx Z.hb dX1_mend_0 rfl (lv_at hl 0 rfl) ?_
    refine lv_iload_n Z.hx Z.hb dX1_mend_1 rfl (lv_at hl 1 rfl) ?_
    refine lv_iload_n Z.hx Z.hb dX1_mend_2 rfl (lv_at hl 2 rfl) ?_
    -- LinkResolver.packWith
    refine z_xpcallV (rest := []) (As := [.int (nI j), .int (nI j2)]) Z (x_pw G l hl0 H R σ n o tl pl ts ps hX hn29 hW j y9 hy9 j2 y2 hy2) gw_X1_97 gd_X1_97 rfl hO rfl hl.1 (Nat.le_of_ble_eq_true rfl) rfl dX1_mend_3 ⟨⟨Nat.le_of_ble_eq_true rfl, Nat.le_of_ble_eq_true rfl⟩, Nat.le_of_ble_eq_true rfl, Nat.le_of_ble_eq_true rfl⟩ hL (fun E_ ce_ q_ H_ locs hL hk_ hx_ h1_ h2_ h3_ => hx_.elim) (fun locs hL c3 => ?_)
    refine lv_astore_n (lv' := [(3, .ref y9), (0, .ref o), (1, .int (nI j)), (2, .int (nI j2))]) Z.hx Z.hb dX1_mend_6 rfl hl (by decide) rfl (fun ls hl => ?_)
    refine lv_aload_n Z.hx Z.hb dX1_mend_7 rfl (lv_at hl 0 rfl) ?_
    refine gf_X1_113 Z hpO9 (v := .ref br9) rfl dX1_mend_8 ?_
    refine lv_iload_n Z.hx Z.hb dX1_mend_11 rfl (lv_at hl 3 rfl) ?_
    refine z_ialdN Z hbI9 (k := j2) hj20 (by decide) dX1_mend_12 ?_
    refine lv_istore (lv' := [(4, .int (bf9 j2)), (3, .ref y9), (0, .ref o), (1, .int (nI j)), (2, .int (nI j2))]) Z.hx Z.hb dX1_mend_13 hl (by decide) rfl (fun ls hl => ?_)
    refine lv_aload_n Z.hx Z.hb dX1_mend_15 rfl (lv_at hl 1 rfl) ?_
    refine gf_X1_113 Z hpO9 (v := .ref br9) rfl dX1_mend_16 ?_
    refine lv_iload_n Z.hx Z.hb dX1_mend_19 rfl (lv_at hl 4 rfl) ?_
    refine lv_iconst (v := 0) Z.hx Z.hb dX1_mend_20 (by decide) ?_
    refine z_iastN Z hbI9 (k := j2) hj20 (by decide) hL hBb9 dX1_mend_21 (fun H_1 locs hL hI_ hz_ hq_ => ?_)
    refine lv_iload Z.hx Z.hb dX1_mend_22 (lv_at hl 0 rfl) ?_
    exact zx_iret Z hr hL (⟨by rw [hjc, hj2c, ← hbf9 j2 hj20], by simp [kRep, kIf, hc9], by rw [hjc, hj2c]; exact hX.brk hy9 hRp9 hpO9 hSb9 hHs9 hBr9 hBb9 hbf9 hj20 hI_ hz_ hq_⟩) (Nat.le_of_ble_eq_true rfl) (Nat.le_of_ble_eq_true rfl) dX1_mend_24
set_option maxHeartbeats 4000000 in
set_option maxRecDepth 100000 in
theorem x_addPackage (G : zG) (l : Launch) (hl0 : l.stackTraces = false) (H : Heap) (R : xRo) (σ : zS) (n o tl pl : Nat) (ts ps : List Nat) (hX : xOp G H R σ n o tl pl ts ps) (hn64 : n ≤ 64) (hW : sWf σ) (c v g k : Int32) : zXg G l yX1_addPackage cX1_addPackage 5 (Option.some Jvm.ClassFile.FieldType.int) 9 64 4000 [.ref o, .int c, .int v, .int g, .int k] H (.int (nI (sP σ))) (fun H1 => kAddP σ c v g k = 0 ∧ xNx G H R (sAddP σ c v g k) (n + 1) o H1) (xE RJ6 RJ7 (kAddP σ c v g k)) := by
  have hn29 : n < 2 ^ 29 := by omega
  obtain ⟨mt9, dt9, hOt⟩ := hX.tO
  obtain ⟨mp9, dp9, hOp⟩ := hX.pO
  have hO := hX.ob
  have htl : ts.length = sN σ := hX.2.2.2.1.2.1
  have hpl : ps.length = sP σ := hX.2.2.2.2.2.1
  have hN20 : sN σ ≤ 20 := hW.2.1
  have hP10 : sP σ ≤ 10 := hW.2.2.1
  refine zX.of (by decide +kernel) (Nat.le_of_ble_eq_true rfl) ?_
  intro p0 e0 s0 m0 args0 below0 meth0 c0 Z hr hxt hH ls hl
  have Z : zC G p0 s0 m0 args0 meth0 c0 RX1 cX1_addPackage 5 := Z
  have hl : lv_has ls 5 [(0, .ref o), (1, .int c), (2, .int v), (3, .int g), (4, .int k)] := hl
  have hL : zL G [] := zL.nil
  refine z_base Z hL (fun hB9 => ?_)
  have hB1 := hB9.1
  refine lv_iload_n Z.hx Z.hb dX1_addPackage_0 rfl (lv_at hl 1 rfl) ?_
  refine lv_iconst (v := 0) Z.hx Z.hb dX1_addPackage_1 (by decide) ?_
  refine lv_sipush (v := 1000) Z.hx Z.hb dX1_addPackage_2 (by decide) ?_
  -- LinkResolver.check
  refine z_xpcallS0 (rest := []) (As := [.int c, .int 0, .int 1000]) Z (x_check G l hl0 H c 0 1000) gw_X1_54 gd_X1_54 rfl hl.1 (Nat.le_of_ble_eq_true rfl) rfl dX1_addPackage_5 ⟨⟨Nat.le_of_ble_eq_true rfl, Nat.le_of_ble_eq_true rfl⟩, Nat.le_of_ble_eq_true rfl, Nat.le_of_ble_eq_true rfl⟩ hL (fun E_ ce_ q_ H_ locs hL hk_ hx_ h1_ h2_ h3_ => z_out Z hxt hL ⟨hk_, Or.inl ⟨hx_.1, by simp [kAddP, kIf, kPT, hx_.2]⟩⟩ h1_ h2_ h3_ (Nat.le_of_ble_eq_true rfl) (Nat.le_of_ble_eq_true rfl)) (fun locs hL c5 => ?_)
  refine lv_iload_n Z.hx Z.hb dX1_addPackage_8 rfl (lv_at hl 2 rfl) ?_
  refine lv_iconst (v := 0) Z.hx Z.hb dX1_addPackage_9 (by decide) ?_
  refine lv_iconst (v := 2) Z.hx Z.hb dX1_addPackage_10 (by decide) ?_
  -- LinkResolver.check
  refine z_xpcallS0 (rest := []) (As := [.int v, .int 0, .int 2]) Z (x_check G l hl0 H v 0 2) gw_X1_54 gd_X1_54 rfl hl.1 (Nat.le_of_ble_eq_true rfl) rfl dX1_addPackage_11 ⟨⟨Nat.le_of_ble_eq_true rfl, Nat.le_of_ble_eq_true rfl⟩, Nat.le_of_ble_eq_true rfl, Nat.le_of_ble_eq_true rfl⟩ hL (fun E_ ce_ q_ H_ locs hL hk_ hx_ h1_ h2_ h3_ => z_out Z hxt hL ⟨hk_, Or.inl ⟨hx_.1, by simp [kAddP, kIf, kPT, c5, hx_.2]⟩⟩ h1_ h2_ h3_ (Nat.le_of_ble_eq_true rfl) (Nat.le_of_ble_eq_true rfl)) (fun locs hL c11 => ?_)
  refine lv_iload_n Z.hx Z.hb dX1_addPackage_14 rfl (lv_at hl 3 rfl) ?_
  refine lv_iconst (v := 0) Z.hx Z.hb dX1_addPackage_15 (by decide) ?_
  refine lv_bipush (v := 15) Z.hx Z.hb dX1_addPackage_16 (by decide) ?_
  -- LinkResolver.check
  refine z_xpcallS0 (rest := []) (As := [.int g, .int 0, .int 15]) Z (x_check G l hl0 H g 0 15) gw_X1_54 gd_X1_54 rfl hl.1 (Nat.le_of_ble_eq_true rfl) rfl dX1_addPackage_18 ⟨⟨Nat.le_of_ble_eq_true rfl, Nat.le_of_ble_eq_true rfl⟩, Nat.le_of_ble_eq_true rfl, Nat.le_of_ble_eq_true rfl⟩ hL (fun E_ ce_ q_ H_ locs hL hk_ hx_ h1_ h2_ h3_ => z_out Z hxt hL ⟨hk_, Or.inl ⟨hx_.1, by simp [kAddP, kIf, kPT, c5, c11, hx_.2]⟩⟩ h1_ h2_ h3_ (Nat.le_of_ble_eq_true rfl) (Nat.le_of_ble_eq_true rfl)) (fun locs hL c18 => ?_)
  refine lv_iload Z.hx Z.hb dX1_addPackage_21 (lv_at hl 4 rfl) ?_
  refine lv_iconst (v := 0) Z.hx Z.hb dX1_addPackage_23 (by decide) ?_
  refine lv_iconst (v := 1) Z.hx Z.hb dX1_addPackage_24 (by decide) ?_
  -- LinkResolver.check
  refine z_xpcallS0 (rest := []) (As := [.int k, .int 0, .int 1]) Z (x_check G l hl0 H k 0 1) gw_X1_54 gd_X1_54 rfl hl.1 (Nat.le_of_ble_eq_true rfl) rfl dX1_addPackage_25 ⟨⟨Nat.le_of_ble_eq_true rfl, Nat.le_of_ble_eq_true rfl⟩, Nat.le_of_ble_eq_true rfl, Nat.le_of_ble_eq_true rfl⟩ hL (fun E_ ce_ q_ H_ locs hL hk_ hx_ h1_ h2_ h3_ => z_out Z hxt hL ⟨hk_, Or.inl ⟨hx_.1, by simp [kAddP, kIf, kPT, c5, c11, c18, hx_.2]⟩⟩ h1_ h2_ h3_ (Nat.le_of_ble_eq_true rfl) (Nat.le_of_ble_eq_true rfl)) (fun locs hL c25 => ?_)
  refine lv_aload_n Z.hx Z.hb dX1_addPackage_28 rfl (lv_at hl 0 rfl) ?_
  refine gf_X1_16 Z hO (v := .ref pl) rfl dX1_addPackage_29 ?_
  -- java/util/List.size
  refine z_pcallF (rest := []) (As := []) Z (j_size G l H _ pl ps hX.2.2.2.2.1) gw_X1_28 Z.K.2.2.1.1 gd_L_size hOp rfl hl.1 (Nat.le_of_ble_eq_true rfl) rfl dX1_addPackage_32 ⟨⟨Nat.le_of_ble_eq_true rfl, Nat.le_of_ble_eq_true rfl⟩, Nat.le_of_ble_eq_true rfl, Nat.le_of_ble_eq_true rfl⟩ hL (fun locs hL => ?_)
  refine lv_bipush (v := 10) Z.hx Z.hb dX1_addPackage_37 (by decide) ?_
  refine lv_icmp_ge (tgt := 46) Z.hx Z.hb dX1_addPackage_39 (by decide) (fun c39 => ?_) (fun c39 => ?_)
  · skip
    have hf9 : nI (sP σ) = 10 := by rw [← hpl]; exact (zfull (M := 10) (by omega) (by decide)).mp c39
    refine lv_iconst (v := 0) Z.hx Z.hb dX1_addPackage_46 (by decide) ?_
    -- LinkResolver.checkState
    refine z_xpcallS0 (rest := []) (As := [.int 0]) Z (x_state G l hl0 H false) gw_X1_66 gd_X1_66 rfl hl.1 (Nat.le_of_ble_eq_true rfl) rfl dX1_addPackage_47 ⟨⟨Nat.le_of_ble_eq_true rfl, Nat.le_of_ble_eq_true rfl⟩, Nat.le_of_ble_eq_true rfl, Nat.le_of_ble_eq_true rfl⟩ hL (fun E_ ce_ q_ H_ locs hL hk_ hx_ h1_ h2_ h3_ => z_out Z hxt hL ⟨hk_, Or.inr ⟨hx_.1, by simp [kAddP, kIf, kPT, c5, c11, c18, c25, hf9, hx_.2]⟩⟩ h1_ h2_ h3_ (Nat.le_of_ble_eq_true rfl) (Nat.le_of_ble_eq_true rfl)) (fun locs hL c47 => ?_)
    exact absurd c47 (by decide)
  · skip
    have hf9 : ¬ nI (sP σ) = 10 := by rw [← hpl]; exact fun z => c39 ((zfull (M := 10) (by omega) (by decide)).mpr z)
    refine lv_iconst (v := 1) Z.hx Z.hb dX1_addPackage_42 (by decide) ?_
    refine lv_goto (tgt := 47) Z.hx Z.hb dX1_addPackage_43 (by decide) ?_
    -- LinkResolver.checkState
    refine z_xpcallS0 (rest := []) (As := [.int 1]) Z (x_state G l hl0 H true) gw_X1_66 gd_X1_66 rfl hl.1 (Nat.le_of_ble_eq_true rfl) rfl dX1_addPackage_47 ⟨⟨Nat.le_of_ble_eq_true rfl, Nat.le_of_ble_eq_true rfl⟩, Nat.le_of_ble_eq_true rfl, Nat.le_of_ble_eq_true rfl⟩ hL (fun E_ ce_ q_ H_ locs hL hk_ hx_ h1_ h2_ h3_ => absurd hx_.2 (by decide)) (fun locs hL c47 => ?_)
    refine lv_aload_n Z.hx Z.hb dX1_addPackage_50 rfl (lv_at hl 0 rfl) ?_
    refine gf_X1_16 Z hO (v := .ref pl) rfl dX1_addPackage_51 ?_
    refine z_new Z (C := RX4) (T := TX4) (N := 8) (ci := 2) rfl in_X4 tyX4 tyX4_ok q388 q389 q50 (fs := [.int 0, .int 0, .int 0, .int 0, .int 0, .null, .null, .null]) (fun j hj => by
      rcases j with _ | _ | _ | _ | _ | _ | _ | _ | j
      all_goals first | rfl | (exact absurd hj (by omega))) (Nat.le_of_ble_eq_true rfl) (Nat.le_of_ble_eq_true rfl) dX1_addPackage_54 (fun H_1 hO1_ hz1_ hq1_ => ?_)
    have hk1_ : zKeep H H_1 := ⟨by omega, hq1_⟩
    refine lv_dup Z.hx Z.hb dX1_addPackage_57 rfl ?_
    refine lv_aload_n Z.hx Z.hb dX1_addPackage_58 rfl (lv_at hl 0 rfl) ?_
    refine gf_X1_16 Z (hO.kept (hk1_.2 _ hO.lt)) (v := .ref pl) rfl dX1_addPackage_59 ?_
    -- java/util/List.size
    refine z_pcallF (rest := [.ref H.size, .ref H.size, .ref pl]) (As := []) Z (j_size G l H_1 _ pl ps (hX.2.2.2.2.1.keep hk1_)) gw_X1_28 Z.K.2.2.1.1 gd_L_size (hOp.kept (hk1_.2 _ hOp.lt)) rfl hl.1 (Nat.le_of_ble_eq_true rfl) rfl dX1_addPackage_62 ⟨⟨Nat.le_of_ble_eq_true rfl, Nat.le_of_ble_eq_true rfl⟩, Nat.le_of_ble_eq_true rfl, Nat.le_of_ble_eq_true rfl⟩ hL (fun locs hL => ?_)
    refine lv_iload_n Z.hx Z.hb dX1_addPackage_67 rfl (lv_at hl 1 rfl) ?_
    refine lv_iload_n Z.hx Z.hb dX1_addPackage_68 rfl (lv_at hl 2 rfl) ?_
    refine lv_iload_n Z.hx Z.hb dX1_addPackage_69 rfl (lv_at hl 3 rfl) ?_
    refine lv_iload Z.hx Z.hb dX1_addPackage_70 (lv_at hl 4 rfl) ?_
    refine lv_iconst (v := 1) Z.hx Z.hb dX1_addPackage_72 (by decide) ?_
    refine lv_icmp_ne (tgt := 80) Z.hx Z.hb dX1_addPackage_73 (by decide) (fun c73 => ?_) (fun c73 => ?_)
    · skip
      have hk0 : k = 0 := by
        have c25' := c25
        simp only [mBt, Bool.and_eq_true, Bool.not_eq_true', decide_eq_false_iff_not] at c25'
        rcases nI_of2 (x := k) (M := 1) (n := 1) (by decide) c25'.1 (Int32.not_lt.mp c25'.2) with ⟨j, hj, rfl⟩
        rcases j with _ | _ | j
        · rfl
        · exact absurd rfl c73
        · omega
      refine lv_iconst (v := 0) Z.hx Z.hb dX1_addPackage_80 (by decide) ?_
      have hR1 : upR R H.size (9, 0, 0) H.size = (9, 0, 0) := upR_ge (Nat.le_refl _)
      have hq2 : sA (sAddP σ c v g k) 2 (sP σ) = c := upd_eq
      have hq3 : sA (sAddP σ c v g k) 3 (sP σ) = v := upd_eq
      have hq4 : sA (sAddP σ c v g k) 4 (sP σ) = g := upd_eq
      have hq5 : sA (sAddP σ c v g k) 5 (sP σ) = k := upd_eq
      have hk2 : k = 0 ∨ k = 1 := by
        simp only [mBt, Bool.and_eq_true, Bool.not_eq_true', decide_eq_false_iff_not] at c25
        rcases nI_of2 (x := k) (M := 1) (n := 1) (by decide) c25.1 (Int32.not_lt.mp c25.2) with ⟨j, hj, rfl⟩
        rcases j with _ | _ | j
        · exact Or.inl rfl
        · exact Or.inr rfl
        · omega
      have hpi := p_init G l H_1 (upR R H.size (9, 0, 0)) (sAddP σ c v g k) H.size (sP σ) (by omega) hR1 hO1_ (by rw [hq5]; exact hk2) (fun k d _ => hW.2.2.2.2.2.2 (sP σ) k d (Nat.le_refl _)) (fun t _ => hW.2.2.2.2.2.1 (sP σ) t (Nat.le_refl _))
      rw [hq2, hq3, hq4, hq5, ← hpl] at hpi
      have hpi := hpi
      rw [show Value.int k = Value.int 0 from congrArg Value.int hk0] at hpi
      -- LinkResolver$Package.<init>
      refine z_gcallI (rest := [.ref H.size, .ref pl]) (As := [.int (nI ps.length), .int c, .int v, .int g, .int 0]) Z hpi gw_X1_82 q50 q390 q391 rfl gd_X1_82 rfl hl.1 (Nat.le_of_ble_eq_true rfl) rfl dX1_addPackage_81 ⟨⟨Nat.le_of_ble_eq_true rfl, Nat.le_of_ble_eq_true rfl⟩, Nat.le_of_ble_eq_true rfl, Nat.le_of_ble_eq_true rfl⟩ hL (fun H_2 locs hL hP_ => ?_)
      obtain ⟨R_2, hx2_, hs2_, hr2_, hq2_⟩ := hP_
      have hk9 : zKeep H H_2 := ⟨by omega, fun q h1 => (hq2_ q (by omega) (by omega)).trans (hq1_ q h1)⟩
      rw [hpl] at hx2_
      obtain ⟨S_, hA_, hns_, hnx_⟩ := hX.pkg hk9 (fun q h1 => (hr2_ q (by omega)).trans (upR_lt h1)) hx2_
      have hxO_ := hx2_.choose_spec.choose_spec.choose_spec.2.1
      -- java/util/List.add
      refine z_gcallF (rest := []) (As := [.ref H.size]) Z (j_add G l H_2 S_ pl H.size ps hA_ (zEl.o2 hxO_) hns_ (by omega)) gw_X1_72 Z.K.2.2.1.2.1 gd_L_add (hOp.kept (hk9.2 _ hOp.lt)) rfl hl.1 (Nat.le_of_ble_eq_true rfl) rfl dX1_addPackage_84 ⟨⟨Nat.le_of_ble_eq_true rfl, Nat.le_of_ble_eq_true rfl⟩, Nat.le_of_ble_eq_true rfl, Nat.le_of_ble_eq_true rfl⟩ hL (fun H_3 locs hL hP_ => ?_)
      obtain ⟨R_3, hC_, hX3⟩ := hnx_ _ hP_
      refine lv_pop Z.hx Z.hb dX1_addPackage_89 rfl ?_
      refine lv_aload_n Z.hx Z.hb dX1_addPackage_90 rfl (lv_at hl 0 rfl) ?_
      refine gf_X1_16 Z hX3.ob (v := .ref pl) rfl dX1_addPackage_91 ?_
      -- java/util/List.size
      refine z_pcallF (rest := []) (As := []) Z (j_size G l H_3 _ pl (ps ++ [H.size]) hX3.2.2.2.2.1) gw_X1_28 Z.K.2.2.1.1 gd_L_size hX3.pO.choose_spec.choose_spec rfl hl.1 (Nat.le_of_ble_eq_true rfl) rfl dX1_addPackage_94 ⟨⟨Nat.le_of_ble_eq_true rfl, Nat.le_of_ble_eq_true rfl⟩, Nat.le_of_ble_eq_true rfl, Nat.le_of_ble_eq_true rfl⟩ hL (fun locs hL => ?_)
      refine lv_iconst (v := 1) Z.hx Z.hb dX1_addPackage_99 (by decide) ?_
      refine lv_isub Z.hx Z.hb dX1_addPackage_100 ?_
      exact zx_iret Z hr hL (⟨by rw [List.length_append, hpl, show [H.size].length = 1 from rfl, nI_pred], by simp [kAddP, kIf, c5, c11, c18, c25, hf9], xNx.of hC_ (rne (by decide)) hX3.rep⟩) (Nat.le_of_ble_eq_true rfl) (Nat.le_of_ble_eq_true rfl) dX1_addPackage_101
    · skip
      refine lv_iconst (v := 1) Z.hx Z.hb dX1_addPackage_76 (by decide) ?_
      refine lv_goto (tgt := 81) Z.hx Z.hb dX1_addPackage_77 (by decide) ?_
      have hR1 : upR R H.size (9, 0, 0) H.size = (9, 0, 0) := upR_ge (Nat.le_refl _)
      have hq2 : sA (sAddP σ c v g k) 2 (sP σ) = c := upd_eq
      have hq3 : sA (sAddP σ c v g k) 3 (sP σ) = v := upd_eq
      have hq4 : sA (sAddP σ c v g k) 4 (sP σ) = g := upd_eq
      have hq5 : sA (sAddP σ c v g k) 5 (sP σ) = k := upd_eq
      have hk2 : k = 0 ∨ k = 1 := by
        simp only [mBt, Bool.and_eq_true, Bool.not_eq_true', decide_eq_false_iff_not] at c25
        rcases nI_of2 (x := k) (M := 1) (n := 1) (by decide) c25.1 (Int32.not_lt.mp c25.2) with ⟨j, hj, rfl⟩
        rcases j with _ | _ | j
        · exact Or.inl rfl
        · exact Or.inr rfl
        · omega
      have hpi := p_init G l H_1 (upR R H.size (9, 0, 0)) (sAddP σ c v g k) H.size (sP σ) (by omega) hR1 hO1_ (by rw [hq5]; exact hk2) (fun k d _ => hW.2.2.2.2.2.2 (sP σ) k d (Nat.le_refl _)) (fun t _ => hW.2.2.2.2.2.1 (sP σ) t (Nat.le_refl _))
      rw [hq2, hq3, hq4, hq5, ← hpl] at hpi
      have hpi := hpi
      rw [show Value.int k = Value.int 1 from congrArg Value.int c73] at hpi
      -- LinkResolver$Package.<init>
      refine z_gcallI (rest := [.ref H.size, .ref pl]) (As := [.int (nI ps.length), .int c, .int v, .int g, .int 1]) Z hpi gw_X1_82 q50 q390 q391 rfl gd_X1_82 rfl hl.1 (Nat.le_of_ble_eq_true rfl) rfl dX1_addPackage_81 ⟨⟨Nat.le_of_ble_eq_true rfl, Nat.le_of_ble_eq_true rfl⟩, Nat.le_of_ble_eq_true rfl, Nat.le_of_ble_eq_true rfl⟩ hL (fun H_2 locs hL hP_ => ?_)
      obtain ⟨R_2, hx2_, hs2_, hr2_, hq2_⟩ := hP_
      have hk9 : zKeep H H_2 := ⟨by omega, fun q h1 => (hq2_ q (by omega) (by omega)).trans (hq1_ q h1)⟩
      rw [hpl] at hx2_
      obtain ⟨S_, hA_, hns_, hnx_⟩ := hX.pkg hk9 (fun q h1 => (hr2_ q (by omega)).trans (upR_lt h1)) hx2_
      have hxO_ := hx2_.choose_spec.choose_spec.choose_spec.2.1
      -- java/util/List.add
      refine z_gcallF (rest := []) (As := [.ref H.size]) Z (j_add G l H_2 S_ pl H.size ps hA_ (zEl.o2 hxO_) hns_ (by omega)) gw_X1_72 Z.K.2.2.1.2.1 gd_L_add (hOp.kept (hk9.2 _ hOp.lt)) rfl hl.1 (Nat.le_of_ble_eq_true rfl) rfl dX1_addPackage_84 ⟨⟨Nat.le_of_ble_eq_true rfl, Nat.le_of_ble_eq_true rfl⟩, Nat.le_of_ble_eq_true rfl, Nat.le_of_ble_eq_true rfl⟩ hL (fun H_3 locs hL hP_ => ?_)
      obtain ⟨R_3, hC_, hX3⟩ := hnx_ _ hP_
      refine lv_pop Z.hx Z.hb dX1_addPackage_89 rfl ?_
      refine lv_aload_n Z.hx Z.hb dX1_addPackage_90 rfl (lv_at hl 0 rfl) ?_
      refine gf_X1_16 Z hX3.ob (v := .ref pl) rfl dX1_addPackage_91 ?_
      -- java/util/List.size
      refine z_pcallF (rest := []) (As := []) Z (j_size G l H_3 _ pl (ps ++ [H.size]) hX3.2.2.2.2.1) gw_X1_28 Z.K.2.2.1.1 gd_L_size hX3.pO.choose_spec.choose_spec rfl hl.1 (Nat.le_of_ble_eq_true rfl) rfl dX1_addPackage_94 ⟨⟨Nat.le_of_ble_eq_true rfl, Nat.le_of_ble_eq_true rfl⟩, Nat.le_of_ble_eq_true rfl, Nat.le_of_ble_eq_true rfl⟩ hL (fun locs hL => ?_)
      refine lv_iconst (v := 1) Z.hx Z.hb dX1_addPackage_99 (by decide) ?_
      refine lv_isub Z.hx Z.hb dX1_addPackage_100 ?_
      exact zx_iret Z hr hL (⟨by rw [List.length_append, hpl, show [H.size].length = 1 from rfl, nI_pred], by simp [kAddP, kIf, c5, c11, c18, c25, hf9], xNx.of hC_ (rne (by decide)) hX3.rep⟩) (Nat.le_of_ble_eq_true rfl) (Nat.le_of_ble_eq_true rfl) dX1_addPackage_101
