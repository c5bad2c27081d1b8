/-! the model: methods that only read -/
set_option maxHeartbeats 4000000 in
set_option maxRecDepth 100000 in
theorem m_thrown (G : zG) (l : Launch) (H : Heap) (o : Nat) (A : Nat → Nat) (v : Nat → Int32) (f : Nat → Nat → Int32) (hM : mRep G H o A v f) : zMp G l yX2_thrown cX2_thrown 1 (Option.some Jvm.ClassFile.FieldType.int) 0 [.ref o] H (.int (v 0)) := by
  refine zM.of (by decide +kernel) (Nat.le_of_ble_eq_true rfl) ?_
  intro p0 e0 s0 m0 args0 below0 meth0 c0 Z hr hH hn ls hl
  have Z : zC G p0 s0 m0 args0 meth0 c0 RX2 cX2_thrown 1 := Z
  have hl : lv_has ls 1 [(0, .ref o)] := hl
  have hL : zL G [] := zL.nil
  refine lv_aload_n Z.hx Z.hb dX2_thrown_0 rfl (lv_at hl 0 rfl) ?_
  refine gf_X2_50 Z hM.ob (v := .int (v 0)) rfl dX2_thrown_1 ?_
  exact z_iret Z hr hL (⟨by simp [zb, ], rfl⟩) (Nat.le_of_ble_eq_true rfl) (Nat.le_of_ble_eq_true rfl) dX2_thrown_4
set_option maxHeartbeats 4000000 in
set_option maxRecDepth 100000 in
theorem m_isBetween (G : zG) (l : Launch) (H : Heap) (x a b : Int32) : zMp G l yX2_isBetween cX2_isBetween 3 (Option.some Jvm.ClassFile.FieldType.boolean) 0 [.int x, .int a, .int b] H (.int (zb (mBt x a b))) := by
  refine zM.of (by decide +kernel) (Nat.le_of_ble_eq_true rfl) ?_
  intro p0 e0 s0 m0 args0 below0 meth0 c0 Z hr hH hn ls hl
  have Z : zC G p0 s0 m0 args0 meth0 c0 RX2 cX2_isBetween 3 := Z
  have hl : lv_has ls 3 [(0, .int x), (1, .int a), (2, .int b)] := hl
  have hL : zL G [] := zL.nil
  refine lv_iload_n Z.hx Z.hb dX2_isBetween_0 rfl (lv_at hl 0 rfl) ?_
  refine lv_iload_n Z.hx Z.hb dX2_isBetween_1 rfl (lv_at hl 1 rfl) ?_
  refine lv_icmp_lt (tgt := 14) Z.hx Z.hb dX2_isBetween_2 (by decide) (fun c2 => ?_) (fun c2 => ?_)
  · skip
    refine lv_iconst (v := 0) Z.hx Z.hb dX2_isBetween_14 (by decide) ?_
    exact z_zret Z hr hL (by decide) (⟨by simp [zb, mBt, c2], rfl⟩) (Nat.le_of_ble_eq_true rfl) (Nat.le_of_ble_eq_true rfl) dX2_isBetween_15
  · skip
    refine lv_iload_n Z.hx Z.hb dX2_isBetween_5 rfl (lv_at hl 0 rfl) ?_
    refine lv_iload_n Z.hx Z.hb dX2_isBetween_6 rfl (lv_at hl 2 rfl) ?_
    refine lv_icmp_gt (tgt := 14) Z.hx Z.hb dX2_isBetween_7 (by decide) (fun c7 => ?_) (fun c7 => ?_)
    · skip
      refine lv_iconst (v := 0) Z.hx Z.hb dX2_isBetween_14 (by decide) ?_
      exact z_zret Z hr hL (by decide) (⟨by simp [zb, mBt, c2, c7], rfl⟩) (Nat.le_of_ble_eq_true rfl) (Nat.le_of_ble_eq_true rfl) dX2_isBetween_15
    · skip
      refine lv_iconst (v := 1) Z.hx Z.hb dX2_isBetween_10 (by decide) ?_
      refine lv_goto (tgt := 15) Z.hx Z.hb dX2_isBetween_11 (by decide) ?_
      exact z_zret Z hr hL (by decide) (⟨by simp [zb, mBt, c2, c7], rfl⟩) (Nat.le_of_ble_eq_true rfl) (Nat.le_of_ble_eq_true rfl) dX2_isBetween_15
set_option maxHeartbeats 4000000 in
set_option maxRecDepth 100000 in
theorem m_isTitle (G : zG) (l : Launch) (H : Heap) (o : Nat) (A : Nat → Nat) (v : Nat → Int32) (f : Nat → Nat → Int32) (hM : mRep G H o A v f) (t : Int32) : zMp G l yX2_isTitle cX2_isTitle 2 (Option.some Jvm.ClassFile.FieldType.boolean) 0 [.ref o, .int t] H (.int (zb (mIs t (v 2)))) := by
  refine zM.of (by decide +kernel) (Nat.le_of_ble_eq_true rfl) ?_
  intro p0 e0 s0 m0 args0 below0 meth0 c0 Z hr hH hn ls hl
  have Z : zC G p0 s0 m0 args0 meth0 c0 RX2 cX2_isTitle 2 := Z
  have hl : lv_has ls 2 [(0, .ref o), (1, .int t)] := hl
  have hL : zL G [] := zL.nil
  refine lv_iload_n Z.hx Z.hb dX2_isTitle_0 rfl (lv_at hl 1 rfl) ?_
  refine lv_if_lt (tgt := 16) Z.hx Z.hb dX2_isTitle_1 (by decide) (fun c1 => ?_) (fun c1 => ?_)
  · skip
    refine lv_iconst (v := 0) Z.hx Z.hb dX2_isTitle_16 (by decide) ?_
    exact z_zret Z hr hL (by decide) (⟨by simp [zb, mIs, c1], rfl⟩) (Nat.le_of_ble_eq_true rfl) (Nat.le_of_ble_eq_true rfl) dX2_isTitle_17
  · skip
    refine lv_iload_n Z.hx Z.hb dX2_isTitle_4 rfl (lv_at hl 1 rfl) ?_
    refine lv_aload_n Z.hx Z.hb dX2_isTitle_5 rfl (lv_at hl 0 rfl) ?_
    refine gf_X2_54 Z hM.ob (v := .int (v 2)) rfl dX2_isTitle_6 ?_
    refine lv_icmp_ge (tgt := 16) Z.hx Z.hb dX2_isTitle_9 (by decide) (fun c9 => ?_) (fun c9 => ?_)
    · skip
      refine lv_iconst (v := 0) Z.hx Z.hb dX2_isTitle_16 (by decide) ?_
      exact z_zret Z hr hL (by decide) (⟨by simp [zb, mIs, c1, c9], rfl⟩) (Nat.le_of_ble_eq_true rfl) (Nat.le_of_ble_eq_true rfl) dX2_isTitle_17
    · skip
      refine lv_iconst (v := 1) Z.hx Z.hb dX2_isTitle_12 (by decide) ?_
      refine lv_goto (tgt := 17) Z.hx Z.hb dX2_isTitle_13 (by decide) ?_
      exact z_zret Z hr hL (by decide) (⟨by simp [zb, mIs, c1, c9], rfl⟩) (Nat.le_of_ble_eq_true rfl) (Nat.le_of_ble_eq_true rfl) dX2_isTitle_17
set_option maxHeartbeats 4000000 in
set_option maxRecDepth 100000 in
theorem m_isPackage (G : zG) (l : Launch) (H : Heap) (o : Nat) (A : Nat → Nat) (v : Nat → Int32) (f : Nat → Nat → Int32) (hM : mRep G H o A v f) (t : Int32) : zMp G l yX2_isPackage cX2_isPackage 2 (Option.some Jvm.ClassFile.FieldType.boolean) 0 [.ref o, .int t] H (.int (zb (mIs t (v 3)))) := by
  refine zM.of (by decide +kernel) (Nat.le_of_ble_eq_true rfl) ?_
  intro p0 e0 s0 m0 args0 below0 meth0 c0 Z hr hH hn ls hl
  have Z : zC G p0 s0 m0 args0 meth0 c0 RX2 cX2_isPackage 2 := Z
  have hl : lv_has ls 2 [(0, .ref o), (1, .int t)] := hl
  have hL : zL G [] := zL.nil
  refine lv_iload_n Z.hx Z.hb dX2_isPackage_0 rfl (lv_at hl 1 rfl) ?_
  refine lv_if_lt (tgt := 16) Z.hx Z.hb dX2_isPackage_1 (by decide) (fun c1 => ?_) (fun c1 => ?_)
  · skip
    refine lv_iconst (v := 0) Z.hx Z.hb dX2_isPackage_16 (by decide) ?_
    exact z_zret Z hr hL (by decide) (⟨by simp [zb, mIs, c1], rfl⟩) (Nat.le_of_ble_eq_true rfl) (Nat.le_of_ble_eq_true rfl) dX2_isPackage_17
  · skip
    refine lv_iload_n Z.hx Z.hb dX2_isPackage_4 rfl (lv_at hl 1 rfl) ?_
    refine lv_aload_n Z.hx Z.hb dX2_isPackage_5 rfl (lv_at hl 0 rfl) ?_
    refine gf_X2_57 Z hM.ob (v := .int (v 3)) rfl dX2_isPackage_6 ?_
    refine lv_icmp_ge (tgt := 16) Z.hx Z.hb dX2_isPackage_9 (by decide) (fun c9 => ?_) (fun c9 => ?_)
    · skip
      refine lv_iconst (v := 0) Z.hx Z.hb dX2_isPackage_16 (by decide) ?_
      exact z_zret Z hr hL (by decide) (⟨by simp [zb, mIs, c1, c9], rfl⟩) (Nat.le_of_ble_eq_true rfl) (Nat.le_of_ble_eq_true rfl) dX2_isPackage_17
    · skip
      refine lv_iconst (v := 1) Z.hx Z.hb dX2_isPackage_12 (by decide) ?_
      refine lv_goto (tgt := 17) Z.hx Z.hb dX2_isPackage_13 (by decide) ?_
      exact z_zret Z hr hL (by decide) (⟨by simp [zb, mIs, c1, c9], rfl⟩) (Nat.le_of_ble_eq_true rfl) (Nat.le_of_ble_eq_true rfl) dX2_isPackage_17
set_option maxHeartbeats 4000000 in
set_option maxRecDepth 100000 in
theorem m_subscription (G : zG) (l : Launch) (H : Heap) (x : Int32) : zMp G l yX2_subscription cX2_subscription 1 (Option.some Jvm.ClassFile.FieldType.int) 0 [.int x] H (.int (21 * x + 20)) := by
  refine zM.of (by decide +kernel) (Nat.le_of_ble_eq_true rfl) ?_
  intro p0 e0 s0 m0 args0 below0 meth0 c0 Z hr hH hn ls hl
  have Z : zC G p0 s0 m0 args0 meth0 c0 RX2 cX2_subscription 1 := Z
  have hl : lv_has ls 1 [(0, .int x)] := hl
  have hL : zL G [] := zL.nil
  refine lv_bipush (v := 21) Z.hx Z.hb dX2_subscription_0 (by decide) ?_
  refine lv_iload_n Z.hx Z.hb dX2_subscription_2 rfl (lv_at hl 0 rfl) ?_
  refine lv_imul Z.hx Z.hb dX2_subscription_3 ?_
  refine lv_bipush (v := 20) Z.hx Z.hb dX2_subscription_4 (by decide) ?_
  refine lv_iadd Z.hx Z.hb dX2_subscription_6 ?_
  exact z_iret Z hr hL (⟨rfl, rfl⟩) (Nat.le_of_ble_eq_true rfl) (Nat.le_of_ble_eq_true rfl) dX2_subscription_7
set_option maxHeartbeats 4000000 in
set_option maxRecDepth 100000 in
theorem m_lets (G : zG) (l : Launch) (H : Heap) (o : Nat) (A : Nat → Nat) (v : Nat → Int32) (f : Nat → Nat → Int32) (hM : mRep G H o A v f) (p : Nat) (hp : p < 10) (g : Int32) : zMp G l yX2_lets cX2_lets 3 (Option.some Jvm.ClassFile.FieldType.boolean) 0 [.ref o, .int (nI p), .int g] H (.int (zb (mLet f p g))) := by
  refine zM.of (by decide +kernel) (Nat.le_of_ble_eq_true rfl) ?_
  intro p0 e0 s0 m0 args0 below0 meth0 c0 Z hr hH hn ls hl
  have Z : zC G p0 s0 m0 args0 meth0 c0 RX2 cX2_lets 3 := Z
  have hl : lv_has ls 3 [(0, .ref o), (1, .int (nI p)), (2, .int g)] := hl
  have hL : zL G [] := zL.nil
  refine lv_aload_n Z.hx Z.hb dX2_lets_0 rfl (lv_at hl 0 rfl) ?_
  refine gf_X2_22 Z hM.ob (v := .ref (A 8)) rfl dX2_lets_1 ?_
  refine lv_iload_n Z.hx Z.hb dX2_lets_4 rfl (lv_at hl 1 rfl) ?_
  refine z_ialdN Z hM.a8 (k := p) hp (by decide) dX2_lets_5 ?_
  refine lv_iload_n Z.hx Z.hb dX2_lets_6 rfl (lv_at hl 2 rfl) ?_
  refine lv_ishr Z.hx Z.hb dX2_lets_7 ?_
  refine lv_iconst (v := 1) Z.hx Z.hb dX2_lets_8 (by decide) ?_
  refine lv_iand Z.hx Z.hb dX2_lets_9 ?_
  refine lv_iconst (v := 1) Z.hx Z.hb dX2_lets_10 (by decide) ?_
  refine lv_icmp_ne (tgt := 18) Z.hx Z.hb dX2_lets_11 (by decide) (fun c11 => ?_) (fun c11 => ?_)
  · skip
    refine lv_iconst (v := 0) Z.hx Z.hb dX2_lets_18 (by decide) ?_
    exact z_zret Z hr hL (by decide) (⟨by simp [zb, mLet, c11], rfl⟩) (Nat.le_of_ble_eq_true rfl) (Nat.le_of_ble_eq_true rfl) dX2_lets_19
  · skip
    refine lv_iconst (v := 1) Z.hx Z.hb dX2_lets_14 (by decide) ?_
    refine lv_goto (tgt := 19) Z.hx Z.hb dX2_lets_15 (by decide) ?_
    exact z_zret Z hr hL (by decide) (⟨by simp [zb, mLet, c11], rfl⟩) (Nat.le_of_ble_eq_true rfl) (Nat.le_of_ble_eq_true rfl) dX2_lets_19
set_option maxHeartbeats 4000000 in
set_option maxRecDepth 100000 in
theorem m_isAsked (G : zG) (l : Launch) (H : Heap) (o : Nat) (A : Nat → Nat) (v : Nat → Int32) (f : Nat → Nat → Int32) (hM : mRep G H o A v f) (y g d : Int32) : zMp G l yX2_isAsked cX2_isAsked 4 (Option.some Jvm.ClassFile.FieldType.boolean) 1 [.ref o, .int y, .int g, .int d] H (.int (zb (mBt y 0 55 && mBt g 0 3 && mBt d 0 (v 1)))) := by
  refine zM.of (by decide +kernel) (Nat.le_of_ble_eq_true rfl) ?_
  intro p0 e0 s0 m0 args0 below0 meth0 c0 Z hr hH hn ls hl
  have Z : zC G p0 s0 m0 args0 meth0 c0 RX2 cX2_isAsked 4 := Z
  have hl : lv_has ls 4 [(0, .ref o), (1, .int y), (2, .int g), (3, .int d)] := hl
  have hL : zL G [] := zL.nil
  refine lv_iload_n Z.hx Z.hb dX2_isAsked_0 rfl (lv_at hl 1 rfl) ?_
  refine lv_iconst (v := 0) Z.hx Z.hb dX2_isAsked_1 (by decide) ?_
  refine lv_bipush (v := 55) Z.hx Z.hb dX2_isAsked_2 (by decide) ?_
  -- LinkResolverModel.isBetween
  refine z_pcallS (rest := []) (As := [.int y, .int 0, .int 55]) Z (m_isBetween G l H y 0 55) gw_X2_60 gd_X2_60 rfl hl.1 (Nat.le_of_ble_eq_true rfl) rfl dX2_isAsked_4 ⟨⟨Nat.le_of_ble_eq_true rfl, Nat.le_of_ble_eq_true rfl⟩, Nat.le_of_ble_eq_true rfl, Nat.le_of_ble_eq_true rfl⟩ hL (fun locs hL => ?_)
  refine lv_if_eq (tgt := 35) Z.hx Z.hb dX2_isAsked_7 (by decide) (fun c7 => ?_) (fun c7 => ?_)
  · skip
    have c7 : (mBt y 0 55) = false := zb_0.mp c7
    refine lv_iconst (v := 0) Z.hx Z.hb dX2_isAsked_35 (by decide) ?_
    exact z_zret Z hr hL (by decide) (⟨by simp [zb, c7], rfl⟩) (Nat.le_of_ble_eq_true rfl) (Nat.le_of_ble_eq_true rfl) dX2_isAsked_36
  · skip
    have c7 : (mBt y 0 55) = true := zb_n.mp c7
    refine lv_iload_n Z.hx Z.hb dX2_isAsked_10 rfl (lv_at hl 2 rfl) ?_
    refine lv_iconst (v := 0) Z.hx Z.hb dX2_isAsked_11 (by decide) ?_
    refine lv_iconst (v := 3) Z.hx Z.hb dX2_isAsked_12 (by decide) ?_
    -- LinkResolverModel.isBetween
    refine z_pcallS (rest := []) (As := [.int g, .int 0, .int 3]) Z (m_isBetween G l H g 0 3) gw_X2_60 gd_X2_60 rfl hl.1 (Nat.le_of_ble_eq_true rfl) rfl dX2_isAsked_13 ⟨⟨Nat.le_of_ble_eq_true rfl, Nat.le_of_ble_eq_true rfl⟩, Nat.le_of_ble_eq_true rfl, Nat.le_of_ble_eq_true rfl⟩ hL (fun locs hL => ?_)
    refine lv_if_eq (tgt := 35) Z.hx Z.hb dX2_isAsked_16 (by decide) (fun c16 => ?_) (fun c16 => ?_)
    · skip
      have c16 : (mBt g 0 3) = false := zb_0.mp c16
      refine lv_iconst (v := 0) Z.hx Z.hb dX2_isAsked_35 (by decide) ?_
      exact z_zret Z hr hL (by decide) (⟨by simp [zb, c7, c16], rfl⟩) (Nat.le_of_ble_eq_true rfl) (Nat.le_of_ble_eq_true rfl) dX2_isAsked_36
    · skip
      have c16 : (mBt g 0 3) = true := zb_n.mp c16
      refine lv_iload_n Z.hx Z.hb dX2_isAsked_19 rfl (lv_at hl 3 rfl) ?_
      refine lv_iconst (v := 0) Z.hx Z.hb dX2_isAsked_20 (by decide) ?_
      refine lv_aload_n Z.hx Z.hb dX2_isAsked_21 rfl (lv_at hl 0 rfl) ?_
      refine gf_X2_78 Z hM.ob (v := .int (v 1)) rfl dX2_isAsked_22 ?_
      -- LinkResolverModel.isBetween
      refine z_pcallS (rest := []) (As := [.int d, .int 0, .int (v 1)]) Z (m_isBetween G l H d 0 (v 1)) gw_X2_60 gd_X2_60 rfl hl.1 (Nat.le_of_ble_eq_true rfl) rfl dX2_isAsked_25 ⟨⟨Nat.le_of_ble_eq_true rfl, Nat.le_of_ble_eq_true rfl⟩, Nat.le_of_ble_eq_true rfl, Nat.le_of_ble_eq_true rfl⟩ hL (fun locs hL => ?_)
      refine lv_if_eq (tgt := 35) Z.hx Z.hb dX2_isAsked_28 (by decide) (fun c28 => ?_) (fun c28 => ?_)
      · skip
        have c28 : (mBt d 0 (v 1)) = false := zb_0.mp c28
        refine lv_iconst (v := 0) Z.hx Z.hb dX2_isAsked_35 (by decide) ?_
        exact z_zret Z hr hL (by decide) (⟨by simp [zb, c7, c16, c28], rfl⟩) (Nat.le_of_ble_eq_true rfl) (Nat.le_of_ble_eq_true rfl) dX2_isAsked_36
      · skip
        have c28 : (mBt d 0 (v 1)) = true := zb_n.mp c28
        refine lv_iconst (v := 1) Z.hx Z.hb dX2_isAsked_31 (by decide) ?_
        refine lv_goto (tgt := 36) Z.hx Z.hb dX2_isAsked_32 (by decide) ?_
        exact z_zret Z hr hL (by decide) (⟨by simp [zb, c7, c16, c28], rfl⟩) (Nat.le_of_ble_eq_true rfl) (Nat.le_of_ble_eq_true rfl) dX2_isAsked_36
set_option maxHeartbeats 4000000 in
set_option maxRecDepth 100000 in
theorem m_changeOn (G : zG) (l : Launch) (H : Heap) (o : Nat) (A : Nat → Nat) (v : Nat → Int32) (f : Nat → Nat → Int32) (hM : mRep G H o A v f) (N : Nat) (hN : N ≤ 4096) (hN1 : v 11 = nI N) (what day : Int32) (r0 : Option Nat) (hr0 : mCh f what day N = r0) : zMp G l yX2_changeOn cX2_changeOn 4 (Option.some Jvm.ClassFile.FieldType.int) 0 [.ref o, .int what, .int day] H (.int (mChI r0)) := by
  refine zM.of (by decide +kernel) (Nat.le_of_ble_eq_true rfl) ?_
  intro p0 e0 s0 m0 args0 below0 meth0 c0 Z hr hH hn ls hl
  have Z : zC G p0 s0 m0 args0 meth0 c0 RX2 cX2_changeOn 4 := Z
  have hl : lv_has ls 4 [(0, .ref o), (1, .int what), (2, .int day)] := hl
  have hL : zL G [] := zL.nil
  have loop : ∀ n : Nat, n ≤ N → mCh f what day N = mCh f what day n → ∀ (locs : List Loc), zL G locs → ∀ ls : Array Slot, lv_has ls 4 [(3, .int (nI n - 1)), (0, .ref o), (1, .int what), (2, .int day)] → W p0 l e0 (zr 0 0 0) s0 m0 args0 below0 meth0 c0 H locs 0 0 (MQ below0 (zQ (fun r H1 => r = some (.int (mChI r0)) ∧ H1 = H)) args0 s0 0 0 (zA G)) (F0 m0 7 ls []) := by
    intro n
    induction n with
    | zero =>
      intro hn hc locs hL ls hl
      have hz : nI 0 - 1 = -1 := by decide
      refine lv_iload_n Z.hx Z.hb dX2_changeOn_7 rfl (lv_at hl 0 rfl) ?_
      refine lv_if_lt (tgt := 37) Z.hx Z.hb dX2_changeOn_8 (by decide) (fun c8 => ?_) (fun c8 => ?_)
      · skip
        skip
        refine lv_iload_n Z.hx Z.hb dX2_changeOn_37 rfl (lv_at hl 0 rfl) ?_
        exact z_iret Z hr hL (⟨by rw [← hr0, hc, hz]; rfl, rfl⟩) (Nat.le_of_ble_eq_true rfl) (Nat.le_of_ble_eq_true rfl) dX2_changeOn_38
      · exact absurd (by rw [hz]; decide) c8
    | succ n ih =>
      intro hn hc locs hL ls hl
      have hl : lv_has ls 4 [(3, .int (nI n)), (0, .ref o), (1, .int what), (2, .int day)] := z_loc hl (by rw [nI_pred])
      refine lv_iload_n Z.hx Z.hb dX2_changeOn_7 rfl (lv_at hl 0 rfl) ?_
      refine lv_if_lt (tgt := 37) Z.hx Z.hb dX2_changeOn_8 (by decide) (fun c8 => ?_) (fun c8 => ?_)
      · exact absurd c8 (nI_pos (by omega))
      · skip
        refine lv_aload_n Z.hx Z.hb dX2_changeOn_11 rfl (lv_at hl 1 rfl) ?_
        refine gf_X2_32 Z hM.ob (v := .ref (A 12)) rfl dX2_changeOn_12 ?_
        refine lv_iload_n Z.hx Z.hb dX2_changeOn_15 rfl (lv_at hl 0 rfl) ?_
        refine z_ialdN Z hM.a12 (k := n) (by omega) (by decide) dX2_changeOn_16 ?_
        refine lv_iload_n Z.hx Z.hb dX2_changeOn_17 rfl (lv_at hl 2 rfl) ?_
        refine lv_icmp_ne (tgt := 31) Z.hx Z.hb dX2_changeOn_18 (by decide) (fun c18 => ?_) (fun c18 => ?_)
        · skip
          refine lv_iinc (v := (nI n) + (-1)) (lv' := [(3, .int ((nI n) + (-1))), (0, .ref o), (1, .int what), (2, .int day)]) Z.hx Z.hb dX2_changeOn_31 hl (k := 0) rfl rfl (by decide) rfl (fun ls hl => ?_)
          refine lv_goto (tgt := 7) Z.hx Z.hb dX2_changeOn_34 (by decide) ?_
          refine ih (by omega) (hc.trans ?_) _ hL ls (lv_sub (z_loc (l' := [(3, .int (nI n - 1)), (0, .ref o), (1, .int what), (2, .int day)]) hl (by rw [Int32.sub_eq_add_neg])) [0, 1, 2, 3] rfl)
          show (if f 12 n = what ∧ f 13 n ≤ day then some n else mCh f what day n) = _
          exact if_neg (fun z => c18 z.1)
        · skip
          refine lv_aload_n Z.hx Z.hb dX2_changeOn_21 rfl (lv_at hl 1 rfl) ?_
          refine gf_X2_35 Z hM.ob (v := .ref (A 13)) rfl dX2_changeOn_22 ?_
          refine lv_iload_n Z.hx Z.hb dX2_changeOn_25 rfl (lv_at hl 0 rfl) ?_
          refine z_ialdN Z hM.a13 (k := n) (by omega) (by decide) dX2_changeOn_26 ?_
          refine lv_iload_n Z.hx Z.hb dX2_changeOn_27 rfl (lv_at hl 3 rfl) ?_
          refine lv_icmp_le (tgt := 37) Z.hx Z.hb dX2_changeOn_28 (by decide) (fun c28 => ?_) (fun c28 => ?_)
          · skip
            refine lv_iload_n Z.hx Z.hb dX2_changeOn_37 rfl (lv_at hl 0 rfl) ?_
            exact z_iret Z hr hL (⟨by rw [← hr0, hc]; show _ = some (Value.int (mChI (if f 12 n = what ∧ f 13 n ≤ day then some n else mCh f what day n))); rw [if_pos ⟨c18, c28⟩]; rfl, rfl⟩) (Nat.le_of_ble_eq_true rfl) (Nat.le_of_ble_eq_true rfl) dX2_changeOn_38
          · skip
            refine lv_iinc (v := (nI n) + (-1)) (lv' := [(3, .int ((nI n) + (-1))), (0, .ref o), (1, .int what), (2, .int day)]) Z.hx Z.hb dX2_changeOn_31 hl (k := 0) rfl rfl (by decide) rfl (fun ls hl => ?_)
            refine lv_goto (tgt := 7) Z.hx Z.hb dX2_changeOn_34 (by decide) ?_
            refine ih (by omega) (hc.trans ?_) _ hL ls (lv_sub (z_loc (l' := [(3, .int (nI n - 1)), (0, .ref o), (1, .int what), (2, .int day)]) hl (by rw [Int32.sub_eq_add_neg])) [0, 1, 2, 3] rfl)
            show (if f 12 n = what ∧ f 13 n ≤ day then some n else mCh f what day n) = _
            exact if_neg (fun z => c28 z.2)
  refine lv_aload_n Z.hx Z.hb dX2_changeOn_0 rfl (lv_at hl 0 rfl) ?_
  refine gf_X2_71 Z hM.ob (v := .int (v 11)) rfl dX2_changeOn_1 ?_
  refine lv_iconst (v := 1) Z.hx Z.hb dX2_changeOn_4 (by decide) ?_
  refine lv_isub Z.hx Z.hb dX2_changeOn_5 ?_
  refine lv_istore_n (lv' := [(3, .int ((v 11) - 1)), (0, .ref o), (1, .int what), (2, .int day)]) Z.hx Z.hb dX2_changeOn_6 rfl hl (by decide) rfl (fun ls hl => ?_)
  exact loop N (Nat.le_refl _) rfl _ hL ls (lv_sub (z_loc (l' := [(3, .int (nI N - 1)), (0, .ref o), (1, .int what), (2, .int day)]) hl (by rw [hN1])) [0, 1, 2, 3] rfl)
set_option maxHeartbeats 4000000 in
set_option maxRecDepth 100000 in
theorem m_isSo (G : zG) (l : Launch) (H : Heap) (o : Nat) (A : Nat → Nat) (v : Nat → Int32) (f : Nat → Nat → Int32) (hM : mRep G H o A v f) (N : Nat) (hN : N ≤ 4096) (hN1 : v 11 = nI N) (what day : Int32) : zMp G l yX2_isSo cX2_isSo 4 (Option.some Jvm.ClassFile.FieldType.boolean) 1 [.ref o, .int what, .int day] H (.int (zb (mOn f (mCh f what day N)))) := by
  refine zM.of (by decide +kernel) (Nat.le_of_ble_eq_true rfl) ?_
  intro p0 e0 s0 m0 args0 below0 meth0 c0 Z hr hH hn ls hl
  have Z : zC G p0 s0 m0 args0 meth0 c0 RX2 cX2_isSo 4 := Z
  have hl : lv_has ls 4 [(0, .ref o), (1, .int what), (2, .int day)] := hl
  have hL : zL G [] := zL.nil
  cases hk : mCh f what day N with
  | none =>
    refine lv_aload_n Z.hx Z.hb dX2_isSo_0 rfl (lv_at hl 0 rfl) ?_
    refine lv_iload_n Z.hx Z.hb dX2_isSo_1 rfl (lv_at hl 1 rfl) ?_
    refine lv_iload_n Z.hx Z.hb dX2_isSo_2 rfl (lv_at hl 2 rfl) ?_
    -- LinkResolverModel.changeOn
    refine z_pcallV (rest := []) (As := [.int what, .int day]) Z (m_changeOn G l H o A v f hM N hN hN1 what day _ hk) gw_X2_74 gd_X2_74 rfl hM.ob rfl hl.1 (Nat.le_of_ble_eq_true rfl) rfl dX2_isSo_3 ⟨⟨Nat.le_of_ble_eq_true rfl, Nat.le_of_ble_eq_true rfl⟩, Nat.le_of_ble_eq_true rfl, Nat.le_of_ble_eq_true rfl⟩ hL (fun locs hL => ?_)
    refine lv_istore_n (lv' := [(3, .int (mChI none)), (0, .ref o), (1, .int what), (2, .int day)]) Z.hx Z.hb dX2_isSo_6 rfl hl (by decide) rfl (fun ls hl => ?_)
    refine lv_iload_n Z.hx Z.hb dX2_isSo_7 rfl (lv_at hl 0 rfl) ?_
    refine lv_iconst (v := (-1)) Z.hx Z.hb dX2_isSo_8 (by decide) ?_
    refine lv_icmp_eq (tgt := 25) Z.hx Z.hb dX2_isSo_9 (by decide) (fun c9 => ?_) (fun c9 => ?_)
    · skip
      refine lv_iconst (v := 0) Z.hx Z.hb dX2_isSo_25 (by decide) ?_
      exact z_zret Z hr hL (by decide) (⟨by simp [zb, mOn, hk, c9], rfl⟩) (Nat.le_of_ble_eq_true rfl) (Nat.le_of_ble_eq_true rfl) dX2_isSo_26
    · exact absurd rfl c9
  | some k =>
    have hkl := (mCh_lt hk).1
    refine lv_aload_n Z.hx Z.hb dX2_isSo_0 rfl (lv_at hl 0 rfl) ?_
    refine lv_iload_n Z.hx Z.hb dX2_isSo_1 rfl (lv_at hl 1 rfl) ?_
    refine lv_iload_n Z.hx Z.hb dX2_isSo_2 rfl (lv_at hl 2 rfl) ?_
    -- LinkResolverModel.changeOn
    refine z_pcallV (rest := []) (As := [.int what, .int day]) Z (m_changeOn G l H o A v f hM N hN hN1 what day _ hk) gw_X2_74 gd_X2_74 rfl hM.ob rfl hl.1 (Nat.le_of_ble_eq_true rfl) rfl dX2_isSo_3 ⟨⟨Nat.le_of_ble_eq_true rfl, Nat.le_of_ble_eq_true rfl⟩, Nat.le_of_ble_eq_true rfl, Nat.le_of_ble_eq_true rfl⟩ hL (fun locs hL => ?_)
    refine lv_istore_n (lv' := [(3, .int (nI k)), (0, .ref o), (1, .int what), (2, .int day)]) Z.hx Z.hb dX2_isSo_6 rfl hl (by decide) rfl (fun ls hl => ?_)
    refine lv_iload_n Z.hx Z.hb dX2_isSo_7 rfl (lv_at hl 0 rfl) ?_
    refine lv_iconst (v := (-1)) Z.hx Z.hb dX2_isSo_8 (by decide) ?_
    refine lv_icmp_eq (tgt := 25) Z.hx Z.hb dX2_isSo_9 (by decide) (fun c9 => ?_) (fun c9 => ?_)
    · exact absurd c9 (nI_m1 (by omega))
    · skip
      refine lv_aload_n Z.hx Z.hb dX2_isSo_12 rfl (lv_at hl 1 rfl) ?_
      refine gf_X2_38 Z hM.ob (v := .ref (A 14)) rfl dX2_isSo_13 ?_
      refine lv_iload_n Z.hx Z.hb dX2_isSo_16 rfl (lv_at hl 0 rfl) ?_
      refine z_zaldN Z hM.a14 (k := k) (by omega) (by decide) dX2_isSo_17 ?_
      refine lv_if_eq (tgt := 25) Z.hx Z.hb dX2_isSo_18 (by decide) (fun c18 => ?_) (fun c18 => ?_)
      · skip
        refine lv_iconst (v := 0) Z.hx Z.hb dX2_isSo_25 (by decide) ?_
        exact z_zret Z hr hL (by decide) (⟨by simp [zb, mOn, hk, c9, c18], rfl⟩) (Nat.le_of_ble_eq_true rfl) (Nat.le_of_ble_eq_true rfl) dX2_isSo_26
      · skip
        refine lv_iconst (v := 1) Z.hx Z.hb dX2_isSo_21 (by decide) ?_
        refine lv_goto (tgt := 26) Z.hx Z.hb dX2_isSo_22 (by decide) ?_
        exact z_zret Z hr hL (by decide) (⟨by simp [zb, mOn, hk, c9, c18], rfl⟩) (Nat.le_of_ble_eq_true rfl) (Nat.le_of_ble_eq_true rfl) dX2_isSo_26
set_option maxHeartbeats 4000000 in
set_option maxRecDepth 100000 in
theorem m_has (G : zG) (l : Launch) (H : Heap) (o : Nat) (A : Nat → Nat) (v : Nat → Int32) (f : Nat → Nat → Int32) (hM : mRep G H o A v f) (N : Nat) (hN : N ≤ 4096) (hN1 : v 11 = nI N) (p t : Nat) (hp : p < 10) (ht : t < 20) (y sd day : Int32) : zMp G l yX2_has cX2_has 8 (Option.some Jvm.ClassFile.FieldType.boolean) 2 [.ref o, .int (nI p), .int (nI t), .int y, .int sd, .int day] H (.int (zb (mHas f N p t y sd day))) := by
  refine zM.of (by decide +kernel) (Nat.le_of_ble_eq_true rfl) ?_
  intro p0 e0 s0 m0 args0 below0 meth0 c0 Z hr hH hn ls hl
  have Z : zC G p0 s0 m0 args0 meth0 c0 RX2 cX2_has 8 := Z
  have hl : lv_has ls 8 [(0, .ref o), (1, .int (nI p)), (2, .int (nI t)), (3, .int y), (4, .int sd), (5, .int day)] := hl
  have hL : zL G [] := zL.nil
  cases hk : mCh f (mW p t) sd N with
  | none =>
    refine lv_aload_n Z.hx Z.hb dX2_has_0 rfl (lv_at hl 0 rfl) ?_
    refine lv_bipush (v := 21) Z.hx Z.hb dX2_has_1 (by decide) ?_
    refine lv_iload_n Z.hx Z.hb dX2_has_3 rfl (lv_at hl 1 rfl) ?_
    refine lv_imul Z.hx Z.hb dX2_has_4 ?_
    refine lv_iload_n Z.hx Z.hb dX2_has_5 rfl (lv_at hl 2 rfl) ?_
    refine lv_iadd Z.hx Z.hb dX2_has_6 ?_
    refine lv_iload Z.hx Z.hb dX2_has_7 (lv_at hl 4 rfl) ?_
    -- LinkResolverModel.changeOn
    refine z_pcallV (rest := []) (As := [.int ((21 * (nI p)) + (nI t)), .int sd]) Z (m_changeOn G l H o A v f hM N hN hN1 ((21 * (nI p)) + (nI t)) sd _ hk) gw_X2_74 gd_X2_74 rfl hM.ob rfl hl.1 (Nat.le_of_ble_eq_true rfl) rfl dX2_has_9 ⟨⟨Nat.le_of_ble_eq_true rfl, Nat.le_of_ble_eq_true rfl⟩, Nat.le_of_ble_eq_true rfl, Nat.le_of_ble_eq_true rfl⟩ hL (fun locs hL => ?_)
    refine lv_istore (lv' := [(6, .int (mChI none)), (0, .ref o), (1, .int (nI p)), (2, .int (nI t)), (3, .int y), (4, .int sd), (5, .int day)]) Z.hx Z.hb dX2_has_12 hl (by decide) rfl (fun ls hl => ?_)
    refine lv_iload Z.hx Z.hb dX2_has_14 (lv_at hl 0 rfl) ?_
    refine lv_iconst (v := (-1)) Z.hx Z.hb dX2_has_16 (by decide) ?_
    refine lv_icmp_eq (tgt := 73) Z.hx Z.hb dX2_has_17 (by decide) (fun c17 => ?_) (fun c17 => ?_)
    · skip
      refine lv_iconst (v := 0) Z.hx Z.hb dX2_has_73 (by decide) ?_
      refine lv_istore (lv' := [(7, .int 0), (6, .int (mChI none)), (0, .ref o), (1, .int (nI p)), (2, .int (nI t)), (3, .int y), (4, .int sd), (5, .int day)]) Z.hx Z.hb dX2_has_74 hl (by decide) rfl (fun ls hl => ?_)
      refine lv_iload Z.hx Z.hb dX2_has_76 (lv_at hl 0 rfl) ?_
      refine lv_if_eq (tgt := 98) Z.hx Z.hb dX2_has_78 (by decide) (fun c78 => ?_) (fun c78 => ?_)
      · skip
        refine lv_iconst (v := 0) Z.hx Z.hb dX2_has_98 (by decide) ?_
        exact z_zret Z hr hL (by decide) (⟨by simp [zb, mHas, hk, c17, c78], rfl⟩) (Nat.le_of_ble_eq_true rfl) (Nat.le_of_ble_eq_true rfl) dX2_has_99
      · exact absurd (by decide) c78
    · exact absurd rfl c17
  | some k =>
    have hkl := (mCh_lt hk).1
    refine lv_aload_n Z.hx Z.hb dX2_has_0 rfl (lv_at hl 0 rfl) ?_
    refine lv_bipush (v := 21) Z.hx Z.hb dX2_has_1 (by decide) ?_
    refine lv_iload_n Z.hx Z.hb dX2_has_3 rfl (lv_at hl 1 rfl) ?_
    refine lv_imul Z.hx Z.hb dX2_has_4 ?_
    refine lv_iload_n Z.hx Z.hb dX2_has_5 rfl (lv_at hl 2 rfl) ?_
    refine lv_iadd Z.hx Z.hb dX2_has_6 ?_
    refine lv_iload Z.hx Z.hb dX2_has_7 (lv_at hl 4 rfl) ?_
    -- LinkResolverModel.changeOn
    refine z_pcallV (rest := []) (As := [.int ((21 * (nI p)) + (nI t)), .int sd]) Z (m_changeOn G l H o A v f hM N hN hN1 ((21 * (nI p)) + (nI t)) sd _ hk) gw_X2_74 gd_X2_74 rfl hM.ob rfl hl.1 (Nat.le_of_ble_eq_true rfl) rfl dX2_has_9 ⟨⟨Nat.le_of_ble_eq_true rfl, Nat.le_of_ble_eq_true rfl⟩, Nat.le_of_ble_eq_true rfl, Nat.le_of_ble_eq_true rfl⟩ hL (fun locs hL => ?_)
    refine lv_istore (lv' := [(6, .int (nI k)), (0, .ref o), (1, .int (nI p)), (2, .int (nI t)), (3, .int y), (4, .int sd), (5, .int day)]) Z.hx Z.hb dX2_has_12 hl (by decide) rfl (fun ls hl => ?_)
    refine lv_iload Z.hx Z.hb dX2_has_14 (lv_at hl 0 rfl) ?_
    refine lv_iconst (v := (-1)) Z.hx Z.hb dX2_has_16 (by decide) ?_
    refine lv_icmp_eq (tgt := 73) Z.hx Z.hb dX2_has_17 (by decide) (fun c17 => ?_) (fun c17 => ?_)
    · exact absurd c17 (nI_m1 (by omega))
    · skip
      refine lv_aload_n Z.hx Z.hb dX2_has_20 rfl (lv_at hl 1 rfl) ?_
      refine gf_X2_38 Z hM.ob (v := .ref (A 14)) rfl dX2_has_21 ?_
      refine lv_iload Z.hx Z.hb dX2_has_24 (lv_at hl 0 rfl) ?_
      refine z_zaldN Z hM.a14 (k := k) (by omega) (by decide) dX2_has_26 ?_
      refine lv_if_eq (tgt := 73) Z.hx Z.hb dX2_has_27 (by decide) (fun c27 => ?_) (fun c27 => ?_)
      · skip
        refine lv_iconst (v := 0) Z.hx Z.hb dX2_has_73 (by decide) ?_
        refine lv_istore (lv' := [(7, .int 0), (6, .int (nI k)), (0, .ref o), (1, .int (nI p)), (2, .int (nI t)), (3, .int y), (4, .int sd), (5, .int day)]) Z.hx Z.hb dX2_has_74 hl (by decide) rfl (fun ls hl => ?_)
        refine lv_iload Z.hx Z.hb dX2_has_76 (lv_at hl 0 rfl) ?_
        refine lv_if_eq (tgt := 98) Z.hx Z.hb dX2_has_78 (by decide) (fun c78 => ?_) (fun c78 => ?_)
        · skip
          refine lv_iconst (v := 0) Z.hx Z.hb dX2_has_98 (by decide) ?_
          exact z_zret Z hr hL (by decide) (⟨by simp [zb, mHas, hk, c17, c27, c78], rfl⟩) (Nat.le_of_ble_eq_true rfl) (Nat.le_of_ble_eq_true rfl) dX2_has_99
        · exact absurd (by decide) c78
      · skip
        refine lv_iload_n Z.hx Z.hb dX2_has_30 rfl (lv_at hl 4 rfl) ?_
        refine lv_aload_n Z.hx Z.hb dX2_has_31 rfl (lv_at hl 1 rfl) ?_
        refine gf_X2_41 Z hM.ob (v := .ref (A 15)) rfl dX2_has_32 ?_
        refine lv_iload Z.hx Z.hb dX2_has_35 (lv_at hl 0 rfl) ?_
        refine z_ialdN Z hM.a15 (k := k) (by omega) (by decide) dX2_has_37 ?_
        refine lv_aload_n Z.hx Z.hb dX2_has_38 rfl (lv_at hl 1 rfl) ?_
        refine gf_X2_44 Z hM.ob (v := .ref (A 16)) rfl dX2_has_39 ?_
        refine lv_iload Z.hx Z.hb dX2_has_42 (lv_at hl 0 rfl) ?_
        refine z_ialdN Z hM.a16 (k := k) (by omega) (by decide) dX2_has_44 ?_
        -- LinkResolverModel.isBetween
        refine z_pcallS (rest := []) (As := [.int y, .int (f 15 k), .int (f 16 k)]) Z (m_isBetween G l H y (f 15 k) (f 16 k)) gw_X2_60 gd_X2_60 rfl hl.1 (Nat.le_of_ble_eq_true rfl) rfl dX2_has_45 ⟨⟨Nat.le_of_ble_eq_true rfl, Nat.le_of_ble_eq_true rfl⟩, Nat.le_of_ble_eq_true rfl, Nat.le_of_ble_eq_true rfl⟩ hL (fun locs hL => ?_)
        refine lv_if_eq (tgt := 73) Z.hx Z.hb dX2_has_48 (by decide) (fun c48 => ?_) (fun c48 => ?_)
        · skip
          have c48 : (mBt y (f 15 k) (f 16 k)) = false := zb_0.mp c48
          refine lv_iconst (v := 0) Z.hx Z.hb dX2_has_73 (by decide) ?_
          refine lv_istore (lv' := [(7, .int 0), (6, .int (nI k)), (0, .ref o), (1, .int (nI p)), (2, .int (nI t)), (3, .int y), (4, .int sd), (5, .int day)]) Z.hx Z.hb dX2_has_74 hl (by decide) rfl (fun ls hl => ?_)
          refine lv_iload Z.hx Z.hb dX2_has_76 (lv_at hl 0 rfl) ?_
          refine lv_if_eq (tgt := 98) Z.hx Z.hb dX2_has_78 (by decide) (fun c78 => ?_) (fun c78 => ?_)
          · skip
            refine lv_iconst (v := 0) Z.hx Z.hb dX2_has_98 (by decide) ?_
            exact z_zret Z hr hL (by decide) (⟨by simp [zb, mHas, hk, c17, c27, c48, c78], rfl⟩) (Nat.le_of_ble_eq_true rfl) (Nat.le_of_ble_eq_true rfl) dX2_has_99
          · exact absurd (by decide) c78
        · skip
          have c48 : (mBt y (f 15 k) (f 16 k)) = true := zb_n.mp c48
          refine lv_iload_n Z.hx Z.hb dX2_has_51 rfl (lv_at hl 4 rfl) ?_
          refine lv_iload Z.hx Z.hb dX2_has_52 (lv_at hl 6 rfl) ?_
          refine lv_sipush (v := 360) Z.hx Z.hb dX2_has_54 (by decide) ?_
          refine lv_idiv Z.hx Z.hb dX2_has_57 (by decide) ?_
          refine lv_aload_n Z.hx Z.hb dX2_has_58 rfl (lv_at hl 1 rfl) ?_
          refine gf_X2_47 Z hM.ob (v := .ref (A 17)) rfl dX2_has_59 ?_
          refine lv_iload Z.hx Z.hb dX2_has_62 (lv_at hl 0 rfl) ?_
          refine z_ialdN Z hM.a17 (k := k) (by omega) (by decide) dX2_has_64 ?_
          refine lv_isub Z.hx Z.hb dX2_has_65 ?_
          refine lv_icmp_gt (tgt := 73) Z.hx Z.hb dX2_has_66 (by decide) (fun c66 => ?_) (fun c66 => ?_)
          · skip
            refine lv_iconst (v := 0) Z.hx Z.hb dX2_has_73 (by decide) ?_
            refine lv_istore (lv' := [(7, .int 0), (6, .int (nI k)), (0, .ref o), (1, .int (nI p)), (2, .int (nI t)), (3, .int y), (4, .int sd), (5, .int day)]) Z.hx Z.hb dX2_has_74 hl (by decide) rfl (fun ls hl => ?_)
            refine lv_iload Z.hx Z.hb dX2_has_76 (lv_at hl 0 rfl) ?_
            refine lv_if_eq (tgt := 98) Z.hx Z.hb dX2_has_78 (by decide) (fun c78 => ?_) (fun c78 => ?_)
            · skip
              refine lv_iconst (v := 0) Z.hx Z.hb dX2_has_98 (by decide) ?_
              exact z_zret Z hr hL (by decide) (⟨by simp [zb, mHas, hk, c17, c27, c48, c66, c78], rfl⟩) (Nat.le_of_ble_eq_true rfl) (Nat.le_of_ble_eq_true rfl) dX2_has_99
            · exact absurd (by decide) c78
          · skip
            refine lv_iconst (v := 1) Z.hx Z.hb dX2_has_69 (by decide) ?_
            refine lv_goto (tgt := 74) Z.hx Z.hb dX2_has_70 (by decide) ?_
            refine lv_istore (lv' := [(7, .int 1), (6, .int (nI k)), (0, .ref o), (1, .int (nI p)), (2, .int (nI t)), (3, .int y), (4, .int sd), (5, .int day)]) Z.hx Z.hb dX2_has_74 hl (by decide) rfl (fun ls hl => ?_)
            refine lv_iload Z.hx Z.hb dX2_has_76 (lv_at hl 0 rfl) ?_
            refine lv_if_eq (tgt := 98) Z.hx Z.hb dX2_has_78 (by decide) (fun c78 => ?_) (fun c78 => ?_)
            · exact absurd c78 (by decide)
            · skip
              refine lv_aload_n Z.hx Z.hb dX2_has_81 rfl (lv_at hl 2 rfl) ?_
              refine lv_iload_n Z.hx Z.hb dX2_has_82 rfl (lv_at hl 3 rfl) ?_
              -- LinkResolverModel.subscription
              refine z_pcallS (rest := [.ref o]) (As := [.int (nI p)]) Z (m_subscription G l H (nI p)) gw_X2_84 gd_X2_84 rfl hl.1 (Nat.le_of_ble_eq_true rfl) rfl dX2_has_83 ⟨⟨Nat.le_of_ble_eq_true rfl, Nat.le_of_ble_eq_true rfl⟩, Nat.le_of_ble_eq_true rfl, Nat.le_of_ble_eq_true rfl⟩ hL (fun locs hL => ?_)
              refine lv_iload Z.hx Z.hb dX2_has_86 (lv_at hl 6 rfl) ?_
              -- LinkResolverModel.isSo
              refine z_pcallV (rest := []) (As := [.int (21 * (nI p) + 20), .int sd]) Z (m_isSo G l H o A v f hM N hN hN1 (21 * (nI p) + 20) sd) gw_X2_92 gd_X2_92 rfl hM.ob rfl hl.1 (Nat.le_of_ble_eq_true rfl) rfl dX2_has_88 ⟨⟨Nat.le_of_ble_eq_true rfl, Nat.le_of_ble_eq_true rfl⟩, Nat.le_of_ble_eq_true rfl, Nat.le_of_ble_eq_true rfl⟩ hL (fun locs hL => ?_)
              refine lv_if_eq (tgt := 98) Z.hx Z.hb dX2_has_91 (by decide) (fun c91 => ?_) (fun c91 => ?_)
              · skip
                have c91 : (mOn f (mCh f (21 * (nI p) + 20) sd N)) = false := zb_0.mp c91
                refine lv_iconst (v := 0) Z.hx Z.hb dX2_has_98 (by decide) ?_
                exact z_zret Z hr hL (by decide) (⟨by simp [zb, mHas, hk, c17, c27, c48, c66, c78, c91], rfl⟩) (Nat.le_of_ble_eq_true rfl) (Nat.le_of_ble_eq_true rfl) dX2_has_99
              · skip
                have c91 : (mOn f (mCh f (21 * (nI p) + 20) sd N)) = true := zb_n.mp c91
                refine lv_iconst (v := 1) Z.hx Z.hb dX2_has_94 (by decide) ?_
                refine lv_goto (tgt := 99) Z.hx Z.hb dX2_has_95 (by decide) ?_
                exact z_zret Z hr hL (by decide) (⟨by simp [zb, mHas, hk, c17, c27, c48, c66, c78, c91], rfl⟩) (Nat.le_of_ble_eq_true rfl) (Nat.le_of_ble_eq_true rfl) dX2_has_99
set_option maxHeartbeats 4000000 in
set_option maxRecDepth 100000 in
theorem m_isKept (G : zG) (l : Launch) (H : Heap) (o : Nat) (A : Nat → Nat) (v : Nat → Int32) (f : Nat → Nat → Int32) (hM : mRep G H o A v f) (N : Nat) (hN : N ≤ 4096) (hN1 : v 11 = nI N) (p t : Nat) (hp : p < 10) (ht : t < 20) (y day : Int32) : zMp G l yX2_isKept cX2_isKept 6 (Option.some Jvm.ClassFile.FieldType.boolean) 3 [.ref o, .int (nI p), .int (nI t), .int y, .int day] H (.int (zb (mKept f N p t y day))) := by
  refine zM.of (by decide +kernel) (Nat.le_of_ble_eq_true rfl) ?_
  intro p0 e0 s0 m0 args0 below0 meth0 c0 Z hr hH hn ls hl
  have Z : zC G p0 s0 m0 args0 meth0 c0 RX2 cX2_isKept 6 := Z
  have hl : lv_has ls 6 [(0, .ref o), (1, .int (nI p)), (2, .int (nI t)), (3, .int y), (4, .int day)] := hl
  have hL : zL G [] := zL.nil
  refine lv_sipush (v := 360) Z.hx Z.hb dX2_isKept_0 (by decide) ?_
  refine lv_iload_n Z.hx Z.hb dX2_isKept_3 rfl (lv_at hl 3 rfl) ?_
  refine lv_imul Z.hx Z.hb dX2_isKept_4 ?_
  refine lv_sipush (v := 360) Z.hx Z.hb dX2_isKept_5 (by decide) ?_
  refine lv_iadd Z.hx Z.hb dX2_isKept_8 ?_
  refine lv_iconst (v := 1) Z.hx Z.hb dX2_isKept_9 (by decide) ?_
  refine lv_isub Z.hx Z.hb dX2_isKept_10 ?_
  refine lv_istore (lv' := [(5, .int (((360 * y) + 360) - 1)), (0, .ref o), (1, .int (nI p)), (2, .int (nI t)), (3, .int y), (4, .int day)]) Z.hx Z.hb dX2_isKept_11 hl (by decide) rfl (fun ls hl => ?_)
  refine lv_aload_n Z.hx Z.hb dX2_isKept_13 rfl (lv_at hl 1 rfl) ?_
  refine gf_X2_25 Z hM.ob (v := .ref (A 9)) rfl dX2_isKept_14 ?_
  refine lv_iload_n Z.hx Z.hb dX2_isKept_17 rfl (lv_at hl 2 rfl) ?_
  refine z_zaldN Z hM.a9 (k := p) hp (by decide) dX2_isKept_18 ?_
  refine lv_if_eq (tgt := 47) Z.hx Z.hb dX2_isKept_19 (by decide) (fun c19 => ?_) (fun c19 => ?_)
  · skip
    refine lv_iconst (v := 0) Z.hx Z.hb dX2_isKept_47 (by decide) ?_
    exact z_zret Z hr hL (by decide) (⟨by simp [zb, mKept, mLd, c19], rfl⟩) (Nat.le_of_ble_eq_true rfl) (Nat.le_of_ble_eq_true rfl) dX2_isKept_48
  · skip
    refine lv_iload Z.hx Z.hb dX2_isKept_22 (lv_at hl 0 rfl) ?_
    refine lv_iload Z.hx Z.hb dX2_isKept_24 (lv_at hl 5 rfl) ?_
    refine lv_icmp_ge (tgt := 47) Z.hx Z.hb dX2_isKept_26 (by decide) (fun c26 => ?_) (fun c26 => ?_)
    · skip
      refine lv_iconst (v := 0) Z.hx Z.hb dX2_isKept_47 (by decide) ?_
      exact z_zret Z hr hL (by decide) (⟨by simp [zb, mKept, mLd, c19, c26], rfl⟩) (Nat.le_of_ble_eq_true rfl) (Nat.le_of_ble_eq_true rfl) dX2_isKept_48
    · skip
      refine lv_aload_n Z.hx Z.hb dX2_isKept_29 rfl (lv_at hl 1 rfl) ?_
      refine lv_iload_n Z.hx Z.hb dX2_isKept_30 rfl (lv_at hl 2 rfl) ?_
      refine lv_iload_n Z.hx Z.hb dX2_isKept_31 rfl (lv_at hl 3 rfl) ?_
      refine lv_iload_n Z.hx Z.hb dX2_isKept_32 rfl (lv_at hl 4 rfl) ?_
      refine lv_iload Z.hx Z.hb dX2_isKept_33 (lv_at hl 0 rfl) ?_
      refine lv_iload Z.hx Z.hb dX2_isKept_35 (lv_at hl 5 rfl) ?_
      -- LinkResolverModel.has
      refine z_pcallV (rest := []) (As := [.int (nI p), .int (nI t), .int y, .int (((360 * y) + 360) - 1), .int day]) Z (m_has G l H o A v f hM N hN hN1 p t hp ht y (((360 * y) + 360) - 1) day) gw_X2_96 gd_X2_96 rfl hM.ob rfl hl.1 (Nat.le_of_ble_eq_true rfl) rfl dX2_isKept_37 ⟨⟨Nat.le_of_ble_eq_true rfl, Nat.le_of_ble_eq_true rfl⟩, Nat.le_of_ble_eq_true rfl, Nat.le_of_ble_eq_true rfl⟩ hL (fun locs hL => ?_)
      refine lv_if_eq (tgt := 47) Z.hx Z.hb dX2_isKept_40 (by decide) (fun c40 => ?_) (fun c40 => ?_)
      · skip
        have c40 : (mHas f N p t y (((360 * y) + 360) - 1) day) = false := zb_0.mp c40
        refine lv_iconst (v := 0) Z.hx Z.hb dX2_isKept_47 (by decide) ?_
        exact z_zret Z hr hL (by decide) (⟨by simp [zb, mKept, mLd, c19, c26, c40], rfl⟩) (Nat.le_of_ble_eq_true rfl) (Nat.le_of_ble_eq_true rfl) dX2_isKept_48
      · skip
        have c40 : (mHas f N p t y (((360 * y) + 360) - 1) day) = true := zb_n.mp c40
        refine lv_iconst (v := 1) Z.hx Z.hb dX2_isKept_43 (by decide) ?_
        refine lv_goto (tgt := 48) Z.hx Z.hb dX2_isKept_44 (by decide) ?_
        exact z_zret Z hr hL (by decide) (⟨by simp [zb, mKept, mLd, c19, c26, c40], rfl⟩) (Nat.le_of_ble_eq_true rfl) (Nat.le_of_ble_eq_true rfl) dX2_isKept_48
set_option maxHeartbeats 4000000 in
set_option maxRecDepth 100000 in
theorem m_isCovered (G : zG) (l : Launch) (H : Heap) (o : Nat) (A : Nat → Nat) (v : Nat → Int32) (f : Nat → Nat → Int32) (hM : mRep G H o A v f) (N : Nat) (hN : N ≤ 4096) (hN1 : v 11 = nI N) (p t : Nat) (hp : p < 10) (ht : t < 20) (y day : Int32) : zMp G l yX2_isCovered cX2_isCovered 5 (Option.some Jvm.ClassFile.FieldType.boolean) 4 [.ref o, .int (nI p), .int (nI t), .int y, .int day] H (.int (zb (mCov f N p t y day))) := by
  refine zM.of (by decide +kernel) (Nat.le_of_ble_eq_true rfl) ?_
  intro p0 e0 s0 m0 args0 below0 meth0 c0 Z hr hH hn ls hl
  have Z : zC G p0 s0 m0 args0 meth0 c0 RX2 cX2_isCovered 5 := Z
  have hl : lv_has ls 5 [(0, .ref o), (1, .int (nI p)), (2, .int (nI t)), (3, .int y), (4, .int day)] := hl
  have hL : zL G [] := zL.nil
  refine lv_aload_n Z.hx Z.hb dX2_isCovered_0 rfl (lv_at hl 0 rfl) ?_
  refine lv_iload_n Z.hx Z.hb dX2_isCovered_1 rfl (lv_at hl 1 rfl) ?_
  refine lv_iload_n Z.hx Z.hb dX2_isCovered_2 rfl (lv_at hl 2 rfl) ?_
  refine lv_iload_n Z.hx Z.hb dX2_isCovered_3 rfl (lv_at hl 3 rfl) ?_
  refine lv_iload Z.hx Z.hb dX2_isCovered_4 (lv_at hl 4 rfl) ?_
  refine lv_iload Z.hx Z.hb dX2_isCovered_6 (lv_at hl 4 rfl) ?_
  -- LinkResolverModel.has
  refine z_pcallV (rest := []) (As := [.int (nI p), .int (nI t), .int y, .int day, .int day]) Z (m_has G l H o A v f hM N hN hN1 p t hp ht y day day) gw_X2_96 gd_X2_96 rfl hM.ob rfl hl.1 (Nat.le_of_ble_eq_true rfl) rfl dX2_isCovered_8 ⟨⟨Nat.le_of_ble_eq_true rfl, Nat.le_of_ble_eq_true rfl⟩, Nat.le_of_ble_eq_true rfl, Nat.le_of_ble_eq_true rfl⟩ hL (fun locs hL => ?_)
  refine lv_if_ne (tgt := 26) Z.hx Z.hb dX2_isCovered_11 (by decide) (fun c11 => ?_) (fun c11 => ?_)
  · skip
    have c11 : (mHas f N p t y day day) = true := zb_n.mp c11
    refine lv_iconst (v := 1) Z.hx Z.hb dX2_isCovered_26 (by decide) ?_
    refine lv_goto (tgt := 31) Z.hx Z.hb dX2_isCovered_27 (by decide) ?_
    exact z_zret Z hr hL (by decide) (⟨by simp [zb, mCov, c11], rfl⟩) (Nat.le_of_ble_eq_true rfl) (Nat.le_of_ble_eq_true rfl) dX2_isCovered_31
  · skip
    have c11 : (mHas f N p t y day day) = false := zb_0.mp c11
    refine lv_aload_n Z.hx Z.hb dX2_isCovered_14 rfl (lv_at hl 0 rfl) ?_
    refine lv_iload_n Z.hx Z.hb dX2_isCovered_15 rfl (lv_at hl 1 rfl) ?_
    refine lv_iload_n Z.hx Z.hb dX2_isCovered_16 rfl (lv_at hl 2 rfl) ?_
    refine lv_iload_n Z.hx Z.hb dX2_isCovered_17 rfl (lv_at hl 3 rfl) ?_
    refine lv_iload Z.hx Z.hb dX2_isCovered_18 (lv_at hl 4 rfl) ?_
    -- LinkResolverModel.isKept
    refine z_pcallV (rest := []) (As := [.int (nI p), .int (nI t), .int y, .int day]) Z (m_isKept G l H o A v f hM N hN hN1 p t hp ht y day) gw_X2_100 gd_X2_100 rfl hM.ob rfl hl.1 (Nat.le_of_ble_eq_true rfl) rfl dX2_isCovered_20 ⟨⟨Nat.le_of_ble_eq_true rfl, Nat.le_of_ble_eq_true rfl⟩, Nat.le_of_ble_eq_true rfl, Nat.le_of_ble_eq_true rfl⟩ hL (fun locs hL => ?_)
    refine lv_if_eq (tgt := 30) Z.hx Z.hb dX2_isCovered_23 (by decide) (fun c23 => ?_) (fun c23 => ?_)
    · skip
      have c23 : (mKept f N p t y day) = false := zb_0.mp c23
      refine lv_iconst (v := 0) Z.hx Z.hb dX2_isCovered_30 (by decide) ?_
      exact z_zret Z hr hL (by decide) (⟨by simp [zb, mCov, c11, c23], rfl⟩) (Nat.le_of_ble_eq_true rfl) (Nat.le_of_ble_eq_true rfl) dX2_isCovered_31
    · skip
      have c23 : (mKept f N p t y day) = true := zb_n.mp c23
      refine lv_iconst (v := 1) Z.hx Z.hb dX2_isCovered_26 (by decide) ?_
      refine lv_goto (tgt := 31) Z.hx Z.hb dX2_isCovered_27 (by decide) ?_
      exact z_zret Z hr hL (by decide) (⟨by simp [zb, mCov, c11, c23], rfl⟩) (Nat.le_of_ble_eq_true rfl) (Nat.le_of_ble_eq_true rfl) dX2_isCovered_31
theorem zCnt_t {w : Nat → Bool} {k : Nat} (h : w k = true) : nI (zCnt w (k + 1)) = nI (zCnt w k) + 1 := by rw [nI_1]; unfold zCnt; rw [if_pos h]; cases k <;> rfl
theorem zCnt_f {w : Nat → Bool} {k : Nat} (h : w k = false) : nI (zCnt w (k + 1)) = nI (zCnt w k) + 0 := by
  have h0 : ∀ x : Int32, x + 0 = x := fun x => Int32.add_zero x
  rw [h0]
  have h1 : zCnt w (k + 1) = zCnt w k := by
    show zCnt w k + (if w k then 1 else 0) = zCnt w k
    rw [h]
    rfl
  rw [h1]
def zOr (w : Nat → Bool) (g : Nat → Int32) : Nat → Int32
  | 0 => 0
  | n + 1 => zOr w g n ||| (if w n then g n else 0)
set_option maxHeartbeats 4000000 in
set_option maxRecDepth 100000 in
theorem m_waysTo (G : zG) (l : Launch) (H : Heap) (o : Nat) (A : Nat → Nat) (v : Nat → Int32) (f : Nat → Nat → Int32) (hM : mRep G H o A v f) (N : Nat) (hN : N ≤ 4096) (hN1 : v 11 = nI N) (nP : Nat) (hnP : nP ≤ 10) (hv3 : v 3 = nI nP) (t : Nat) (ht : t < 20) (y g day : Int32) : zMp G l yX2_waysTo cX2_waysTo 7 (Option.some Jvm.ClassFile.FieldType.int) 5 [.ref o, .int (nI t), .int y, .int g, .int day] H (.int (nI (zCnt (fun p => mWay f N p t y g day) nP))) := by
  refine zM.of (by decide +kernel) (Nat.le_of_ble_eq_true rfl) ?_
  intro p0 e0 s0 m0 args0 below0 meth0 c0 Z hr hH hn ls hl
  have Z : zC G p0 s0 m0 args0 meth0 c0 RX2 cX2_waysTo 7 := Z
  have hl : lv_has ls 7 [(0, .ref o), (1, .int (nI t)), (2, .int y), (3, .int g), (4, .int day)] := hl
  have hL : zL G [] := zL.nil
  have loop : ∀ n k : Nat, k + n = nP → ∀ (locs : List Loc), zL G locs → ∀ ls : Array Slot, lv_has ls 7 [(6, .int (nI k)), (5, .int (nI (zCnt (fun p => mWay f N p t y g day) k))), (0, .ref o), (1, .int (nI t)), (2, .int y), (3, .int g), (4, .int day)] → W p0 l e0 (zr 5 0 0) s0 m0 args0 below0 meth0 c0 H locs 0 0 (MQ below0 (zQ (fun r H1 => r = some (.int (nI (zCnt (fun p => mWay f N p t y g day) nP))) ∧ H1 = H)) args0 s0 0 0 (zA G)) (F0 m0 6 ls []) := by
    intro n
    induction n with
    | zero =>
      intro k hkn locs hL ls hl
      have hke : k = nP := hkn
      subst hke
      refine lv_iload Z.hx Z.hb dX2_waysTo_6 (lv_at hl 0 rfl) ?_
      refine lv_aload_n Z.hx Z.hb dX2_waysTo_8 rfl (lv_at hl 2 rfl) ?_
      refine gf_X2_57 Z hM.ob (v := .int (v 3)) rfl dX2_waysTo_9 ?_
      refine lv_icmp_ge (tgt := 54) Z.hx Z.hb dX2_waysTo_12 (by decide) (fun c12 => ?_) (fun c12 => ?_)
      · skip
        refine lv_iload Z.hx Z.hb dX2_waysTo_54 (lv_at hl 1 rfl) ?_
        exact z_iret Z hr hL (⟨rfl, rfl⟩) (Nat.le_of_ble_eq_true rfl) (Nat.le_of_ble_eq_true rfl) dX2_waysTo_56
      · exact absurd (by rw [hv3]; exact Int32.le_refl _) c12
    | succ n ih =>
      intro k hkn locs hL ls hl
      have hkb : k < nP := by omega
      refine lv_iload Z.hx Z.hb dX2_waysTo_6 (lv_at hl 0 rfl) ?_
      refine lv_aload_n Z.hx Z.hb dX2_waysTo_8 rfl (lv_at hl 2 rfl) ?_
      refine gf_X2_57 Z hM.ob (v := .int (v 3)) rfl dX2_waysTo_9 ?_
      refine lv_icmp_ge (tgt := 54) Z.hx Z.hb dX2_waysTo_12 (by decide) (fun c12 => ?_) (fun c12 => ?_)
      · exact absurd (by rw [hv3] at c12; exact c12) (nI_ge hkb (by omega))
      · skip
        refine lv_iload Z.hx Z.hb dX2_waysTo_15 (lv_at hl 1 rfl) ?_
        refine lv_aload_n Z.hx Z.hb dX2_waysTo_17 rfl (lv_at hl 2 rfl) ?_
        refine lv_iload Z.hx Z.hb dX2_waysTo_18 (lv_at hl 0 rfl) ?_
        refine lv_iload_n Z.hx Z.hb dX2_waysTo_20 rfl (lv_at hl 5 rfl) ?_
        -- LinkResolverModel.lets
        refine z_pcallV (rest := [.int (nI (zCnt (fun p => mWay f N p t y g day) k))]) (As := [.int (nI k), .int g]) Z (m_lets G l H o A v f hM k (by omega) g) gw_X2_107 gd_X2_107 rfl hM.ob rfl hl.1 (Nat.le_of_ble_eq_true rfl) rfl dX2_waysTo_21 ⟨⟨Nat.le_of_ble_eq_true rfl, Nat.le_of_ble_eq_true rfl⟩, Nat.le_of_ble_eq_true rfl, Nat.le_of_ble_eq_true rfl⟩ hL (fun locs hL => ?_)
        refine lv_if_eq (tgt := 44) Z.hx Z.hb dX2_waysTo_24 (by decide) (fun c24 => ?_) (fun c24 => ?_)
        · skip
          have c24 : (mLet f k g) = false := zb_0.mp c24
          refine lv_iconst (v := 0) Z.hx Z.hb dX2_waysTo_44 (by decide) ?_
          refine lv_iadd Z.hx Z.hb dX2_waysTo_45 ?_
          refine lv_istore (lv' := [(5, .int ((nI (zCnt (fun p => mWay f N p t y g day) k)) + 0)), (6, .int (nI k)), (0, .ref o), (1, .int (nI t)), (2, .int y), (3, .int g), (4, .int day)]) Z.hx Z.hb dX2_waysTo_46 hl (by decide) rfl (fun ls hl => ?_)
          refine lv_iinc (v := (nI k) + 1) (lv' := [(6, .int ((nI k) + 1)), (5, .int ((nI (zCnt (fun p => mWay f N p t y g day) k)) + 0)), (0, .ref o), (1, .int (nI t)), (2, .int y), (3, .int g), (4, .int day)]) Z.hx Z.hb dX2_waysTo_48 hl (k := 1) rfl rfl (by decide) rfl (fun ls hl => ?_)
          refine lv_goto (tgt := 6) Z.hx Z.hb dX2_waysTo_51 (by decide) ?_
          exact ih (k + 1) (by omega) _ hL ls (lv_sub (z_loc (l' := [(6, .int (nI (k + 1))), (5, .int (nI (zCnt (fun p => mWay f N p t y g day) (k + 1)))), (0, .ref o), (1, .int (nI t)), (2, .int y), (3, .int g), (4, .int day)]) hl (by rw [zCnt_f (by simp [mWay, c24]), nI_succ])) [0, 1, 2, 3, 4, 5, 6] rfl)
        · skip
          have c24 : (mLet f k g) = true := zb_n.mp c24
          refine lv_aload_n Z.hx Z.hb dX2_waysTo_27 rfl (lv_at hl 2 rfl) ?_
          refine lv_iload Z.hx Z.hb dX2_waysTo_28 (lv_at hl 0 rfl) ?_
          refine lv_iload_n Z.hx Z.hb dX2_waysTo_30 rfl (lv_at hl 3 rfl) ?_
          refine lv_iload_n Z.hx Z.hb dX2_waysTo_31 rfl (lv_at hl 4 rfl) ?_
          refine lv_iload Z.hx Z.hb dX2_waysTo_32 (lv_at hl 6 rfl) ?_
          -- LinkResolverModel.isCovered
          refine z_pcallV (rest := [.int (nI (zCnt (fun p => mWay f N p t y g day) k))]) (As := [.int (nI k), .int (nI t), .int y, .int day]) Z (m_isCovered G l H o A v f hM N hN hN1 k t (by omega) ht y day) gw_X2_110 gd_X2_110 rfl hM.ob rfl hl.1 (Nat.le_of_ble_eq_true rfl) rfl dX2_waysTo_34 ⟨⟨Nat.le_of_ble_eq_true rfl, Nat.le_of_ble_eq_true rfl⟩, Nat.le_of_ble_eq_true rfl, Nat.le_of_ble_eq_true rfl⟩ hL (fun locs hL => ?_)
          refine lv_if_eq (tgt := 44) Z.hx Z.hb dX2_waysTo_37 (by decide) (fun c37 => ?_) (fun c37 => ?_)
          · skip
            have c37 : (mCov f N k t y day) = false := zb_0.mp c37
            refine lv_iconst (v := 0) Z.hx Z.hb dX2_waysTo_44 (by decide) ?_
            refine lv_iadd Z.hx Z.hb dX2_waysTo_45 ?_
            refine lv_istore (lv' := [(5, .int ((nI (zCnt (fun p => mWay f N p t y g day) k)) + 0)), (6, .int (nI k)), (0, .ref o), (1, .int (nI t)), (2, .int y), (3, .int g), (4, .int day)]) Z.hx Z.hb dX2_waysTo_46 hl (by decide) rfl (fun ls hl => ?_)
            refine lv_iinc (v := (nI k) + 1) (lv' := [(6, .int ((nI k) + 1)), (5, .int ((nI (zCnt (fun p => mWay f N p t y g day) k)) + 0)), (0, .ref o), (1, .int (nI t)), (2, .int y), (3, .int g), (4, .int day)]) Z.hx Z.hb dX2_waysTo_48 hl (k := 1) rfl rfl (by decide) rfl (fun ls hl => ?_)
            refine lv_goto (tgt := 6) Z.hx Z.hb dX2_waysTo_51 (by decide) ?_
            exact ih (k + 1) (by omega) _ hL ls (lv_sub (z_loc (l' := [(6, .int (nI (k + 1))), (5, .int (nI (zCnt (fun p => mWay f N p t y g day) (k + 1)))), (0, .ref o), (1, .int (nI t)), (2, .int y), (3, .int g), (4, .int day)]) hl (by rw [zCnt_f (by simp [mWay, c24, c37]), nI_succ])) [0, 1, 2, 3, 4, 5, 6] rfl)
          · skip
            have c37 : (mCov f N k t y day) = true := zb_n.mp c37
            refine lv_iconst (v := 1) Z.hx Z.hb dX2_waysTo_40 (by decide) ?_
            refine lv_goto (tgt := 45) Z.hx Z.hb dX2_waysTo_41 (by decide) ?_
            refine lv_iadd Z.hx Z.hb dX2_waysTo_45 ?_
            refine lv_istore (lv' := [(5, .int ((nI (zCnt (fun p => mWay f N p t y g day) k)) + 1)), (6, .int (nI k)), (0, .ref o), (1, .int (nI t)), (2, .int y), (3, .int g), (4, .int day)]) Z.hx Z.hb dX2_waysTo_46 hl (by decide) rfl (fun ls hl => ?_)
            refine lv_iinc (v := (nI k) + 1) (lv' := [(6, .int ((nI k) + 1)), (5, .int ((nI (zCnt (fun p => mWay f N p t y g day) k)) + 1)), (0, .ref o), (1, .int (nI t)), (2, .int y), (3, .int g), (4, .int day)]) Z.hx Z.hb dX2_waysTo_48 hl (k := 1) rfl rfl (by decide) rfl (fun ls hl => ?_)
            refine lv_goto (tgt := 6) Z.hx Z.hb dX2_waysTo_51 (by decide) ?_
            exact ih (k + 1) (by omega) _ hL ls (lv_sub (z_loc (l' := [(6, .int (nI (k + 1))), (5, .int (nI (zCnt (fun p => mWay f N p t y g day) (k + 1)))), (0, .ref o), (1, .int (nI t)), (2, .int y), (3, .int g), (4, .int day)]) hl (by rw [zCnt_t (by simp [mWay, c24, c37]), nI_succ])) [0, 1, 2, 3, 4, 5, 6] rfl)
  refine lv_iconst (v := 0) Z.hx Z.hb dX2_waysTo_0 (by decide) ?_
  refine lv_istore (lv' := [(5, .int 0), (0, .ref o), (1, .int (nI t)), (2, .int y), (3, .int g), (4, .int day)]) Z.hx Z.hb dX2_waysTo_1 hl (by decide) rfl (fun ls hl => ?_)
  refine lv_iconst (v := 0) Z.hx Z.hb dX2_waysTo_3 (by decide) ?_
  refine lv_istore (lv' := [(6, .int 0), (5, .int 0), (0, .ref o), (1, .int (nI t)), (2, .int y), (3, .int g), (4, .int day)]) Z.hx Z.hb dX2_waysTo_4 hl (by decide) rfl (fun ls hl => ?_)
  exact loop nP 0 (by omega) _ hL ls (lv_sub (z_loc (l' := [(6, .int (nI 0)), (5, .int (nI (zCnt (fun p => mWay f N p t y g day) 0))), (0, .ref o), (1, .int (nI t)), (2, .int y), (3, .int g), (4, .int day)]) hl (by rfl)) [0, 1, 2, 3, 4, 5, 6] rfl)
def mBr (f : Nat → Nat → Int32) (p t : Nat) : Bool := !decide (f 10 (20 * p + t) ≤ 1)
/-- whether package p comes ahead of q for title t -/
def mAh (f : Nat → Nat → Int32) (p q t : Nat) : Bool := if mBr f p t = mBr f q t then (if f 6 p = f 6 q then decide (f 7 p < f 7 q) || (decide (f 7 p = f 7 q) && !decide (nI q ≤ nI p)) else !decide (f 6 q ≤ f 6 p)) else mBr f q t
set_option maxHeartbeats 4000000 in
set_option maxRecDepth 100000 in
theorem m_isAhead (G : zG) (l : Launch) (H : Heap) (o : Nat) (A : Nat → Nat) (v : Nat → Int32) (f : Nat → Nat → Int32) (hM : mRep G H o A v f) (p q t : Nat) (hp : p < 10) (hq : q < 10) (ht : t < 20) : zMp G l yX2_isAhead cX2_isAhead 6 (Option.some Jvm.ClassFile.FieldType.boolean) 0 [.ref o, .int (nI p), .int (nI q), .int (nI t)] H (.int (zb (mAh f p q t))) := by
  refine zM.of (by decide +kernel) (Nat.le_of_ble_eq_true rfl) ?_
  intro p0 e0 s0 m0 args0 below0 meth0 c0 Z hr hH hn ls hl
  have Z : zC G p0 s0 m0 args0 meth0 c0 RX2 cX2_isAhead 6 := Z
  have hl : lv_has ls 6 [(0, .ref o), (1, .int (nI p)), (2, .int (nI q)), (3, .int (nI t))] := hl
  have hL : zL G [] := zL.nil
  refine lv_aload_n Z.hx Z.hb dX2_isAhead_0 rfl (lv_at hl 0 rfl) ?_
  refine gf_X2_29 Z hM.ob (v := .ref (A 10)) rfl dX2_isAhead_1 ?_
  refine lv_bipush (v := 20) Z.hx Z.hb dX2_isAhead_4 (by decide) ?_
  refine lv_iload_n Z.hx Z.hb dX2_isAhead_6 rfl (lv_at hl 1 rfl) ?_
  refine lv_imul Z.hx Z.hb dX2_isAhead_7 ?_
  refine lv_iload_n Z.hx Z.hb dX2_isAhead_8 rfl (lv_at hl 3 rfl) ?_
  refine lv_iadd Z.hx Z.hb dX2_isAhead_9 ?_
  refine z_top (x' := nI (20 * p + t)) (z_lin 20 p t) ?_
  refine z_ialdN Z hM.a10 (k := (20 * p + t)) (by omega) (by decide) dX2_isAhead_10 ?_
  refine lv_iconst (v := 1) Z.hx Z.hb dX2_isAhead_11 (by decide) ?_
  refine lv_icmp_le (tgt := 19) Z.hx Z.hb dX2_isAhead_12 (by decide) (fun c12 => ?_) (fun c12 => ?_)
  · skip
    refine lv_iconst (v := 0) Z.hx Z.hb dX2_isAhead_19 (by decide) ?_
    refine lv_istore (lv' := [(4, .int 0), (0, .ref o), (1, .int (nI p)), (2, .int (nI q)), (3, .int (nI t))]) Z.hx Z.hb dX2_isAhead_20 hl (by decide) rfl (fun ls hl => ?_)
    refine lv_aload_n Z.hx Z.hb dX2_isAhead_22 rfl (lv_at hl 1 rfl) ?_
    refine gf_X2_29 Z hM.ob (v := .ref (A 10)) rfl dX2_isAhead_23 ?_
    refine lv_bipush (v := 20) Z.hx Z.hb dX2_isAhead_26 (by decide) ?_
    refine lv_iload_n Z.hx Z.hb dX2_isAhead_28 rfl (lv_at hl 3 rfl) ?_
    refine lv_imul Z.hx Z.hb dX2_isAhead_29 ?_
    refine lv_iload_n Z.hx Z.hb dX2_isAhead_30 rfl (lv_at hl 4 rfl) ?_
    refine lv_iadd Z.hx Z.hb dX2_isAhead_31 ?_
    refine z_top (x' := nI (20 * q + t)) (z_lin 20 q t) ?_
    refine z_ialdN Z hM.a10 (k := (20 * q + t)) (by omega) (by decide) dX2_isAhead_32 ?_
    refine lv_iconst (v := 1) Z.hx Z.hb dX2_isAhead_33 (by decide) ?_
    refine lv_icmp_le (tgt := 41) Z.hx Z.hb dX2_isAhead_34 (by decide) (fun c34 => ?_) (fun c34 => ?_)
    · skip
      refine lv_iconst (v := 0) Z.hx Z.hb dX2_isAhead_41 (by decide) ?_
      refine lv_istore (lv' := [(5, .int 0), (4, .int 0), (0, .ref o), (1, .int (nI p)), (2, .int (nI q)), (3, .int (nI t))]) Z.hx Z.hb dX2_isAhead_42 hl (by decide) rfl (fun ls hl => ?_)
      refine lv_iload Z.hx Z.hb dX2_isAhead_44 (lv_at hl 1 rfl) ?_
      refine lv_iload Z.hx Z.hb dX2_isAhead_46 (lv_at hl 0 rfl) ?_
      refine lv_icmp_eq (tgt := 54) Z.hx Z.hb dX2_isAhead_48 (by decide) (fun c48 => ?_) (fun c48 => ?_)
      · skip
        refine lv_aload_n Z.hx Z.hb dX2_isAhead_54 rfl (lv_at hl 2 rfl) ?_
        refine gf_X2_16 Z hM.ob (v := .ref (A 6)) rfl dX2_isAhead_55 ?_
        refine lv_iload_n Z.hx Z.hb dX2_isAhead_58 rfl (lv_at hl 3 rfl) ?_
        refine z_ialdN Z hM.a6 (k := p) hp (by decide) dX2_isAhead_59 ?_
        refine lv_aload_n Z.hx Z.hb dX2_isAhead_60 rfl (lv_at hl 2 rfl) ?_
        refine gf_X2_16 Z hM.ob (v := .ref (A 6)) rfl dX2_isAhead_61 ?_
        refine lv_iload_n Z.hx Z.hb dX2_isAhead_64 rfl (lv_at hl 4 rfl) ?_
        refine z_ialdN Z hM.a6 (k := q) hq (by decide) dX2_isAhead_65 ?_
        refine lv_icmp_eq (tgt := 90) Z.hx Z.hb dX2_isAhead_66 (by decide) (fun c66 => ?_) (fun c66 => ?_)
        · skip
          refine lv_aload_n Z.hx Z.hb dX2_isAhead_90 rfl (lv_at hl 2 rfl) ?_
          refine gf_X2_19 Z hM.ob (v := .ref (A 7)) rfl dX2_isAhead_91 ?_
          refine lv_iload_n Z.hx Z.hb dX2_isAhead_94 rfl (lv_at hl 3 rfl) ?_
          refine z_ialdN Z hM.a7 (k := p) hp (by decide) dX2_isAhead_95 ?_
          refine lv_aload_n Z.hx Z.hb dX2_isAhead_96 rfl (lv_at hl 2 rfl) ?_
          refine gf_X2_19 Z hM.ob (v := .ref (A 7)) rfl dX2_isAhead_97 ?_
          refine lv_iload_n Z.hx Z.hb dX2_isAhead_100 rfl (lv_at hl 4 rfl) ?_
          refine z_ialdN Z hM.a7 (k := q) hq (by decide) dX2_isAhead_101 ?_
          refine lv_icmp_lt (tgt := 125) Z.hx Z.hb dX2_isAhead_102 (by decide) (fun c102 => ?_) (fun c102 => ?_)
          · skip
            refine lv_iconst (v := 1) Z.hx Z.hb dX2_isAhead_125 (by decide) ?_
            refine lv_goto (tgt := 130) Z.hx Z.hb dX2_isAhead_126 (by decide) ?_
            exact z_zret Z hr hL (by decide) (⟨by simp [zb, mAh, mBr, c12, c34, c48, c66, c102], rfl⟩) (Nat.le_of_ble_eq_true rfl) (Nat.le_of_ble_eq_true rfl) dX2_isAhead_130
          · skip
            refine lv_aload_n Z.hx Z.hb dX2_isAhead_105 rfl (lv_at hl 2 rfl) ?_
            refine gf_X2_19 Z hM.ob (v := .ref (A 7)) rfl dX2_isAhead_106 ?_
            refine lv_iload_n Z.hx Z.hb dX2_isAhead_109 rfl (lv_at hl 3 rfl) ?_
            refine z_ialdN Z hM.a7 (k := p) hp (by decide) dX2_isAhead_110 ?_
            refine lv_aload_n Z.hx Z.hb dX2_isAhead_111 rfl (lv_at hl 2 rfl) ?_
            refine gf_X2_19 Z hM.ob (v := .ref (A 7)) rfl dX2_isAhead_112 ?_
            refine lv_iload_n Z.hx Z.hb dX2_isAhead_115 rfl (lv_at hl 4 rfl) ?_
            refine z_ialdN Z hM.a7 (k := q) hq (by decide) dX2_isAhead_116 ?_
            refine lv_icmp_ne (tgt := 129) Z.hx Z.hb dX2_isAhead_117 (by decide) (fun c117 => ?_) (fun c117 => ?_)
            · skip
              refine lv_iconst (v := 0) Z.hx Z.hb dX2_isAhead_129 (by decide) ?_
              exact z_zret Z hr hL (by decide) (⟨by simp [zb, mAh, mBr, c12, c34, c48, c66, c102, c117], rfl⟩) (Nat.le_of_ble_eq_true rfl) (Nat.le_of_ble_eq_true rfl) dX2_isAhead_130
            · skip
              refine lv_iload_n Z.hx Z.hb dX2_isAhead_120 rfl (lv_at hl 3 rfl) ?_
              refine lv_iload_n Z.hx Z.hb dX2_isAhead_121 rfl (lv_at hl 4 rfl) ?_
              refine lv_icmp_ge (tgt := 129) Z.hx Z.hb dX2_isAhead_122 (by decide) (fun c122 => ?_) (fun c122 => ?_)
              · skip
                refine lv_iconst (v := 0) Z.hx Z.hb dX2_isAhead_129 (by decide) ?_
                exact z_zret Z hr hL (by decide) (⟨by simp [zb, mAh, mBr, c12, c34, c48, c66, c102, c117, c122], rfl⟩) (Nat.le_of_ble_eq_true rfl) (Nat.le_of_ble_eq_true rfl) dX2_isAhead_130
              · skip
                refine lv_iconst (v := 1) Z.hx Z.hb dX2_isAhead_125 (by decide) ?_
                refine lv_goto (tgt := 130) Z.hx Z.hb dX2_isAhead_126 (by decide) ?_
                exact z_zret Z hr hL (by decide) (⟨by simp [zb, mAh, mBr, c12, c34, c48, c66, c102, c117, c122], rfl⟩) (Nat.le_of_ble_eq_true rfl) (Nat.le_of_ble_eq_true rfl) dX2_isAhead_130
        · skip
          refine lv_aload_n Z.hx Z.hb dX2_isAhead_69 rfl (lv_at hl 2 rfl) ?_
          refine gf_X2_16 Z hM.ob (v := .ref (A 6)) rfl dX2_isAhead_70 ?_
          refine lv_iload_n Z.hx Z.hb dX2_isAhead_73 rfl (lv_at hl 3 rfl) ?_
          refine z_ialdN Z hM.a6 (k := p) hp (by decide) dX2_isAhead_74 ?_
          refine lv_aload_n Z.hx Z.hb dX2_isAhead_75 rfl (lv_at hl 2 rfl) ?_
          refine gf_X2_16 Z hM.ob (v := .ref (A 6)) rfl dX2_isAhead_76 ?_
          refine lv_iload_n Z.hx Z.hb dX2_isAhead_79 rfl (lv_at hl 4 rfl) ?_
          refine z_ialdN Z hM.a6 (k := q) hq (by decide) dX2_isAhead_80 ?_
          refine lv_icmp_ge (tgt := 88) Z.hx Z.hb dX2_isAhead_81 (by decide) (fun c81 => ?_) (fun c81 => ?_)
          · skip
            refine lv_iconst (v := 0) Z.hx Z.hb dX2_isAhead_88 (by decide) ?_
            exact z_zret Z hr hL (by decide) (⟨by simp [zb, mAh, mBr, c12, c34, c48, c66, c81], rfl⟩) (Nat.le_of_ble_eq_true rfl) (Nat.le_of_ble_eq_true rfl) dX2_isAhead_89
          · skip
            refine lv_iconst (v := 1) Z.hx Z.hb dX2_isAhead_84 (by decide) ?_
            refine lv_goto (tgt := 89) Z.hx Z.hb dX2_isAhead_85 (by decide) ?_
            exact z_zret Z hr hL (by decide) (⟨by simp [zb, mAh, mBr, c12, c34, c48, c66, c81], rfl⟩) (Nat.le_of_ble_eq_true rfl) (Nat.le_of_ble_eq_true rfl) dX2_isAhead_89
      · exact absurd (by decide) c48
    · skip
      refine lv_iconst (v := 1) Z.hx Z.hb dX2_isAhead_37 (by decide) ?_
      refine lv_goto (tgt := 42) Z.hx Z.hb dX2_isAhead_38 (by decide) ?_
      refine lv_istore (lv' := [(5, .int 1), (4, .int 0), (0, .ref o), (1, .int (nI p)), (2, .int (nI q)), (3, .int (nI t))]) Z.hx Z.hb dX2_isAhead_42 hl (by decide) rfl (fun ls hl => ?_)
      refine lv_iload Z.hx Z.hb dX2_isAhead_44 (lv_at hl 1 rfl) ?_
      refine lv_iload Z.hx Z.hb dX2_isAhead_46 (lv_at hl 0 rfl) ?_
      refine lv_icmp_eq (tgt := 54) Z.hx Z.hb dX2_isAhead_48 (by decide) (fun c48 => ?_) (fun c48 => ?_)
      · exact absurd c48 (by decide)
      · skip
        refine lv_iload Z.hx Z.hb dX2_isAhead_51 (lv_at hl 0 rfl) ?_
        exact z_zret Z hr hL (by decide) (⟨by simp [zb, mAh, mBr, c12, c34, c48], rfl⟩) (Nat.le_of_ble_eq_true rfl) (Nat.le_of_ble_eq_true rfl) dX2_isAhead_53
  · skip
    refine lv_iconst (v := 1) Z.hx Z.hb dX2_isAhead_15 (by decide) ?_
    refine lv_goto (tgt := 20) Z.hx Z.hb dX2_isAhead_16 (by decide) ?_
    refine lv_istore (lv' := [(4, .int 1), (0, .ref o), (1, .int (nI p)), (2, .int (nI q)), (3, .int (nI t))]) Z.hx Z.hb dX2_isAhead_20 hl (by decide) rfl (fun ls hl => ?_)
    refine lv_aload_n Z.hx Z.hb dX2_isAhead_22 rfl (lv_at hl 1 rfl) ?_
    refine gf_X2_29 Z hM.ob (v := .ref (A 10)) rfl dX2_isAhead_23 ?_
    refine lv_bipush (v := 20) Z.hx Z.hb dX2_isAhead_26 (by decide) ?_
    refine lv_iload_n Z.hx Z.hb dX2_isAhead_28 rfl (lv_at hl 3 rfl) ?_
    refine lv_imul Z.hx Z.hb dX2_isAhead_29 ?_
    refine lv_iload_n Z.hx Z.hb dX2_isAhead_30 rfl (lv_at hl 4 rfl) ?_
    refine lv_iadd Z.hx Z.hb dX2_isAhead_31 ?_
    refine z_top (x' := nI (20 * q + t)) (z_lin 20 q t) ?_
    refine z_ialdN Z hM.a10 (k := (20 * q + t)) (by omega) (by decide) dX2_isAhead_32 ?_
    refine lv_iconst (v := 1) Z.hx Z.hb dX2_isAhead_33 (by decide) ?_
    refine lv_icmp_le (tgt := 41) Z.hx Z.hb dX2_isAhead_34 (by decide) (fun c34 => ?_) (fun c34 => ?_)
    · skip
      refine lv_iconst (v := 0) Z.hx Z.hb dX2_isAhead_41 (by decide) ?_
      refine lv_istore (lv' := [(5, .int 0), (4, .int 1), (0, .ref o), (1, .int (nI p)), (2, .int (nI q)), (3, .int (nI t))]) Z.hx Z.hb dX2_isAhead_42 hl (by decide) rfl (fun ls hl => ?_)
      refine lv_iload Z.hx Z.hb dX2_isAhead_44 (lv_at hl 1 rfl) ?_
      refine lv_iload Z.hx Z.hb dX2_isAhead_46 (lv_at hl 0 rfl) ?_
      refine lv_icmp_eq (tgt := 54) Z.hx Z.hb dX2_isAhead_48 (by decide) (fun c48 => ?_) (fun c48 => ?_)
      · exact absurd c48 (by decide)
      · skip
        refine lv_iload Z.hx Z.hb dX2_isAhead_51 (lv_at hl 0 rfl) ?_
        exact z_zret Z hr hL (by decide) (⟨by simp [zb, mAh, mBr, c12, c34, c48], rfl⟩) (Nat.le_of_ble_eq_true rfl) (Nat.le_of_ble_eq_true rfl) dX2_isAhead_53
    · skip
      refine lv_iconst (v := 1) Z.hx Z.hb dX2_isAhead_37 (by decide) ?_
      refine lv_goto (tgt := 42) Z.hx Z.hb dX2_isAhead_38 (by decide) ?_
      refine lv_istore (lv' := [(5, .int 1), (4, .int 1), (0, .ref o), (1, .int (nI p)), (2, .int (nI q)), (3, .int (nI t))]) Z.hx Z.hb dX2_isAhead_42 hl (by decide) rfl (fun ls hl => ?_)
      refine lv_iload Z.hx Z.hb dX2_isAhead_44 (lv_at hl 1 rfl) ?_
      refine lv_iload Z.hx Z.hb dX2_isAhead_46 (lv_at hl 0 rfl) ?_
      refine lv_icmp_eq (tgt := 54) Z.hx Z.hb dX2_isAhead_48 (by decide) (fun c48 => ?_) (fun c48 => ?_)
      · skip
        refine lv_aload_n Z.hx Z.hb dX2_isAhead_54 rfl (lv_at hl 2 rfl) ?_
        refine gf_X2_16 Z hM.ob (v := .ref (A 6)) rfl dX2_isAhead_55 ?_
        refine lv_iload_n Z.hx Z.hb dX2_isAhead_58 rfl (lv_at hl 3 rfl) ?_
        refine z_ialdN Z hM.a6 (k := p) hp (by decide) dX2_isAhead_59 ?_
        refine lv_aload_n Z.hx Z.hb dX2_isAhead_60 rfl (lv_at hl 2 rfl) ?_
        refine gf_X2_16 Z hM.ob (v := .ref (A 6)) rfl dX2_isAhead_61 ?_
        refine lv_iload_n Z.hx Z.hb dX2_isAhead_64 rfl (lv_at hl 4 rfl) ?_
        refine z_ialdN Z hM.a6 (k := q) hq (by decide) dX2_isAhead_65 ?_
        refine lv_icmp_eq (tgt := 90) Z.hx Z.hb dX2_isAhead_66 (by decide) (fun c66 => ?_) (fun c66 => ?_)
        · skip
          refine lv_aload_n Z.hx Z.hb dX2_isAhead_90 rfl (lv_at hl 2 rfl) ?_
          refine gf_X2_19 Z hM.ob (v := .ref (A 7)) rfl dX2_isAhead_91 ?_
          refine lv_iload_n Z.hx Z.hb dX2_isAhead_94 rfl (lv_at hl 3 rfl) ?_
          refine z_ialdN Z hM.a7 (k := p) hp (by decide) dX2_isAhead_95 ?_
          refine lv_aload_n Z.hx Z.hb dX2_isAhead_96 rfl (lv_at hl 2 rfl) ?_
          refine gf_X2_19 Z hM.ob (v := .ref (A 7)) rfl dX2_isAhead_97 ?_
          refine lv_iload_n Z.hx Z.hb dX2_isAhead_100 rfl (lv_at hl 4 rfl) ?_
          refine z_ialdN Z hM.a7 (k := q) hq (by decide) dX2_isAhead_101 ?_
          refine lv_icmp_lt (tgt := 125) Z.hx Z.hb dX2_isAhead_102 (by decide) (fun c102 => ?_) (fun c102 => ?_)
          · skip
            refine lv_iconst (v := 1) Z.hx Z.hb dX2_isAhead_125 (by decide) ?_
            refine lv_goto (tgt := 130) Z.hx Z.hb dX2_isAhead_126 (by decide) ?_
            exact z_zret Z hr hL (by decide) (⟨by simp [zb, mAh, mBr, c12, c34, c48, c66, c102], rfl⟩) (Nat.le_of_ble_eq_true rfl) (Nat.le_of_ble_eq_true rfl) dX2_isAhead_130
          · skip
            refine lv_aload_n Z.hx Z.hb dX2_isAhead_105 rfl (lv_at hl 2 rfl) ?_
            refine gf_X2_19 Z hM.ob (v := .ref (A 7)) rfl dX2_isAhead_106 ?_
            refine lv_iload_n Z.hx Z.hb dX2_isAhead_109 rfl (lv_at hl 3 rfl) ?_
            refine z_ialdN Z hM.a7 (k := p) hp (by decide) dX2_isAhead_110 ?_
            refine lv_aload_n Z.hx Z.hb dX2_isAhead_111 rfl (lv_at hl 2 rfl) ?_
            refine gf_X2_19 Z hM.ob (v := .ref (A 7)) rfl dX2_isAhead_112 ?_
            refine lv_iload_n Z.hx Z.hb dX2_isAhead_115 rfl (lv_at hl 4 rfl) ?_
            refine z_ialdN Z hM.a7 (k := q) hq (by decide) dX2_isAhead_116 ?_
            refine lv_icmp_ne (tgt := 129) Z.hx Z.hb dX2_isAhead_117 (by decide) (fun c117 => ?_) (fun c117 => ?_)
            · skip
              refine lv_iconst (v := 0) Z.hx Z.hb dX2_isAhead_129 (by decide) ?_
              exact z_zret Z hr hL (by decide) (⟨by simp [zb, mAh, mBr, c12, c34, c48, c66, c102, c117], rfl⟩) (Nat.le_of_ble_eq_true rfl) (Nat.le_of_ble_eq_true rfl) dX2_isAhead_130
            · skip
              refine lv_iload_n Z.hx Z.hb dX2_isAhead_120 rfl (lv_at hl 3 rfl) ?_
              refine lv_iload_n Z.hx Z.hb dX2_isAhead_121 rfl (lv_at hl 4 rfl) ?_
              refine lv_icmp_ge (tgt := 129) Z.hx Z.hb dX2_isAhead_122 (by decide) (fun c122 => ?_) (fun c122 => ?_)
              · skip
                refine lv_iconst (v := 0) Z.hx Z.hb dX2_isAhead_129 (by decide) ?_
                exact z_zret Z hr hL (by decide) (⟨by simp [zb, mAh, mBr, c12, c34, c48, c66, c102, c117, c122], rfl⟩) (Nat.le_of_ble_eq_true rfl) (Nat.le_of_ble_eq_true rfl) dX2_isAhead_130
              · skip
                refine lv_iconst (v := 1) Z.hx Z.hb dX2_isAhead_125 (by decide) ?_
                refine lv_goto (tgt := 130) Z.hx Z.hb dX2_isAhead_126 (by decide) ?_
                exact z_zret Z hr hL (by decide) (⟨by simp [zb, mAh, mBr, c12, c34, c48, c66, c102, c117, c122], rfl⟩) (Nat.le_of_ble_eq_true rfl) (Nat.le_of_ble_eq_true rfl) dX2_isAhead_130
        · skip
          refine lv_aload_n Z.hx Z.hb dX2_isAhead_69 rfl (lv_at hl 2 rfl) ?_
          refine gf_X2_16 Z hM.ob (v := .ref (A 6)) rfl dX2_isAhead_70 ?_
          refine lv_iload_n Z.hx Z.hb dX2_isAhead_73 rfl (lv_at hl 3 rfl) ?_
          refine z_ialdN Z hM.a6 (k := p) hp (by decide) dX2_isAhead_74 ?_
          refine lv_aload_n Z.hx Z.hb dX2_isAhead_75 rfl (lv_at hl 2 rfl) ?_
          refine gf_X2_16 Z hM.ob (v := .ref (A 6)) rfl dX2_isAhead_76 ?_
          refine lv_iload_n Z.hx Z.hb dX2_isAhead_79 rfl (lv_at hl 4 rfl) ?_
          refine z_ialdN Z hM.a6 (k := q) hq (by decide) dX2_isAhead_80 ?_
          refine lv_icmp_ge (tgt := 88) Z.hx Z.hb dX2_isAhead_81 (by decide) (fun c81 => ?_) (fun c81 => ?_)
          · skip
            refine lv_iconst (v := 0) Z.hx Z.hb dX2_isAhead_88 (by decide) ?_
            exact z_zret Z hr hL (by decide) (⟨by simp [zb, mAh, mBr, c12, c34, c48, c66, c81], rfl⟩) (Nat.le_of_ble_eq_true rfl) (Nat.le_of_ble_eq_true rfl) dX2_isAhead_89
          · skip
            refine lv_iconst (v := 1) Z.hx Z.hb dX2_isAhead_84 (by decide) ?_
            refine lv_goto (tgt := 89) Z.hx Z.hb dX2_isAhead_85 (by decide) ?_
            exact z_zret Z hr hL (by decide) (⟨by simp [zb, mAh, mBr, c12, c34, c48, c66, c81], rfl⟩) (Nat.le_of_ble_eq_true rfl) (Nat.le_of_ble_eq_true rfl) dX2_isAhead_89
      · exact absurd (by decide) c48
set_option maxHeartbeats 4000000 in
set_option maxRecDepth 100000 in
theorem m_othersFor (G : zG) (l : Launch) (H : Heap) (o : Nat) (A : Nat → Nat) (v : Nat → Int32) (f : Nat → Nat → Int32) (hM : mRep G H o A v f) (N : Nat) (hN : N ≤ 4096) (hN1 : v 11 = nI N) (nP : Nat) (hnP : nP ≤ 10) (hv3 : v 3 = nI nP) (p t : Nat) (ht : t < 20) (y : Int32) : zMp G l yX2_othersFor cX2_othersFor 6 (Option.some Jvm.ClassFile.FieldType.int) 5 [.ref o, .int (nI p), .int (nI t), .int y] H (.int (zOr (fun k => !decide (nI k = nI p) && mCov f N k t y (v 1)) (f 8) nP)) := by
  refine zM.of (by decide +kernel) (Nat.le_of_ble_eq_true rfl) ?_
  intro p0 e0 s0 m0 args0 below0 meth0 c0 Z hr hH hn ls hl
  have Z : zC G p0 s0 m0 args0 meth0 c0 RX2 cX2_othersFor 6 := Z
  have hl : lv_has ls 6 [(0, .ref o), (1, .int (nI p)), (2, .int (nI t)), (3, .int y)] := hl
  have hL : zL G [] := zL.nil
  have loop : ∀ n k : Nat, k + n = nP → ∀ (locs : List Loc), zL G locs → ∀ ls : Array Slot, lv_has ls 6 [(5, .int (nI k)), (4, .int (zOr (fun k => !decide (nI k = nI p) && mCov f N k t y (v 1)) (f 8) k)), (0, .ref o), (1, .int (nI p)), (2, .int (nI t)), (3, .int y)] → W p0 l e0 (zr 5 0 0) s0 m0 args0 below0 meth0 c0 H locs 0 0 (MQ below0 (zQ (fun r H1 => r = some (.int (zOr (fun k => !decide (nI k = nI p) && mCov f N k t y (v 1)) (f 8) nP)) ∧ H1 = H)) args0 s0 0 0 (zA G)) (F0 m0 6 ls []) := by
    intro n
    induction n with
    | zero =>
      intro k hkn locs hL ls hl
      have hke : k = nP := hkn
      subst hke
      refine lv_iload Z.hx Z.hb dX2_othersFor_6 (lv_at hl 0 rfl) ?_
      refine lv_aload_n Z.hx Z.hb dX2_othersFor_8 rfl (lv_at hl 2 rfl) ?_
      refine gf_X2_57 Z hM.ob (v := .int (v 3)) rfl dX2_othersFor_9 ?_
      refine lv_icmp_ge (tgt := 58) Z.hx Z.hb dX2_othersFor_12 (by decide) (fun c12 => ?_) (fun c12 => ?_)
      · skip
        refine lv_iload Z.hx Z.hb dX2_othersFor_58 (lv_at hl 1 rfl) ?_
        exact z_iret Z hr hL (⟨rfl, rfl⟩) (Nat.le_of_ble_eq_true rfl) (Nat.le_of_ble_eq_true rfl) dX2_othersFor_60
      · exact absurd (by rw [hv3]; exact Int32.le_refl _) c12
    | succ n ih =>
      intro k hkn locs hL ls hl
      have hkb : k < nP := by omega
      refine lv_iload Z.hx Z.hb dX2_othersFor_6 (lv_at hl 0 rfl) ?_
      refine lv_aload_n Z.hx Z.hb dX2_othersFor_8 rfl (lv_at hl 2 rfl) ?_
      refine gf_X2_57 Z hM.ob (v := .int (v 3)) rfl dX2_othersFor_9 ?_
      refine lv_icmp_ge (tgt := 58) Z.hx Z.hb dX2_othersFor_12 (by decide) (fun c12 => ?_) (fun c12 => ?_)
      · exact absurd (by rw [hv3] at c12; exact c12) (nI_ge hkb (by omega))
      · skip
        refine lv_iload Z.hx Z.hb dX2_othersFor_15 (lv_at hl 1 rfl) ?_
        refine lv_iload Z.hx Z.hb dX2_othersFor_17 (lv_at hl 0 rfl) ?_
        refine lv_iload_n Z.hx Z.hb dX2_othersFor_19 rfl (lv_at hl 3 rfl) ?_
        refine lv_icmp_eq (tgt := 48) Z.hx Z.hb dX2_othersFor_20 (by decide) (fun c20 => ?_) (fun c20 => ?_)
        · skip
          refine lv_iconst (v := 0) Z.hx Z.hb dX2_othersFor_48 (by decide) ?_
          refine lv_ior Z.hx Z.hb dX2_othersFor_49 ?_
          refine lv_istore (lv' := [(4, .int ((zOr (fun k => !decide (nI k = nI p) && mCov f N k t y (v 1)) (f 8) k) ||| 0)), (5, .int (nI k)), (0, .ref o), (1, .int (nI p)), (2, .int (nI t)), (3, .int y)]) Z.hx Z.hb dX2_othersFor_50 hl (by decide) rfl (fun ls hl => ?_)
          refine lv_iinc (v := (nI k) + 1) (lv' := [(5, .int ((nI k) + 1)), (4, .int ((zOr (fun k => !decide (nI k = nI p) && mCov f N k t y (v 1)) (f 8) k) ||| 0)), (0, .ref o), (1, .int (nI p)), (2, .int (nI t)), (3, .int y)]) Z.hx Z.hb dX2_othersFor_52 hl (k := 1) rfl rfl (by decide) rfl (fun ls hl => ?_)
          refine lv_goto (tgt := 6) Z.hx Z.hb dX2_othersFor_55 (by decide) ?_
          exact ih (k + 1) (by omega) _ hL ls (lv_sub (z_loc (l' := [(5, .int (nI (k + 1))), (4, .int (zOr (fun k => !decide (nI k = nI p) && mCov f N k t y (v 1)) (f 8) (k + 1))), (0, .ref o), (1, .int (nI p)), (2, .int (nI t)), (3, .int y)]) hl (by rw [nI_succ]; simp [zOr, c20])) [0, 1, 2, 3, 4, 5] rfl)
        · skip
          refine lv_aload_n Z.hx Z.hb dX2_othersFor_23 rfl (lv_at hl 2 rfl) ?_
          refine lv_iload Z.hx Z.hb dX2_othersFor_24 (lv_at hl 0 rfl) ?_
          refine lv_iload_n Z.hx Z.hb dX2_othersFor_26 rfl (lv_at hl 4 rfl) ?_
          refine lv_iload_n Z.hx Z.hb dX2_othersFor_27 rfl (lv_at hl 5 rfl) ?_
          refine lv_aload_n Z.hx Z.hb dX2_othersFor_28 rfl (lv_at hl 2 rfl) ?_
          refine gf_X2_78 Z hM.ob (v := .int (v 1)) rfl dX2_othersFor_29 ?_
          -- LinkResolverModel.isCovered
          refine z_pcallV (rest := [.int (zOr (fun k => !decide (nI k = nI p) && mCov f N k t y (v 1)) (f 8) k)]) (As := [.int (nI k), .int (nI t), .int y, .int (v 1)]) Z (m_isCovered G l H o A v f hM N hN hN1 k t (by omega) ht y (v 1)) gw_X2_110 gd_X2_110 rfl hM.ob rfl hl.1 (Nat.le_of_ble_eq_true rfl) rfl dX2_othersFor_32 ⟨⟨Nat.le_of_ble_eq_true rfl, Nat.le_of_ble_eq_true rfl⟩, Nat.le_of_ble_eq_true rfl, Nat.le_of_ble_eq_true rfl⟩ hL (fun locs hL => ?_)
          refine lv_if_eq (tgt := 48) Z.hx Z.hb dX2_othersFor_35 (by decide) (fun c35 => ?_) (fun c35 => ?_)
          · skip
            have c35 : (mCov f N k t y (v 1)) = false := zb_0.mp c35
            refine lv_iconst (v := 0) Z.hx Z.hb dX2_othersFor_48 (by decide) ?_
            refine lv_ior Z.hx Z.hb dX2_othersFor_49 ?_
            refine lv_istore (lv' := [(4, .int ((zOr (fun k => !decide (nI k = nI p) && mCov f N k t y (v 1)) (f 8) k) ||| 0)), (5, .int (nI k)), (0, .ref o), (1, .int (nI p)), (2, .int (nI t)), (3, .int y)]) Z.hx Z.hb dX2_othersFor_50 hl (by decide) rfl (fun ls hl => ?_)
            refine lv_iinc (v := (nI k) + 1) (lv' := [(5, .int ((nI k) + 1)), (4, .int ((zOr (fun k => !decide (nI k = nI p) && mCov f N k t y (v 1)) (f 8) k) ||| 0)), (0, .ref o), (1, .int (nI p)), (2, .int (nI t)), (3, .int y)]) Z.hx Z.hb dX2_othersFor_52 hl (k := 1) rfl rfl (by decide) rfl (fun ls hl => ?_)
            refine lv_goto (tgt := 6) Z.hx Z.hb dX2_othersFor_55 (by decide) ?_
            exact ih (k + 1) (by omega) _ hL ls (lv_sub (z_loc (l' := [(5, .int (nI (k + 1))), (4, .int (zOr (fun k => !decide (nI k = nI p) && mCov f N k t y (v 1)) (f 8) (k + 1))), (0, .ref o), (1, .int (nI p)), (2, .int (nI t)), (3, .int y)]) hl (by rw [nI_succ]; simp [zOr, c20, c35])) [0, 1, 2, 3, 4, 5] rfl)
          · skip
            have c35 : (mCov f N k t y (v 1)) = true := zb_n.mp c35
            refine lv_aload_n Z.hx Z.hb dX2_othersFor_38 rfl (lv_at hl 2 rfl) ?_
            refine gf_X2_22 Z hM.ob (v := .ref (A 8)) rfl dX2_othersFor_39 ?_
            refine lv_iload Z.hx Z.hb dX2_othersFor_42 (lv_at hl 0 rfl) ?_
            refine z_ialdN Z hM.a8 (k := k) (by omega) (by decide) dX2_othersFor_44 ?_
            refine lv_goto (tgt := 49) Z.hx Z.hb dX2_othersFor_45 (by decide) ?_
            refine lv_ior Z.hx Z.hb dX2_othersFor_49 ?_
            refine lv_istore (lv' := [(4, .int ((zOr (fun k => !decide (nI k = nI p) && mCov f N k t y (v 1)) (f 8) k) ||| (f 8 k))), (5, .int (nI k)), (0, .ref o), (1, .int (nI p)), (2, .int (nI t)), (3, .int y)]) Z.hx Z.hb dX2_othersFor_50 hl (by decide) rfl (fun ls hl => ?_)
            refine lv_iinc (v := (nI k) + 1) (lv' := [(5, .int ((nI k) + 1)), (4, .int ((zOr (fun k => !decide (nI k = nI p) && mCov f N k t y (v 1)) (f 8) k) ||| (f 8 k))), (0, .ref o), (1, .int (nI p)), (2, .int (nI t)), (3, .int y)]) Z.hx Z.hb dX2_othersFor_52 hl (k := 1) rfl rfl (by decide) rfl (fun ls hl => ?_)
            refine lv_goto (tgt := 6) Z.hx Z.hb dX2_othersFor_55 (by decide) ?_
            exact ih (k + 1) (by omega) _ hL ls (lv_sub (z_loc (l' := [(5, .int (nI (k + 1))), (4, .int (zOr (fun k => !decide (nI k = nI p) && mCov f N k t y (v 1)) (f 8) (k + 1))), (0, .ref o), (1, .int (nI p)), (2, .int (nI t)), (3, .int y)]) hl (by rw [nI_succ]; simp [zOr, c20, c35])) [0, 1, 2, 3, 4, 5] rfl)
  refine lv_iconst (v := 0) Z.hx Z.hb dX2_othersFor_0 (by decide) ?_
  refine lv_istore (lv' := [(4, .int 0), (0, .ref o), (1, .int (nI p)), (2, .int (nI t)), (3, .int y)]) Z.hx Z.hb dX2_othersFor_1 hl (by decide) rfl (fun ls hl => ?_)
  refine lv_iconst (v := 0) Z.hx Z.hb dX2_othersFor_3 (by decide) ?_
  refine lv_istore (lv' := [(5, .int 0), (4, .int 0), (0, .ref o), (1, .int (nI p)), (2, .int (nI t)), (3, .int y)]) Z.hx Z.hb dX2_othersFor_4 hl (by decide) rfl (fun ls hl => ?_)
  exact loop nP 0 (by omega) _ hL ls (lv_sub (z_loc (l' := [(5, .int (nI 0)), (4, .int (zOr (fun k => !decide (nI k = nI p) && mCov f N k t y (v 1)) (f 8) 0)), (0, .ref o), (1, .int (nI p)), (2, .int (nI t)), (3, .int y)]) hl (by rfl)) [0, 1, 2, 3, 4, 5] rfl)
