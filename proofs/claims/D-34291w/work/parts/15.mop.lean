/-! the model: what the law calls -/
set_option maxHeartbeats 4000000 in
set_option maxRecDepth 100000 in
theorem m_addTitle (G : zG) (l : Launch) (H : Heap) (o : Nat) (A : Nat → Nat) (f : Nat → Nat → Int32) (ha : mAd G o A) (σ : zS) (N : Nat) (th : Int32) (hM : mRep G H o A (sV σ N th) f) (hS : mSim σ N (sV σ N th) f) (hW : sWf σ) (hNl : N < 4096) (a b : Int32) : zM G l yX2_addTitle cX2_addTitle 3 (Option.some Jvm.ClassFile.FieldType.int) 2 0 0 [.ref o, .int a, .int b] H (mPost G H o A N σ (sAddT σ a b) (kAddT σ a b) (nI (sN σ))) := by
  have hN : N ≤ 4096 := Nat.le_of_lt hNl
  have hN1 : sV σ N th 11 = nI N := rfl
  have hN20 : sN σ ≤ 20 := hW.2.1
  have hnP : sP σ ≤ 10 := hW.2.2.1
  refine zM.of (by decide +kernel) (Nat.le_of_ble_eq_true rfl) ?_
  intro p0 e0 s0 m0 args0 below0 meth0 c0 Z hr hH hn ls hl
  have Z : zC G p0 s0 m0 args0 meth0 c0 RX2 cX2_addTitle 3 := Z
  have hl : lv_has ls 3 [(0, .ref o), (1, .int a), (2, .int b)] := hl
  have hL : zL G [] := zL.nil
  refine lv_aload_n Z.hx Z.hb dX2_addTitle_0 rfl (lv_at hl 0 rfl) ?_
  refine lv_iload_n Z.hx Z.hb dX2_addTitle_1 rfl (lv_at hl 1 rfl) ?_
  refine lv_iconst (v := 0) Z.hx Z.hb dX2_addTitle_2 (by decide) ?_
  refine lv_bipush (v := 55) Z.hx Z.hb dX2_addTitle_3 (by decide) ?_
  -- LinkResolverModel.isBetween
  refine z_pcallS (rest := [.ref o]) (As := [.int a, .int 0, .int 55]) Z (m_isBetween G l H a 0 55) gw_X2_60 gd_X2_60 rfl hl.1 (Nat.le_of_ble_eq_true rfl) rfl dX2_addTitle_5 ⟨⟨Nat.le_of_ble_eq_true rfl, Nat.le_of_ble_eq_true rfl⟩, Nat.le_of_ble_eq_true rfl, Nat.le_of_ble_eq_true rfl⟩ hL (fun locs hL => ?_)
  refine lv_if_eq (tgt := 20) Z.hx Z.hb dX2_addTitle_8 (by decide) (fun c8 => ?_) (fun c8 => ?_)
  · skip
    have c8 : (mBt a 0 55) = false := zb_0.mp c8
    refine lv_iconst (v := 1) Z.hx Z.hb dX2_addTitle_20 (by decide) ?_
    refine lv_goto (tgt := 38) Z.hx Z.hb dX2_addTitle_21 (by decide) ?_
    -- LinkResolverModel.holds
    refine z_gcallV (rest := []) (As := [.int 1]) Z (m_holdsN G l H o A (sV σ N th) f hM ha 1 (by decide)) gw_X2_64 gd_X2_64 rfl hM.ob rfl hl.1 (Nat.le_of_ble_eq_true rfl) rfl dX2_addTitle_38 ⟨⟨Nat.le_of_ble_eq_true rfl, Nat.le_of_ble_eq_true rfl⟩, Nat.le_of_ble_eq_true rfl, Nat.le_of_ble_eq_true rfl⟩ hL (fun H_1 locs hL hP_ => ?_)
    obtain ⟨hM_1, hF_1⟩ := hP_
    refine lv_if_ne (tgt := 46) Z.hx Z.hb dX2_addTitle_41 (by decide) (fun c41 => ?_) (fun c41 => ?_)
    · exact absurd (by decide) c41
    · skip
      refine lv_iconst (v := 0) Z.hx Z.hb dX2_addTitle_44 (by decide) ?_
      exact z_iret Z hr hL (mPost.no hM_1 hF_1 hS (by simp [kAddT, kIf, kPT, sAsk, c8, c41]) (by decide)) (Nat.le_of_ble_eq_true rfl) (Nat.le_of_ble_eq_true rfl) dX2_addTitle_45
  · skip
    have c8 : (mBt a 0 55) = true := zb_n.mp c8
    refine lv_iload_n Z.hx Z.hb dX2_addTitle_11 rfl (lv_at hl 2 rfl) ?_
    refine lv_iconst (v := 1) Z.hx Z.hb dX2_addTitle_12 (by decide) ?_
    refine lv_iconst (v := 4) Z.hx Z.hb dX2_addTitle_13 (by decide) ?_
    -- LinkResolverModel.isBetween
    refine z_pcallS (rest := [.ref o]) (As := [.int b, .int 1, .int 4]) Z (m_isBetween G l H b 1 4) gw_X2_60 gd_X2_60 rfl hl.1 (Nat.le_of_ble_eq_true rfl) rfl dX2_addTitle_14 ⟨⟨Nat.le_of_ble_eq_true rfl, Nat.le_of_ble_eq_true rfl⟩, Nat.le_of_ble_eq_true rfl, Nat.le_of_ble_eq_true rfl⟩ hL (fun locs hL => ?_)
    refine lv_if_ne (tgt := 24) Z.hx Z.hb dX2_addTitle_17 (by decide) (fun c17 => ?_) (fun c17 => ?_)
    · skip
      have c17 : (mBt b 1 4) = true := zb_n.mp c17
      refine lv_aload_n Z.hx Z.hb dX2_addTitle_24 rfl (lv_at hl 0 rfl) ?_
      refine gf_X2_54 Z hM.ob (v := .int (nI (sN σ))) rfl dX2_addTitle_25 ?_
      refine lv_bipush (v := 20) Z.hx Z.hb dX2_addTitle_28 (by decide) ?_
      refine lv_icmp_ne (tgt := 37) Z.hx Z.hb dX2_addTitle_30 (by decide) (fun c30 => ?_) (fun c30 => ?_)
      · skip
        have hlt : sN σ < 20 := by
          rcases Nat.lt_or_ge (sN σ) 20 with g | g
          · exact g
          · exact absurd (by rw [show sN σ = 20 by omega]; rfl) c30
        refine lv_iconst (v := 0) Z.hx Z.hb dX2_addTitle_37 (by decide) ?_
        -- LinkResolverModel.holds
        refine z_gcallV (rest := []) (As := [.int 0]) Z (m_holds0 G l H o A (sV σ N th) f hM ha) gw_X2_64 gd_X2_64 rfl hM.ob rfl hl.1 (Nat.le_of_ble_eq_true rfl) rfl dX2_addTitle_38 ⟨⟨Nat.le_of_ble_eq_true rfl, Nat.le_of_ble_eq_true rfl⟩, Nat.le_of_ble_eq_true rfl, Nat.le_of_ble_eq_true rfl⟩ hL (fun H_2 locs hL hP_ => ?_)
        obtain ⟨hM_2, hF_2⟩ := hP_
        refine lv_if_ne (tgt := 46) Z.hx Z.hb dX2_addTitle_41 (by decide) (fun c41 => ?_) (fun c41 => ?_)
        · skip
          refine lv_aload_n Z.hx Z.hb dX2_addTitle_46 rfl (lv_at hl 0 rfl) ?_
          refine gf_X2_7 Z hM_2.ob (v := .ref (A 4)) rfl dX2_addTitle_47 ?_
          refine lv_aload_n Z.hx Z.hb dX2_addTitle_50 rfl (lv_at hl 0 rfl) ?_
          refine gf_X2_54 Z hM_2.ob (v := .int (nI (sN σ))) rfl dX2_addTitle_51 ?_
          refine lv_iload_n Z.hx Z.hb dX2_addTitle_54 rfl (lv_at hl 1 rfl) ?_
          refine z_iastN Z hM_2.a4 (k := (sN σ)) hlt (by decide) hL (ha.2.1 4 rfl).1 dX2_addTitle_55 (fun H_3 locs hL hA_ hz_ hq_ => ?_)
          have hM_3 : mRep G H_3 o A (va_up (sV σ N th) 0 0) (va_up f 4 (upd (f 4) (sN σ) a)) := hM_2.setA ha 4 rfl hA_ hq_
          have hF_3 : mFr o A H H_3 := hF_2.trans (mFr.a 4 rfl hz_ hq_)
          refine lv_aload_n Z.hx Z.hb dX2_addTitle_56 rfl (lv_at hl 0 rfl) ?_
          refine gf_X2_13 Z hM_3.ob (v := .ref (A 5)) rfl dX2_addTitle_57 ?_
          refine lv_aload_n Z.hx Z.hb dX2_addTitle_60 rfl (lv_at hl 0 rfl) ?_
          refine gf_X2_54 Z hM_3.ob (v := .int (nI (sN σ))) rfl dX2_addTitle_61 ?_
          refine lv_iload_n Z.hx Z.hb dX2_addTitle_64 rfl (lv_at hl 2 rfl) ?_
          refine z_iastN Z hM_3.a5 (k := (sN σ)) hlt (by decide) hL (ha.2.1 5 rfl).1 dX2_addTitle_65 (fun H_4 locs hL hA_ hz_ hq_ => ?_)
          have hM_4 : mRep G H_4 o A (va_up (sV σ N th) 0 0) (va_up (va_up f 4 (upd (f 4) (sN σ) a)) 5 (upd (f 5) (sN σ) b)) := hM_3.setA ha 5 rfl hA_ hq_
          have hF_4 : mFr o A H H_4 := hF_3.trans (mFr.a 5 rfl hz_ hq_)
          refine lv_aload_n Z.hx Z.hb dX2_addTitle_66 rfl (lv_at hl 0 rfl) ?_
          refine lv_dup Z.hx Z.hb dX2_addTitle_67 rfl ?_
          refine gf_X2_54 Z hM_4.ob (v := .int (nI (sN σ))) rfl dX2_addTitle_68 ?_
          refine lv_iconst (v := 1) Z.hx Z.hb dX2_addTitle_71 (by decide) ?_
          refine lv_iadd Z.hx Z.hb dX2_addTitle_72 ?_
          refine pf_X2_54 Z hM_4.ob (Nat.le_of_ble_eq_true rfl) hL ha.1 dX2_addTitle_73 (fun H_5 locs hL hO_ hz_ hq_ => ?_)
          have hM_5 : mRep G H_5 o A (va_up (va_up (sV σ N th) 0 0) 2 ((nI (sN σ)) + 1)) (va_up (va_up f 4 (upd (f 4) (sN σ) a)) 5 (upd (f 5) (sN σ) b)) := hM_4.setV ha (v' := va_up (va_up (sV σ N th) 0 0) 2 ((nI (sN σ)) + 1)) hO_ hq_
          have hF_5 : mFr o A H H_5 := hF_4.trans (mFr.o hz_ hq_)
          refine lv_aload_n Z.hx Z.hb dX2_addTitle_76 rfl (lv_at hl 0 rfl) ?_
          refine gf_X2_54 Z hM_5.ob (v := .int ((nI (sN σ)) + 1)) rfl dX2_addTitle_77 ?_
          refine lv_iconst (v := 1) Z.hx Z.hb dX2_addTitle_80 (by decide) ?_
          refine lv_isub Z.hx Z.hb dX2_addTitle_81 ?_
          exact z_iret Z hr hL (mPost.mut hM_5 hF_5 rfl (Nat.le_succ N) (hS.addT a b 0) (by simp [kAddT, kIf, kPT, sAsk, c8, c17, c30, c41]) (Int32.add_sub_cancel _ _)) (Nat.le_of_ble_eq_true rfl) (Nat.le_of_ble_eq_true rfl) dX2_addTitle_82
        · exact absurd c41 (by decide)
      · skip
        refine lv_iconst (v := 2) Z.hx Z.hb dX2_addTitle_33 (by decide) ?_
        refine lv_goto (tgt := 38) Z.hx Z.hb dX2_addTitle_34 (by decide) ?_
        -- LinkResolverModel.holds
        refine z_gcallV (rest := []) (As := [.int 2]) Z (m_holdsN G l H o A (sV σ N th) f hM ha 2 (by decide)) gw_X2_64 gd_X2_64 rfl hM.ob rfl hl.1 (Nat.le_of_ble_eq_true rfl) rfl dX2_addTitle_38 ⟨⟨Nat.le_of_ble_eq_true rfl, Nat.le_of_ble_eq_true rfl⟩, Nat.le_of_ble_eq_true rfl, Nat.le_of_ble_eq_true rfl⟩ hL (fun H_6 locs hL hP_ => ?_)
        obtain ⟨hM_6, hF_6⟩ := hP_
        refine lv_if_ne (tgt := 46) Z.hx Z.hb dX2_addTitle_41 (by decide) (fun c41 => ?_) (fun c41 => ?_)
        · exact absurd (by decide) c41
        · skip
          refine lv_iconst (v := 0) Z.hx Z.hb dX2_addTitle_44 (by decide) ?_
          exact z_iret Z hr hL (mPost.no hM_6 hF_6 hS (by simp [kAddT, kIf, kPT, sAsk, c8, c17, c30, c41]) (by decide)) (Nat.le_of_ble_eq_true rfl) (Nat.le_of_ble_eq_true rfl) dX2_addTitle_45
    · skip
      have c17 : (mBt b 1 4) = false := zb_0.mp c17
      refine lv_iconst (v := 1) Z.hx Z.hb dX2_addTitle_20 (by decide) ?_
      refine lv_goto (tgt := 38) Z.hx Z.hb dX2_addTitle_21 (by decide) ?_
      -- LinkResolverModel.holds
      refine z_gcallV (rest := []) (As := [.int 1]) Z (m_holdsN G l H o A (sV σ N th) f hM ha 1 (by decide)) gw_X2_64 gd_X2_64 rfl hM.ob rfl hl.1 (Nat.le_of_ble_eq_true rfl) rfl dX2_addTitle_38 ⟨⟨Nat.le_of_ble_eq_true rfl, Nat.le_of_ble_eq_true rfl⟩, Nat.le_of_ble_eq_true rfl, Nat.le_of_ble_eq_true rfl⟩ hL (fun H_7 locs hL hP_ => ?_)
      obtain ⟨hM_7, hF_7⟩ := hP_
      refine lv_if_ne (tgt := 46) Z.hx Z.hb dX2_addTitle_41 (by decide) (fun c41 => ?_) (fun c41 => ?_)
      · exact absurd (by decide) c41
      · skip
        refine lv_iconst (v := 0) Z.hx Z.hb dX2_addTitle_44 (by decide) ?_
        exact z_iret Z hr hL (mPost.no hM_7 hF_7 hS (by simp [kAddT, kIf, kPT, sAsk, c8, c17, c41]) (by decide)) (Nat.le_of_ble_eq_true rfl) (Nat.le_of_ble_eq_true rfl) dX2_addTitle_45
set_option maxHeartbeats 4000000 in
set_option maxRecDepth 100000 in
theorem m_yearOf (G : zG) (l : Launch) (H : Heap) (o : Nat) (A : Nat → Nat) (f : Nat → Nat → Int32) (ha : mAd G o A) (σ : zS) (N : Nat) (th : Int32) (hM : mRep G H o A (sV σ N th) f) (hS : mSim σ N (sV σ N th) f) (hW : sWf σ) (hNl : N < 4096) (t w : Int32) : zM G l yX2_yearOf cX2_yearOf 4 (Option.some Jvm.ClassFile.FieldType.int) 2 0 0 [.ref o, .int t, .int w] H (mPost G H o A N σ σ (kYear σ t w) (sA σ 0 t.toNatClampNeg + (w - 1) / sA σ 1 t.toNatClampNeg)) := by
  have hN : N ≤ 4096 := Nat.le_of_lt hNl
  have hN1 : sV σ N th 11 = nI N := rfl
  have hN20 : sN σ ≤ 20 := hW.2.1
  have hnP : sP σ ≤ 10 := hW.2.2.1
  refine zM.of (by decide +kernel) (Nat.le_of_ble_eq_true rfl) ?_
  intro p0 e0 s0 m0 args0 below0 meth0 c0 Z hr hH hn ls hl
  have Z : zC G p0 s0 m0 args0 meth0 c0 RX2 cX2_yearOf 4 := Z
  have hl : lv_has ls 4 [(0, .ref o), (1, .int t), (2, .int w)] := hl
  have hL : zL G [] := zL.nil
  refine lv_aload_n Z.hx Z.hb dX2_yearOf_0 rfl (lv_at hl 0 rfl) ?_
  refine lv_iload_n Z.hx Z.hb dX2_yearOf_1 rfl (lv_at hl 1 rfl) ?_
  -- LinkResolverModel.isTitle
  refine z_pcallV (rest := []) (As := [.int t]) Z (m_isTitle G l H o A (sV σ N th) f hM t) gw_X2_68 gd_X2_68 rfl hM.ob rfl hl.1 (Nat.le_of_ble_eq_true rfl) rfl dX2_yearOf_2 ⟨⟨Nat.le_of_ble_eq_true rfl, Nat.le_of_ble_eq_true rfl⟩, Nat.le_of_ble_eq_true rfl, Nat.le_of_ble_eq_true rfl⟩ hL (fun locs hL => ?_)
  refine lv_istore_n (lv' := [(3, .int (zb (mIs t (nI (sN σ))))), (0, .ref o), (1, .int t), (2, .int w)]) Z.hx Z.hb dX2_yearOf_5 rfl hl (by decide) rfl (fun ls hl => ?_)
  refine lv_aload_n Z.hx Z.hb dX2_yearOf_6 rfl (lv_at hl 1 rfl) ?_
  refine lv_iload_n Z.hx Z.hb dX2_yearOf_7 rfl (lv_at hl 0 rfl) ?_
  refine lv_if_ne (tgt := 15) Z.hx Z.hb dX2_yearOf_8 (by decide) (fun c8 => ?_) (fun c8 => ?_)
  · skip
    have c8 : (mIs t (nI (sN σ))) = true := zb_n.mp c8
    obtain ⟨j, hj, rfl⟩ := mIs_nI (by omega) c8
    have hji := c8
    have hjc : (nI j).toNatClampNeg = j := nI_clamp (by omega)
    have hjl : j < 20 := by omega
    obtain ⟨h4, h5⟩ := hS.2.1 j hj
    have hne : ¬ f 5 j = 0 := by
      rw [h5]
      intro z
      have h1 := ((hW.2.2.2.1 j hj).2).1
      rw [z] at h1
      exact absurd h1 (by decide)
    refine lv_iload_n Z.hx Z.hb dX2_yearOf_15 rfl (lv_at hl 3 rfl) ?_
    refine lv_iconst (v := 1) Z.hx Z.hb dX2_yearOf_16 (by decide) ?_
    refine lv_icmp_lt (tgt := 42) Z.hx Z.hb dX2_yearOf_17 (by decide) (fun c17 => ?_) (fun c17 => ?_)
    · skip
      refine lv_iconst (v := 2) Z.hx Z.hb dX2_yearOf_42 (by decide) ?_
      refine lv_goto (tgt := 47) Z.hx Z.hb dX2_yearOf_43 (by decide) ?_
      -- LinkResolverModel.holds
      refine z_gcallV (rest := []) (As := [.int 2]) Z (m_holdsN G l H o A (sV σ N th) f hM ha 2 (by decide)) gw_X2_64 gd_X2_64 rfl hM.ob rfl hl.1 (Nat.le_of_ble_eq_true rfl) rfl dX2_yearOf_47 ⟨⟨Nat.le_of_ble_eq_true rfl, Nat.le_of_ble_eq_true rfl⟩, Nat.le_of_ble_eq_true rfl, Nat.le_of_ble_eq_true rfl⟩ hL (fun H_1 locs hL hP_ => ?_)
      obtain ⟨hM_1, hF_1⟩ := hP_
      refine lv_if_ne (tgt := 55) Z.hx Z.hb dX2_yearOf_50 (by decide) (fun c50 => ?_) (fun c50 => ?_)
      · exact absurd (by decide) c50
      · skip
        refine lv_iconst (v := 0) Z.hx Z.hb dX2_yearOf_53 (by decide) ?_
        exact z_iret Z hr hL (mPost.no hM_1 hF_1 hS (by simp [kYear, kIf, kPT, sAsk, ← h4, ← h5, hji, hjc, c17, c50]) (by decide)) (Nat.le_of_ble_eq_true rfl) (Nat.le_of_ble_eq_true rfl) dX2_yearOf_54
    · skip
      refine lv_iload_n Z.hx Z.hb dX2_yearOf_20 rfl (lv_at hl 3 rfl) ?_
      refine lv_iconst (v := 1) Z.hx Z.hb dX2_yearOf_21 (by decide) ?_
      refine lv_isub Z.hx Z.hb dX2_yearOf_22 ?_
      refine lv_aload_n Z.hx Z.hb dX2_yearOf_23 rfl (lv_at hl 1 rfl) ?_
      refine gf_X2_13 Z hM.ob (v := .ref (A 5)) rfl dX2_yearOf_24 ?_
      refine lv_iload_n Z.hx Z.hb dX2_yearOf_27 rfl (lv_at hl 2 rfl) ?_
      refine z_ialdN Z hM.a5 (k := j) hjl (by decide) dX2_yearOf_28 ?_
      refine lv_idiv Z.hx Z.hb dX2_yearOf_29 (hne) ?_
      refine lv_bipush (v := 55) Z.hx Z.hb dX2_yearOf_30 (by decide) ?_
      refine lv_aload_n Z.hx Z.hb dX2_yearOf_32 rfl (lv_at hl 1 rfl) ?_
      refine gf_X2_7 Z hM.ob (v := .ref (A 4)) rfl dX2_yearOf_33 ?_
      refine lv_iload_n Z.hx Z.hb dX2_yearOf_36 rfl (lv_at hl 2 rfl) ?_
      refine z_ialdN Z hM.a4 (k := j) hjl (by decide) dX2_yearOf_37 ?_
      refine lv_isub Z.hx Z.hb dX2_yearOf_38 ?_
      refine lv_icmp_le (tgt := 46) Z.hx Z.hb dX2_yearOf_39 (by decide) (fun c39 => ?_) (fun c39 => ?_)
      · skip
        refine lv_iconst (v := 0) Z.hx Z.hb dX2_yearOf_46 (by decide) ?_
        -- LinkResolverModel.holds
        refine z_gcallV (rest := []) (As := [.int 0]) Z (m_holds0 G l H o A (sV σ N th) f hM ha) gw_X2_64 gd_X2_64 rfl hM.ob rfl hl.1 (Nat.le_of_ble_eq_true rfl) rfl dX2_yearOf_47 ⟨⟨Nat.le_of_ble_eq_true rfl, Nat.le_of_ble_eq_true rfl⟩, Nat.le_of_ble_eq_true rfl, Nat.le_of_ble_eq_true rfl⟩ hL (fun H_2 locs hL hP_ => ?_)
        obtain ⟨hM_2, hF_2⟩ := hP_
        refine lv_if_ne (tgt := 55) Z.hx Z.hb dX2_yearOf_50 (by decide) (fun c50 => ?_) (fun c50 => ?_)
        · skip
          refine lv_aload_n Z.hx Z.hb dX2_yearOf_55 rfl (lv_at hl 1 rfl) ?_
          refine gf_X2_7 Z hM_2.ob (v := .ref (A 4)) rfl dX2_yearOf_56 ?_
          refine lv_iload_n Z.hx Z.hb dX2_yearOf_59 rfl (lv_at hl 2 rfl) ?_
          refine z_ialdN Z hM_2.a4 (k := j) hjl (by decide) dX2_yearOf_60 ?_
          refine lv_iload_n Z.hx Z.hb dX2_yearOf_61 rfl (lv_at hl 3 rfl) ?_
          refine lv_iconst (v := 1) Z.hx Z.hb dX2_yearOf_62 (by decide) ?_
          refine lv_isub Z.hx Z.hb dX2_yearOf_63 ?_
          refine lv_aload_n Z.hx Z.hb dX2_yearOf_64 rfl (lv_at hl 1 rfl) ?_
          refine gf_X2_13 Z hM_2.ob (v := .ref (A 5)) rfl dX2_yearOf_65 ?_
          refine lv_iload_n Z.hx Z.hb dX2_yearOf_68 rfl (lv_at hl 2 rfl) ?_
          refine z_ialdN Z hM_2.a5 (k := j) hjl (by decide) dX2_yearOf_69 ?_
          refine lv_idiv Z.hx Z.hb dX2_yearOf_70 (hne) ?_
          refine lv_iadd Z.hx Z.hb dX2_yearOf_71 ?_
          exact z_iret Z hr hL (mPost.yes hM_2 hF_2 hS (by simp [kYear, kIf, kPT, sAsk, ← h4, ← h5, hji, hjc, c17, c39, c50]) (by rw [hjc, h4, h5])) (Nat.le_of_ble_eq_true rfl) (Nat.le_of_ble_eq_true rfl) dX2_yearOf_72
        · exact absurd c50 (by decide)
      · skip
        refine lv_iconst (v := 2) Z.hx Z.hb dX2_yearOf_42 (by decide) ?_
        refine lv_goto (tgt := 47) Z.hx Z.hb dX2_yearOf_43 (by decide) ?_
        -- LinkResolverModel.holds
        refine z_gcallV (rest := []) (As := [.int 2]) Z (m_holdsN G l H o A (sV σ N th) f hM ha 2 (by decide)) gw_X2_64 gd_X2_64 rfl hM.ob rfl hl.1 (Nat.le_of_ble_eq_true rfl) rfl dX2_yearOf_47 ⟨⟨Nat.le_of_ble_eq_true rfl, Nat.le_of_ble_eq_true rfl⟩, Nat.le_of_ble_eq_true rfl, Nat.le_of_ble_eq_true rfl⟩ hL (fun H_3 locs hL hP_ => ?_)
        obtain ⟨hM_3, hF_3⟩ := hP_
        refine lv_if_ne (tgt := 55) Z.hx Z.hb dX2_yearOf_50 (by decide) (fun c50 => ?_) (fun c50 => ?_)
        · exact absurd (by decide) c50
        · skip
          refine lv_iconst (v := 0) Z.hx Z.hb dX2_yearOf_53 (by decide) ?_
          exact z_iret Z hr hL (mPost.no hM_3 hF_3 hS (by simp [kYear, kIf, kPT, sAsk, ← h4, ← h5, hji, hjc, c17, c39, c50]) (by decide)) (Nat.le_of_ble_eq_true rfl) (Nat.le_of_ble_eq_true rfl) dX2_yearOf_54
  · skip
    have c8 : (mIs t (nI (sN σ))) = false := zb_0.mp c8
    skip
    refine lv_iconst (v := 1) Z.hx Z.hb dX2_yearOf_11 (by decide) ?_
    refine lv_goto (tgt := 47) Z.hx Z.hb dX2_yearOf_12 (by decide) ?_
    -- LinkResolverModel.holds
    refine z_gcallV (rest := []) (As := [.int 1]) Z (m_holdsN G l H o A (sV σ N th) f hM ha 1 (by decide)) gw_X2_64 gd_X2_64 rfl hM.ob rfl hl.1 (Nat.le_of_ble_eq_true rfl) rfl dX2_yearOf_47 ⟨⟨Nat.le_of_ble_eq_true rfl, Nat.le_of_ble_eq_true rfl⟩, Nat.le_of_ble_eq_true rfl, Nat.le_of_ble_eq_true rfl⟩ hL (fun H_4 locs hL hP_ => ?_)
    obtain ⟨hM_4, hF_4⟩ := hP_
    refine lv_if_ne (tgt := 55) Z.hx Z.hb dX2_yearOf_50 (by decide) (fun c50 => ?_) (fun c50 => ?_)
    · exact absurd (by decide) c50
    · skip
      refine lv_iconst (v := 0) Z.hx Z.hb dX2_yearOf_53 (by decide) ?_
      exact z_iret Z hr hL (mPost.no hM_4 hF_4 hS (by simp [kYear, kIf, kPT, sAsk, c8, c50]) (by decide)) (Nat.le_of_ble_eq_true rfl) (Nat.le_of_ble_eq_true rfl) dX2_yearOf_54
set_option maxHeartbeats 4000000 in
set_option maxRecDepth 100000 in
theorem m_volumeOf (G : zG) (l : Launch) (H : Heap) (o : Nat) (A : Nat → Nat) (f : Nat → Nat → Int32) (ha : mAd G o A) (σ : zS) (N : Nat) (th : Int32) (hM : mRep G H o A (sV σ N th) f) (hS : mSim σ N (sV σ N th) f) (hW : sWf σ) (hNl : N < 4096) (t y : Int32) : zM G l yX2_volumeOf cX2_volumeOf 4 (Option.some Jvm.ClassFile.FieldType.int) 2 0 0 [.ref o, .int t, .int y] H (mPost G H o A N σ σ (kVol σ t y) ((y - sA σ 0 t.toNatClampNeg) * sA σ 1 t.toNatClampNeg + 1)) := by
  have hN : N ≤ 4096 := Nat.le_of_lt hNl
  have hN1 : sV σ N th 11 = nI N := rfl
  have hN20 : sN σ ≤ 20 := hW.2.1
  have hnP : sP σ ≤ 10 := hW.2.2.1
  refine zM.of (by decide +kernel) (Nat.le_of_ble_eq_true rfl) ?_
  intro p0 e0 s0 m0 args0 below0 meth0 c0 Z hr hH hn ls hl
  have Z : zC G p0 s0 m0 args0 meth0 c0 RX2 cX2_volumeOf 4 := Z
  have hl : lv_has ls 4 [(0, .ref o), (1, .int t), (2, .int y)] := hl
  have hL : zL G [] := zL.nil
  refine lv_aload_n Z.hx Z.hb dX2_volumeOf_0 rfl (lv_at hl 0 rfl) ?_
  refine lv_iload_n Z.hx Z.hb dX2_volumeOf_1 rfl (lv_at hl 1 rfl) ?_
  -- LinkResolverModel.isTitle
  refine z_pcallV (rest := []) (As := [.int t]) Z (m_isTitle G l H o A (sV σ N th) f hM t) gw_X2_68 gd_X2_68 rfl hM.ob rfl hl.1 (Nat.le_of_ble_eq_true rfl) rfl dX2_volumeOf_2 ⟨⟨Nat.le_of_ble_eq_true rfl, Nat.le_of_ble_eq_true rfl⟩, Nat.le_of_ble_eq_true rfl, Nat.le_of_ble_eq_true rfl⟩ hL (fun locs hL => ?_)
  refine lv_istore_n (lv' := [(3, .int (zb (mIs t (nI (sN σ))))), (0, .ref o), (1, .int t), (2, .int y)]) Z.hx Z.hb dX2_volumeOf_5 rfl hl (by decide) rfl (fun ls hl => ?_)
  refine lv_aload_n Z.hx Z.hb dX2_volumeOf_6 rfl (lv_at hl 1 rfl) ?_
  refine lv_iload_n Z.hx Z.hb dX2_volumeOf_7 rfl (lv_at hl 0 rfl) ?_
  refine lv_if_ne (tgt := 15) Z.hx Z.hb dX2_volumeOf_8 (by decide) (fun c8 => ?_) (fun c8 => ?_)
  · skip
    have c8 : (mIs t (nI (sN σ))) = true := zb_n.mp c8
    obtain ⟨j, hj, rfl⟩ := mIs_nI (by omega) c8
    have hji := c8
    have hjc : (nI j).toNatClampNeg = j := nI_clamp (by omega)
    have hjl : j < 20 := by omega
    obtain ⟨h4, h5⟩ := hS.2.1 j hj
    refine lv_iload_n Z.hx Z.hb dX2_volumeOf_15 rfl (lv_at hl 3 rfl) ?_
    refine lv_aload_n Z.hx Z.hb dX2_volumeOf_16 rfl (lv_at hl 1 rfl) ?_
    refine gf_X2_7 Z hM.ob (v := .ref (A 4)) rfl dX2_volumeOf_17 ?_
    refine lv_iload_n Z.hx Z.hb dX2_volumeOf_20 rfl (lv_at hl 2 rfl) ?_
    refine z_ialdN Z hM.a4 (k := j) hjl (by decide) dX2_volumeOf_21 ?_
    refine lv_bipush (v := 55) Z.hx Z.hb dX2_volumeOf_22 (by decide) ?_
    -- LinkResolverModel.isBetween
    refine z_pcallS (rest := [.ref o]) (As := [.int y, .int (f 4 j), .int 55]) Z (m_isBetween G l H y (f 4 j) 55) gw_X2_60 gd_X2_60 rfl hl.1 (Nat.le_of_ble_eq_true rfl) rfl dX2_volumeOf_24 ⟨⟨Nat.le_of_ble_eq_true rfl, Nat.le_of_ble_eq_true rfl⟩, Nat.le_of_ble_eq_true rfl, Nat.le_of_ble_eq_true rfl⟩ hL (fun locs hL => ?_)
    refine lv_if_eq (tgt := 34) Z.hx Z.hb dX2_volumeOf_27 (by decide) (fun c27 => ?_) (fun c27 => ?_)
    · skip
      have c27 : (mBt y (f 4 j) 55) = false := zb_0.mp c27
      refine lv_iconst (v := 2) Z.hx Z.hb dX2_volumeOf_34 (by decide) ?_
      -- LinkResolverModel.holds
      refine z_gcallV (rest := []) (As := [.int 2]) Z (m_holdsN G l H o A (sV σ N th) f hM ha 2 (by decide)) gw_X2_64 gd_X2_64 rfl hM.ob rfl hl.1 (Nat.le_of_ble_eq_true rfl) rfl dX2_volumeOf_35 ⟨⟨Nat.le_of_ble_eq_true rfl, Nat.le_of_ble_eq_true rfl⟩, Nat.le_of_ble_eq_true rfl, Nat.le_of_ble_eq_true rfl⟩ hL (fun H_1 locs hL hP_ => ?_)
      obtain ⟨hM_1, hF_1⟩ := hP_
      refine lv_if_ne (tgt := 43) Z.hx Z.hb dX2_volumeOf_38 (by decide) (fun c38 => ?_) (fun c38 => ?_)
      · exact absurd (by decide) c38
      · skip
        refine lv_iconst (v := 0) Z.hx Z.hb dX2_volumeOf_41 (by decide) ?_
        exact z_iret Z hr hL (mPost.no hM_1 hF_1 hS (by simp [kVol, kIf, kPT, sAsk, ← h4, ← h5, hji, hjc, c27, c38]) (by decide)) (Nat.le_of_ble_eq_true rfl) (Nat.le_of_ble_eq_true rfl) dX2_volumeOf_42
    · skip
      have c27 : (mBt y (f 4 j) 55) = true := zb_n.mp c27
      refine lv_iconst (v := 0) Z.hx Z.hb dX2_volumeOf_30 (by decide) ?_
      refine lv_goto (tgt := 35) Z.hx Z.hb dX2_volumeOf_31 (by decide) ?_
      -- LinkResolverModel.holds
      refine z_gcallV (rest := []) (As := [.int 0]) Z (m_holds0 G l H o A (sV σ N th) f hM ha) gw_X2_64 gd_X2_64 rfl hM.ob rfl hl.1 (Nat.le_of_ble_eq_true rfl) rfl dX2_volumeOf_35 ⟨⟨Nat.le_of_ble_eq_true rfl, Nat.le_of_ble_eq_true rfl⟩, Nat.le_of_ble_eq_true rfl, Nat.le_of_ble_eq_true rfl⟩ hL (fun H_2 locs hL hP_ => ?_)
      obtain ⟨hM_2, hF_2⟩ := hP_
      refine lv_if_ne (tgt := 43) Z.hx Z.hb dX2_volumeOf_38 (by decide) (fun c38 => ?_) (fun c38 => ?_)
      · skip
        refine lv_iload_n Z.hx Z.hb dX2_volumeOf_43 rfl (lv_at hl 3 rfl) ?_
        refine lv_aload_n Z.hx Z.hb dX2_volumeOf_44 rfl (lv_at hl 1 rfl) ?_
        refine gf_X2_7 Z hM_2.ob (v := .ref (A 4)) rfl dX2_volumeOf_45 ?_
        refine lv_iload_n Z.hx Z.hb dX2_volumeOf_48 rfl (lv_at hl 2 rfl) ?_
        refine z_ialdN Z hM_2.a4 (k := j) hjl (by decide) dX2_volumeOf_49 ?_
        refine lv_isub Z.hx Z.hb dX2_volumeOf_50 ?_
        refine lv_aload_n Z.hx Z.hb dX2_volumeOf_51 rfl (lv_at hl 1 rfl) ?_
        refine gf_X2_13 Z hM_2.ob (v := .ref (A 5)) rfl dX2_volumeOf_52 ?_
        refine lv_iload_n Z.hx Z.hb dX2_volumeOf_55 rfl (lv_at hl 2 rfl) ?_
        refine z_ialdN Z hM_2.a5 (k := j) hjl (by decide) dX2_volumeOf_56 ?_
        refine lv_imul Z.hx Z.hb dX2_volumeOf_57 ?_
        refine lv_iconst (v := 1) Z.hx Z.hb dX2_volumeOf_58 (by decide) ?_
        refine lv_iadd Z.hx Z.hb dX2_volumeOf_59 ?_
        exact z_iret Z hr hL (mPost.yes hM_2 hF_2 hS (by simp [kVol, kIf, kPT, sAsk, ← h4, ← h5, hji, hjc, c27, c38]) (by rw [hjc, h4, h5])) (Nat.le_of_ble_eq_true rfl) (Nat.le_of_ble_eq_true rfl) dX2_volumeOf_60
      · exact absurd c38 (by decide)
  · skip
    have c8 : (mIs t (nI (sN σ))) = false := zb_0.mp c8
    skip
    refine lv_iconst (v := 1) Z.hx Z.hb dX2_volumeOf_11 (by decide) ?_
    refine lv_goto (tgt := 35) Z.hx Z.hb dX2_volumeOf_12 (by decide) ?_
    -- LinkResolverModel.holds
    refine z_gcallV (rest := []) (As := [.int 1]) Z (m_holdsN G l H o A (sV σ N th) f hM ha 1 (by decide)) gw_X2_64 gd_X2_64 rfl hM.ob rfl hl.1 (Nat.le_of_ble_eq_true rfl) rfl dX2_volumeOf_35 ⟨⟨Nat.le_of_ble_eq_true rfl, Nat.le_of_ble_eq_true rfl⟩, Nat.le_of_ble_eq_true rfl, Nat.le_of_ble_eq_true rfl⟩ hL (fun H_3 locs hL hP_ => ?_)
    obtain ⟨hM_3, hF_3⟩ := hP_
    refine lv_if_ne (tgt := 43) Z.hx Z.hb dX2_volumeOf_38 (by decide) (fun c38 => ?_) (fun c38 => ?_)
    · exact absurd (by decide) c38
    · skip
      refine lv_iconst (v := 0) Z.hx Z.hb dX2_volumeOf_41 (by decide) ?_
      exact z_iret Z hr hL (mPost.no hM_3 hF_3 hS (by simp [kVol, kIf, kPT, sAsk, c8, c38]) (by decide)) (Nat.le_of_ble_eq_true rfl) (Nat.le_of_ble_eq_true rfl) dX2_volumeOf_42
set_option maxHeartbeats 4000000 in
set_option maxRecDepth 100000 in
theorem m_addPackage (G : zG) (l : Launch) (H : Heap) (o : Nat) (A : Nat → Nat) (f : Nat → Nat → Int32) (ha : mAd G o A) (σ : zS) (N : Nat) (th : Int32) (hM : mRep G H o A (sV σ N th) f) (hS : mSim σ N (sV σ N th) f) (hW : sWf σ) (hNl : N < 4096) (a b g k : Int32) : zM G l yX2_addPackage cX2_addPackage 6 (Option.some Jvm.ClassFile.FieldType.int) 2 0 0 [.ref o, .int a, .int b, .int g, .int k] H (mPost G H o A N σ (sAddP σ a b g k) (kAddP σ a b g k) (nI (sP σ))) := by
  have hN : N ≤ 4096 := Nat.le_of_lt hNl
  have hN1 : sV σ N th 11 = nI N := rfl
  have hN20 : sN σ ≤ 20 := hW.2.1
  have hnP : sP σ ≤ 10 := hW.2.2.1
  refine zM.of (by decide +kernel) (Nat.le_of_ble_eq_true rfl) ?_
  intro p0 e0 s0 m0 args0 below0 meth0 c0 Z hr hH hn ls hl
  have Z : zC G p0 s0 m0 args0 meth0 c0 RX2 cX2_addPackage 6 := Z
  have hl : lv_has ls 6 [(0, .ref o), (1, .int a), (2, .int b), (3, .int g), (4, .int k)] := hl
  have hL : zL G [] := zL.nil
  refine lv_iload_n Z.hx Z.hb dX2_addPackage_0 rfl (lv_at hl 1 rfl) ?_
  refine lv_iconst (v := 0) Z.hx Z.hb dX2_addPackage_1 (by decide) ?_
  refine lv_sipush (v := 1000) Z.hx Z.hb dX2_addPackage_2 (by decide) ?_
  -- LinkResolverModel.isBetween
  refine z_pcallS (rest := []) (As := [.int a, .int 0, .int 1000]) Z (m_isBetween G l H a 0 1000) gw_X2_60 gd_X2_60 rfl hl.1 (Nat.le_of_ble_eq_true rfl) rfl dX2_addPackage_5 ⟨⟨Nat.le_of_ble_eq_true rfl, Nat.le_of_ble_eq_true rfl⟩, Nat.le_of_ble_eq_true rfl, Nat.le_of_ble_eq_true rfl⟩ hL (fun locs hL => ?_)
  refine lv_if_eq (tgt := 44) Z.hx Z.hb dX2_addPackage_8 (by decide) (fun c8 => ?_) (fun c8 => ?_)
  · skip
    have c8 : (mBt a 0 1000) = false := zb_0.mp c8
    refine lv_iconst (v := 0) Z.hx Z.hb dX2_addPackage_44 (by decide) ?_
    refine lv_istore (lv' := [(5, .int 0), (0, .ref o), (1, .int a), (2, .int b), (3, .int g), (4, .int k)]) Z.hx Z.hb dX2_addPackage_45 hl (by decide) rfl (fun ls hl => ?_)
    refine lv_aload_n Z.hx Z.hb dX2_addPackage_47 rfl (lv_at hl 1 rfl) ?_
    refine lv_iload Z.hx Z.hb dX2_addPackage_48 (lv_at hl 0 rfl) ?_
    refine lv_if_ne (tgt := 57) Z.hx Z.hb dX2_addPackage_50 (by decide) (fun c50 => ?_) (fun c50 => ?_)
    · exact absurd (by decide) c50
    · skip
      refine lv_iconst (v := 1) Z.hx Z.hb dX2_addPackage_53 (by decide) ?_
      refine lv_goto (tgt := 71) Z.hx Z.hb dX2_addPackage_54 (by decide) ?_
      -- LinkResolverModel.holds
      refine z_gcallV (rest := []) (As := [.int 1]) Z (m_holdsN G l H o A (sV σ N th) f hM ha 1 (by decide)) gw_X2_64 gd_X2_64 rfl hM.ob rfl hl.1 (Nat.le_of_ble_eq_true rfl) rfl dX2_addPackage_71 ⟨⟨Nat.le_of_ble_eq_true rfl, Nat.le_of_ble_eq_true rfl⟩, Nat.le_of_ble_eq_true rfl, Nat.le_of_ble_eq_true rfl⟩ hL (fun H_1 locs hL hP_ => ?_)
      obtain ⟨hM_1, hF_1⟩ := hP_
      refine lv_if_ne (tgt := 79) Z.hx Z.hb dX2_addPackage_74 (by decide) (fun c74 => ?_) (fun c74 => ?_)
      · exact absurd (by decide) c74
      · skip
        refine lv_iconst (v := 0) Z.hx Z.hb dX2_addPackage_77 (by decide) ?_
        exact z_iret Z hr hL (mPost.no hM_1 hF_1 hS (by simp [kAddP, kIf, kPT, sAsk, c8, c50, c74]) (by decide)) (Nat.le_of_ble_eq_true rfl) (Nat.le_of_ble_eq_true rfl) dX2_addPackage_78
  · skip
    have c8 : (mBt a 0 1000) = true := zb_n.mp c8
    refine lv_iload_n Z.hx Z.hb dX2_addPackage_11 rfl (lv_at hl 2 rfl) ?_
    refine lv_iconst (v := 0) Z.hx Z.hb dX2_addPackage_12 (by decide) ?_
    refine lv_iconst (v := 2) Z.hx Z.hb dX2_addPackage_13 (by decide) ?_
    -- LinkResolverModel.isBetween
    refine z_pcallS (rest := []) (As := [.int b, .int 0, .int 2]) Z (m_isBetween G l H b 0 2) gw_X2_60 gd_X2_60 rfl hl.1 (Nat.le_of_ble_eq_true rfl) rfl dX2_addPackage_14 ⟨⟨Nat.le_of_ble_eq_true rfl, Nat.le_of_ble_eq_true rfl⟩, Nat.le_of_ble_eq_true rfl, Nat.le_of_ble_eq_true rfl⟩ hL (fun locs hL => ?_)
    refine lv_if_eq (tgt := 44) Z.hx Z.hb dX2_addPackage_17 (by decide) (fun c17 => ?_) (fun c17 => ?_)
    · skip
      have c17 : (mBt b 0 2) = false := zb_0.mp c17
      refine lv_iconst (v := 0) Z.hx Z.hb dX2_addPackage_44 (by decide) ?_
      refine lv_istore (lv' := [(5, .int 0), (0, .ref o), (1, .int a), (2, .int b), (3, .int g), (4, .int k)]) Z.hx Z.hb dX2_addPackage_45 hl (by decide) rfl (fun ls hl => ?_)
      refine lv_aload_n Z.hx Z.hb dX2_addPackage_47 rfl (lv_at hl 1 rfl) ?_
      refine lv_iload Z.hx Z.hb dX2_addPackage_48 (lv_at hl 0 rfl) ?_
      refine lv_if_ne (tgt := 57) Z.hx Z.hb dX2_addPackage_50 (by decide) (fun c50 => ?_) (fun c50 => ?_)
      · exact absurd (by decide) c50
      · skip
        refine lv_iconst (v := 1) Z.hx Z.hb dX2_addPackage_53 (by decide) ?_
        refine lv_goto (tgt := 71) Z.hx Z.hb dX2_addPackage_54 (by decide) ?_
        -- LinkResolverModel.holds
        refine z_gcallV (rest := []) (As := [.int 1]) Z (m_holdsN G l H o A (sV σ N th) f hM ha 1 (by decide)) gw_X2_64 gd_X2_64 rfl hM.ob rfl hl.1 (Nat.le_of_ble_eq_true rfl) rfl dX2_addPackage_71 ⟨⟨Nat.le_of_ble_eq_true rfl, Nat.le_of_ble_eq_true rfl⟩, Nat.le_of_ble_eq_true rfl, Nat.le_of_ble_eq_true rfl⟩ hL (fun H_2 locs hL hP_ => ?_)
        obtain ⟨hM_2, hF_2⟩ := hP_
        refine lv_if_ne (tgt := 79) Z.hx Z.hb dX2_addPackage_74 (by decide) (fun c74 => ?_) (fun c74 => ?_)
        · exact absurd (by decide) c74
        · skip
          refine lv_iconst (v := 0) Z.hx Z.hb dX2_addPackage_77 (by decide) ?_
          exact z_iret Z hr hL (mPost.no hM_2 hF_2 hS (by simp [kAddP, kIf, kPT, sAsk, c8, c17, c50, c74]) (by decide)) (Nat.le_of_ble_eq_true rfl) (Nat.le_of_ble_eq_true rfl) dX2_addPackage_78
    · skip
      have c17 : (mBt b 0 2) = true := zb_n.mp c17
      refine lv_iload_n Z.hx Z.hb dX2_addPackage_20 rfl (lv_at hl 3 rfl) ?_
      refine lv_iconst (v := 0) Z.hx Z.hb dX2_addPackage_21 (by decide) ?_
      refine lv_bipush (v := 15) Z.hx Z.hb dX2_addPackage_22 (by decide) ?_
      -- LinkResolverModel.isBetween
      refine z_pcallS (rest := []) (As := [.int g, .int 0, .int 15]) Z (m_isBetween G l H g 0 15) gw_X2_60 gd_X2_60 rfl hl.1 (Nat.le_of_ble_eq_true rfl) rfl dX2_addPackage_24 ⟨⟨Nat.le_of_ble_eq_true rfl, Nat.le_of_ble_eq_true rfl⟩, Nat.le_of_ble_eq_true rfl, Nat.le_of_ble_eq_true rfl⟩ hL (fun locs hL => ?_)
      refine lv_if_eq (tgt := 44) Z.hx Z.hb dX2_addPackage_27 (by decide) (fun c27 => ?_) (fun c27 => ?_)
      · skip
        have c27 : (mBt g 0 15) = false := zb_0.mp c27
        refine lv_iconst (v := 0) Z.hx Z.hb dX2_addPackage_44 (by decide) ?_
        refine lv_istore (lv' := [(5, .int 0), (0, .ref o), (1, .int a), (2, .int b), (3, .int g), (4, .int k)]) Z.hx Z.hb dX2_addPackage_45 hl (by decide) rfl (fun ls hl => ?_)
        refine lv_aload_n Z.hx Z.hb dX2_addPackage_47 rfl (lv_at hl 1 rfl) ?_
        refine lv_iload Z.hx Z.hb dX2_addPackage_48 (lv_at hl 0 rfl) ?_
        refine lv_if_ne (tgt := 57) Z.hx Z.hb dX2_addPackage_50 (by decide) (fun c50 => ?_) (fun c50 => ?_)
        · exact absurd (by decide) c50
        · skip
          refine lv_iconst (v := 1) Z.hx Z.hb dX2_addPackage_53 (by decide) ?_
          refine lv_goto (tgt := 71) Z.hx Z.hb dX2_addPackage_54 (by decide) ?_
          -- LinkResolverModel.holds
          refine z_gcallV (rest := []) (As := [.int 1]) Z (m_holdsN G l H o A (sV σ N th) f hM ha 1 (by decide)) gw_X2_64 gd_X2_64 rfl hM.ob rfl hl.1 (Nat.le_of_ble_eq_true rfl) rfl dX2_addPackage_71 ⟨⟨Nat.le_of_ble_eq_true rfl, Nat.le_of_ble_eq_true rfl⟩, Nat.le_of_ble_eq_true rfl, Nat.le_of_ble_eq_true rfl⟩ hL (fun H_3 locs hL hP_ => ?_)
          obtain ⟨hM_3, hF_3⟩ := hP_
          refine lv_if_ne (tgt := 79) Z.hx Z.hb dX2_addPackage_74 (by decide) (fun c74 => ?_) (fun c74 => ?_)
          · exact absurd (by decide) c74
          · skip
            refine lv_iconst (v := 0) Z.hx Z.hb dX2_addPackage_77 (by decide) ?_
            exact z_iret Z hr hL (mPost.no hM_3 hF_3 hS (by simp [kAddP, kIf, kPT, sAsk, c8, c17, c27, c50, c74]) (by decide)) (Nat.le_of_ble_eq_true rfl) (Nat.le_of_ble_eq_true rfl) dX2_addPackage_78
      · skip
        have c27 : (mBt g 0 15) = true := zb_n.mp c27
        refine lv_iload Z.hx Z.hb dX2_addPackage_30 (lv_at hl 4 rfl) ?_
        refine lv_iconst (v := 0) Z.hx Z.hb dX2_addPackage_32 (by decide) ?_
        refine lv_iconst (v := 1) Z.hx Z.hb dX2_addPackage_33 (by decide) ?_
        -- LinkResolverModel.isBetween
        refine z_pcallS (rest := []) (As := [.int k, .int 0, .int 1]) Z (m_isBetween G l H k 0 1) gw_X2_60 gd_X2_60 rfl hl.1 (Nat.le_of_ble_eq_true rfl) rfl dX2_addPackage_34 ⟨⟨Nat.le_of_ble_eq_true rfl, Nat.le_of_ble_eq_true rfl⟩, Nat.le_of_ble_eq_true rfl, Nat.le_of_ble_eq_true rfl⟩ hL (fun locs hL => ?_)
        refine lv_if_eq (tgt := 44) Z.hx Z.hb dX2_addPackage_37 (by decide) (fun c37 => ?_) (fun c37 => ?_)
        · skip
          have c37 : (mBt k 0 1) = false := zb_0.mp c37
          refine lv_iconst (v := 0) Z.hx Z.hb dX2_addPackage_44 (by decide) ?_
          refine lv_istore (lv' := [(5, .int 0), (0, .ref o), (1, .int a), (2, .int b), (3, .int g), (4, .int k)]) Z.hx Z.hb dX2_addPackage_45 hl (by decide) rfl (fun ls hl => ?_)
          refine lv_aload_n Z.hx Z.hb dX2_addPackage_47 rfl (lv_at hl 1 rfl) ?_
          refine lv_iload Z.hx Z.hb dX2_addPackage_48 (lv_at hl 0 rfl) ?_
          refine lv_if_ne (tgt := 57) Z.hx Z.hb dX2_addPackage_50 (by decide) (fun c50 => ?_) (fun c50 => ?_)
          · exact absurd (by decide) c50
          · skip
            refine lv_iconst (v := 1) Z.hx Z.hb dX2_addPackage_53 (by decide) ?_
            refine lv_goto (tgt := 71) Z.hx Z.hb dX2_addPackage_54 (by decide) ?_
            -- LinkResolverModel.holds
            refine z_gcallV (rest := []) (As := [.int 1]) Z (m_holdsN G l H o A (sV σ N th) f hM ha 1 (by decide)) gw_X2_64 gd_X2_64 rfl hM.ob rfl hl.1 (Nat.le_of_ble_eq_true rfl) rfl dX2_addPackage_71 ⟨⟨Nat.le_of_ble_eq_true rfl, Nat.le_of_ble_eq_true rfl⟩, Nat.le_of_ble_eq_true rfl, Nat.le_of_ble_eq_true rfl⟩ hL (fun H_4 locs hL hP_ => ?_)
            obtain ⟨hM_4, hF_4⟩ := hP_
            refine lv_if_ne (tgt := 79) Z.hx Z.hb dX2_addPackage_74 (by decide) (fun c74 => ?_) (fun c74 => ?_)
            · exact absurd (by decide) c74
            · skip
              refine lv_iconst (v := 0) Z.hx Z.hb dX2_addPackage_77 (by decide) ?_
              exact z_iret Z hr hL (mPost.no hM_4 hF_4 hS (by simp [kAddP, kIf, kPT, sAsk, c8, c17, c27, c37, c50, c74]) (by decide)) (Nat.le_of_ble_eq_true rfl) (Nat.le_of_ble_eq_true rfl) dX2_addPackage_78
        · skip
          have c37 : (mBt k 0 1) = true := zb_n.mp c37
          refine lv_iconst (v := 1) Z.hx Z.hb dX2_addPackage_40 (by decide) ?_
          refine lv_goto (tgt := 45) Z.hx Z.hb dX2_addPackage_41 (by decide) ?_
          refine lv_istore (lv' := [(5, .int 1), (0, .ref o), (1, .int a), (2, .int b), (3, .int g), (4, .int k)]) Z.hx Z.hb dX2_addPackage_45 hl (by decide) rfl (fun ls hl => ?_)
          refine lv_aload_n Z.hx Z.hb dX2_addPackage_47 rfl (lv_at hl 1 rfl) ?_
          refine lv_iload Z.hx Z.hb dX2_addPackage_48 (lv_at hl 0 rfl) ?_
          refine lv_if_ne (tgt := 57) Z.hx Z.hb dX2_addPackage_50 (by decide) (fun c50 => ?_) (fun c50 => ?_)
          · skip
            refine lv_aload_n Z.hx Z.hb dX2_addPackage_57 rfl (lv_at hl 1 rfl) ?_
            refine gf_X2_57 Z hM.ob (v := .int (nI (sP σ))) rfl dX2_addPackage_58 ?_
            refine lv_bipush (v := 10) Z.hx Z.hb dX2_addPackage_61 (by decide) ?_
            refine lv_icmp_ne (tgt := 70) Z.hx Z.hb dX2_addPackage_63 (by decide) (fun c63 => ?_) (fun c63 => ?_)
            · skip
              have hlt : sP σ < 10 := by
                rcases Nat.lt_or_ge (sP σ) 10 with g | g
                · exact g
                · exact absurd (by rw [show sP σ = 10 by omega]; rfl) c63
              refine lv_iconst (v := 0) Z.hx Z.hb dX2_addPackage_70 (by decide) ?_
              -- LinkResolverModel.holds
              refine z_gcallV (rest := []) (As := [.int 0]) Z (m_holds0 G l H o A (sV σ N th) f hM ha) gw_X2_64 gd_X2_64 rfl hM.ob rfl hl.1 (Nat.le_of_ble_eq_true rfl) rfl dX2_addPackage_71 ⟨⟨Nat.le_of_ble_eq_true rfl, Nat.le_of_ble_eq_true rfl⟩, Nat.le_of_ble_eq_true rfl, Nat.le_of_ble_eq_true rfl⟩ hL (fun H_5 locs hL hP_ => ?_)
              obtain ⟨hM_5, hF_5⟩ := hP_
              refine lv_if_ne (tgt := 79) Z.hx Z.hb dX2_addPackage_74 (by decide) (fun c74 => ?_) (fun c74 => ?_)
              · skip
                refine lv_aload_n Z.hx Z.hb dX2_addPackage_79 rfl (lv_at hl 1 rfl) ?_
                refine gf_X2_16 Z hM_5.ob (v := .ref (A 6)) rfl dX2_addPackage_80 ?_
                refine lv_aload_n Z.hx Z.hb dX2_addPackage_83 rfl (lv_at hl 1 rfl) ?_
                refine gf_X2_57 Z hM_5.ob (v := .int (nI (sP σ))) rfl dX2_addPackage_84 ?_
                refine lv_iload_n Z.hx Z.hb dX2_addPackage_87 rfl (lv_at hl 2 rfl) ?_
                refine z_iastN Z hM_5.a6 (k := (sP σ)) hlt (by decide) hL (ha.2.1 6 rfl).1 dX2_addPackage_88 (fun H_6 locs hL hA_ hz_ hq_ => ?_)
                have hM_6 : mRep G H_6 o A (va_up (sV σ N th) 0 0) (va_up f 6 (upd (f 6) (sP σ) a)) := hM_5.setA ha 6 rfl hA_ hq_
                have hF_6 : mFr o A H H_6 := hF_5.trans (mFr.a 6 rfl hz_ hq_)
                refine lv_aload_n Z.hx Z.hb dX2_addPackage_89 rfl (lv_at hl 1 rfl) ?_
                refine gf_X2_19 Z hM_6.ob (v := .ref (A 7)) rfl dX2_addPackage_90 ?_
                refine lv_aload_n Z.hx Z.hb dX2_addPackage_93 rfl (lv_at hl 1 rfl) ?_
                refine gf_X2_57 Z hM_6.ob (v := .int (nI (sP σ))) rfl dX2_addPackage_94 ?_
                refine lv_iload_n Z.hx Z.hb dX2_addPackage_97 rfl (lv_at hl 3 rfl) ?_
                refine z_iastN Z hM_6.a7 (k := (sP σ)) hlt (by decide) hL (ha.2.1 7 rfl).1 dX2_addPackage_98 (fun H_7 locs hL hA_ hz_ hq_ => ?_)
                have hM_7 : mRep G H_7 o A (va_up (sV σ N th) 0 0) (va_up (va_up f 6 (upd (f 6) (sP σ) a)) 7 (upd (f 7) (sP σ) b)) := hM_6.setA ha 7 rfl hA_ hq_
                have hF_7 : mFr o A H H_7 := hF_6.trans (mFr.a 7 rfl hz_ hq_)
                refine lv_aload_n Z.hx Z.hb dX2_addPackage_99 rfl (lv_at hl 1 rfl) ?_
                refine gf_X2_22 Z hM_7.ob (v := .ref (A 8)) rfl dX2_addPackage_100 ?_
                refine lv_aload_n Z.hx Z.hb dX2_addPackage_103 rfl (lv_at hl 1 rfl) ?_
                refine gf_X2_57 Z hM_7.ob (v := .int (nI (sP σ))) rfl dX2_addPackage_104 ?_
                refine lv_iload_n Z.hx Z.hb dX2_addPackage_107 rfl (lv_at hl 4 rfl) ?_
                refine z_iastN Z hM_7.a8 (k := (sP σ)) hlt (by decide) hL (ha.2.1 8 rfl).1 dX2_addPackage_108 (fun H_8 locs hL hA_ hz_ hq_ => ?_)
                have hM_8 : mRep G H_8 o A (va_up (sV σ N th) 0 0) (va_up (va_up (va_up f 6 (upd (f 6) (sP σ) a)) 7 (upd (f 7) (sP σ) b)) 8 (upd (f 8) (sP σ) g)) := hM_7.setA ha 8 rfl hA_ hq_
                have hF_8 : mFr o A H H_8 := hF_7.trans (mFr.a 8 rfl hz_ hq_)
                refine lv_aload_n Z.hx Z.hb dX2_addPackage_109 rfl (lv_at hl 1 rfl) ?_
                refine gf_X2_25 Z hM_8.ob (v := .ref (A 9)) rfl dX2_addPackage_110 ?_
                refine lv_aload_n Z.hx Z.hb dX2_addPackage_113 rfl (lv_at hl 1 rfl) ?_
                refine gf_X2_57 Z hM_8.ob (v := .int (nI (sP σ))) rfl dX2_addPackage_114 ?_
                refine lv_iload Z.hx Z.hb dX2_addPackage_117 (lv_at hl 5 rfl) ?_
                refine lv_iconst (v := 1) Z.hx Z.hb dX2_addPackage_119 (by decide) ?_
                refine lv_icmp_ne (tgt := 127) Z.hx Z.hb dX2_addPackage_120 (by decide) (fun c120 => ?_) (fun c120 => ?_)
                · skip
                  have hk0 : k = 0 := by
                    simp only [mBt, Bool.and_eq_true, Bool.not_eq_true', decide_eq_false_iff_not] at c37
                    rcases nI_of2 (M := 1) (n := 1) (by decide) c37.1 (Int32.not_lt.mp c37.2) with ⟨j, hj, rfl⟩
                    rcases j with _ | _ | j
                    · rfl
                    · exact absurd rfl c120
                    · omega
                  refine lv_iconst (v := 0) Z.hx Z.hb dX2_addPackage_127 (by decide) ?_
                  refine z_zastN Z hM_8.a9 (k := (sP σ)) (Or.inl rfl) hlt (by decide) hL (ha.2.1 9 rfl).1 dX2_addPackage_128 (fun H_9 locs hL hA_ hz_ hq_ => ?_)
                  have hM_9 : mRep G H_9 o A (va_up (sV σ N th) 0 0) (va_up (va_up (va_up (va_up f 6 (upd (f 6) (sP σ) a)) 7 (upd (f 7) (sP σ) b)) 8 (upd (f 8) (sP σ) g)) 9 (upd (f 9) (sP σ) 0)) := hM_8.setA ha 9 rfl hA_ hq_
                  have hF_9 : mFr o A H H_9 := hF_8.trans (mFr.a 9 rfl hz_ hq_)
                  refine lv_aload_n Z.hx Z.hb dX2_addPackage_129 rfl (lv_at hl 1 rfl) ?_
                  refine lv_dup Z.hx Z.hb dX2_addPackage_130 rfl ?_
                  refine gf_X2_57 Z hM_9.ob (v := .int (nI (sP σ))) rfl dX2_addPackage_131 ?_
                  refine lv_iconst (v := 1) Z.hx Z.hb dX2_addPackage_134 (by decide) ?_
                  refine lv_iadd Z.hx Z.hb dX2_addPackage_135 ?_
                  refine pf_X2_57 Z hM_9.ob (Nat.le_of_ble_eq_true rfl) hL ha.1 dX2_addPackage_136 (fun H_10 locs hL hO_ hz_ hq_ => ?_)
                  have hM_10 : mRep G H_10 o A (va_up (va_up (sV σ N th) 0 0) 3 ((nI (sP σ)) + 1)) (va_up (va_up (va_up (va_up f 6 (upd (f 6) (sP σ) a)) 7 (upd (f 7) (sP σ) b)) 8 (upd (f 8) (sP σ) g)) 9 (upd (f 9) (sP σ) 0)) := hM_9.setV ha (v' := va_up (va_up (sV σ N th) 0 0) 3 ((nI (sP σ)) + 1)) hO_ hq_
                  have hF_10 : mFr o A H H_10 := hF_9.trans (mFr.o hz_ hq_)
                  refine lv_aload_n Z.hx Z.hb dX2_addPackage_139 rfl (lv_at hl 1 rfl) ?_
                  refine gf_X2_57 Z hM_10.ob (v := .int ((nI (sP σ)) + 1)) rfl dX2_addPackage_140 ?_
                  refine lv_iconst (v := 1) Z.hx Z.hb dX2_addPackage_143 (by decide) ?_
                  refine lv_isub Z.hx Z.hb dX2_addPackage_144 ?_
                  exact z_iret Z hr hL (mPost.mut hM_10 hF_10 rfl (Nat.le_succ N) (by rw [hk0]; exact hS.addP a b g _ 0) (by simp [kAddP, kIf, c8, c17, c27, c37, c50, c63, c74]) (Int32.add_sub_cancel _ _)) (Nat.le_of_ble_eq_true rfl) (Nat.le_of_ble_eq_true rfl) dX2_addPackage_145
                · skip
                  refine lv_iconst (v := 1) Z.hx Z.hb dX2_addPackage_123 (by decide) ?_
                  refine lv_goto (tgt := 128) Z.hx Z.hb dX2_addPackage_124 (by decide) ?_
                  refine z_zastN Z hM_8.a9 (k := (sP σ)) (Or.inr rfl) hlt (by decide) hL (ha.2.1 9 rfl).1 dX2_addPackage_128 (fun H_11 locs hL hA_ hz_ hq_ => ?_)
                  have hM_11 : mRep G H_11 o A (va_up (sV σ N th) 0 0) (va_up (va_up (va_up (va_up f 6 (upd (f 6) (sP σ) a)) 7 (upd (f 7) (sP σ) b)) 8 (upd (f 8) (sP σ) g)) 9 (upd (f 9) (sP σ) 1)) := hM_8.setA ha 9 rfl hA_ hq_
                  have hF_11 : mFr o A H H_11 := hF_8.trans (mFr.a 9 rfl hz_ hq_)
                  refine lv_aload_n Z.hx Z.hb dX2_addPackage_129 rfl (lv_at hl 1 rfl) ?_
                  refine lv_dup Z.hx Z.hb dX2_addPackage_130 rfl ?_
                  refine gf_X2_57 Z hM_11.ob (v := .int (nI (sP σ))) rfl dX2_addPackage_131 ?_
                  refine lv_iconst (v := 1) Z.hx Z.hb dX2_addPackage_134 (by decide) ?_
                  refine lv_iadd Z.hx Z.hb dX2_addPackage_135 ?_
                  refine pf_X2_57 Z hM_11.ob (Nat.le_of_ble_eq_true rfl) hL ha.1 dX2_addPackage_136 (fun H_12 locs hL hO_ hz_ hq_ => ?_)
                  have hM_12 : mRep G H_12 o A (va_up (va_up (sV σ N th) 0 0) 3 ((nI (sP σ)) + 1)) (va_up (va_up (va_up (va_up f 6 (upd (f 6) (sP σ) a)) 7 (upd (f 7) (sP σ) b)) 8 (upd (f 8) (sP σ) g)) 9 (upd (f 9) (sP σ) 1)) := hM_11.setV ha (v' := va_up (va_up (sV σ N th) 0 0) 3 ((nI (sP σ)) + 1)) hO_ hq_
                  have hF_12 : mFr o A H H_12 := hF_11.trans (mFr.o hz_ hq_)
                  refine lv_aload_n Z.hx Z.hb dX2_addPackage_139 rfl (lv_at hl 1 rfl) ?_
                  refine gf_X2_57 Z hM_12.ob (v := .int ((nI (sP σ)) + 1)) rfl dX2_addPackage_140 ?_
                  refine lv_iconst (v := 1) Z.hx Z.hb dX2_addPackage_143 (by decide) ?_
                  refine lv_isub Z.hx Z.hb dX2_addPackage_144 ?_
                  exact z_iret Z hr hL (mPost.mut hM_12 hF_12 rfl (Nat.le_succ N) (by rw [c120]; exact hS.addP a b g _ 0) (by simp [kAddP, kIf, c8, c17, c27, c37, c50, c63, c74]) (Int32.add_sub_cancel _ _)) (Nat.le_of_ble_eq_true rfl) (Nat.le_of_ble_eq_true rfl) dX2_addPackage_145
              · exact absurd c74 (by decide)
            · skip
              refine lv_iconst (v := 2) Z.hx Z.hb dX2_addPackage_66 (by decide) ?_
              refine lv_goto (tgt := 71) Z.hx Z.hb dX2_addPackage_67 (by decide) ?_
              -- LinkResolverModel.holds
              refine z_gcallV (rest := []) (As := [.int 2]) Z (m_holdsN G l H o A (sV σ N th) f hM ha 2 (by decide)) gw_X2_64 gd_X2_64 rfl hM.ob rfl hl.1 (Nat.le_of_ble_eq_true rfl) rfl dX2_addPackage_71 ⟨⟨Nat.le_of_ble_eq_true rfl, Nat.le_of_ble_eq_true rfl⟩, Nat.le_of_ble_eq_true rfl, Nat.le_of_ble_eq_true rfl⟩ hL (fun H_13 locs hL hP_ => ?_)
              obtain ⟨hM_13, hF_13⟩ := hP_
              refine lv_if_ne (tgt := 79) Z.hx Z.hb dX2_addPackage_74 (by decide) (fun c74 => ?_) (fun c74 => ?_)
              · exact absurd (by decide) c74
              · skip
                refine lv_iconst (v := 0) Z.hx Z.hb dX2_addPackage_77 (by decide) ?_
                exact z_iret Z hr hL (mPost.no hM_13 hF_13 hS (by simp [kAddP, kIf, kPT, sAsk, c8, c17, c27, c37, c50, c63, c74]) (by decide)) (Nat.le_of_ble_eq_true rfl) (Nat.le_of_ble_eq_true rfl) dX2_addPackage_78
          · exact absurd c50 (by decide)
set_option maxHeartbeats 4000000 in
set_option maxRecDepth 100000 in
theorem m_subscribe (G : zG) (l : Launch) (H : Heap) (o : Nat) (A : Nat → Nat) (f : Nat → Nat → Int32) (ha : mAd G o A) (σ : zS) (N : Nat) (th : Int32) (hM : mRep G H o A (sV σ N th) f) (hS : mSim σ N (sV σ N th) f) (hW : sWf σ) (hNl : N < 4096) (p on : Int32) (hon : on = 0 ∨ on = 1) : zM G l yX2_subscribe cX2_subscribe 3 (Option.some Jvm.ClassFile.FieldType.boolean) 2 0 0 [.ref o, .int p, .int on] H (mPost G H o A N σ (sNote σ p.toNatClampNeg 20 on 0 0 0) (kPk σ p) (zb (sOn (sL σ p.toNatClampNeg 20 (sT σ))))) := by
  have hN : N ≤ 4096 := Nat.le_of_lt hNl
  have hN1 : sV σ N th 11 = nI N := rfl
  have hN20 : sN σ ≤ 20 := hW.2.1
  have hnP : sP σ ≤ 10 := hW.2.2.1
  refine zM.of (by decide +kernel) (Nat.le_of_ble_eq_true rfl) ?_
  intro p0 e0 s0 m0 args0 below0 meth0 c0 Z hr hH hn ls hl
  have Z : zC G p0 s0 m0 args0 meth0 c0 RX2 cX2_subscribe 3 := Z
  have hl : lv_has ls 3 [(0, .ref o), (1, .int p), (2, .int on)] := hl
  have hL : zL G [] := zL.nil
  refine lv_aload_n Z.hx Z.hb dX2_subscribe_0 rfl (lv_at hl 0 rfl) ?_
  refine lv_aload_n Z.hx Z.hb dX2_subscribe_1 rfl (lv_at hl 0 rfl) ?_
  refine lv_iload_n Z.hx Z.hb dX2_subscribe_2 rfl (lv_at hl 1 rfl) ?_
  -- LinkResolverModel.isPackage
  refine z_pcallV (rest := [.ref o]) (As := [.int p]) Z (m_isPackage G l H o A (sV σ N th) f hM p) gw_X2_81 gd_X2_81 rfl hM.ob rfl hl.1 (Nat.le_of_ble_eq_true rfl) rfl dX2_subscribe_3 ⟨⟨Nat.le_of_ble_eq_true rfl, Nat.le_of_ble_eq_true rfl⟩, Nat.le_of_ble_eq_true rfl, Nat.le_of_ble_eq_true rfl⟩ hL (fun locs hL => ?_)
  refine lv_if_eq (tgt := 13) Z.hx Z.hb dX2_subscribe_6 (by decide) (fun c6 => ?_) (fun c6 => ?_)
  · skip
    have c6 : (mIs p (nI (sP σ))) = false := zb_0.mp c6
    refine lv_iconst (v := 1) Z.hx Z.hb dX2_subscribe_13 (by decide) ?_
    -- LinkResolverModel.holds
    refine z_gcallV (rest := []) (As := [.int 1]) Z (m_holdsN G l H o A (sV σ N th) f hM ha 1 (by decide)) gw_X2_64 gd_X2_64 rfl hM.ob rfl hl.1 (Nat.le_of_ble_eq_true rfl) rfl dX2_subscribe_14 ⟨⟨Nat.le_of_ble_eq_true rfl, Nat.le_of_ble_eq_true rfl⟩, Nat.le_of_ble_eq_true rfl, Nat.le_of_ble_eq_true rfl⟩ hL (fun H_1 locs hL hP_ => ?_)
    obtain ⟨hM_1, hF_1⟩ := hP_
    refine lv_if_eq (tgt := 39) Z.hx Z.hb dX2_subscribe_17 (by decide) (fun c17 => ?_) (fun c17 => ?_)
    · skip
      refine lv_iconst (v := 0) Z.hx Z.hb dX2_subscribe_39 (by decide) ?_
      exact z_zret Z hr hL (by decide) (mPost.no hM_1 hF_1 hS (by simp [kPk, kIf, kPT, sAsk, c6, c17]) (by decide)) (Nat.le_of_ble_eq_true rfl) (Nat.le_of_ble_eq_true rfl) dX2_subscribe_40
    · exact absurd (by decide) c17
  · skip
    have c6 : (mIs p (nI (sP σ))) = true := zb_n.mp c6
    obtain ⟨jp, hjp, rfl⟩ := mIs_nI (by omega) c6
    have hjpi := c6
    have hjpc : (nI jp).toNatClampNeg = jp := nI_clamp (by omega)
    have hjpl : jp < 10 := by omega
    refine lv_iconst (v := 0) Z.hx Z.hb dX2_subscribe_9 (by decide) ?_
    refine lv_goto (tgt := 14) Z.hx Z.hb dX2_subscribe_10 (by decide) ?_
    -- LinkResolverModel.holds
    refine z_gcallV (rest := []) (As := [.int 0]) Z (m_holds0 G l H o A (sV σ N th) f hM ha) gw_X2_64 gd_X2_64 rfl hM.ob rfl hl.1 (Nat.le_of_ble_eq_true rfl) rfl dX2_subscribe_14 ⟨⟨Nat.le_of_ble_eq_true rfl, Nat.le_of_ble_eq_true rfl⟩, Nat.le_of_ble_eq_true rfl, Nat.le_of_ble_eq_true rfl⟩ hL (fun H_2 locs hL hP_ => ?_)
    obtain ⟨hM_2, hF_2⟩ := hP_
    refine lv_if_eq (tgt := 39) Z.hx Z.hb dX2_subscribe_17 (by decide) (fun c17 => ?_) (fun c17 => ?_)
    · exact absurd c17 (by decide)
    · skip
      refine lv_aload_n Z.hx Z.hb dX2_subscribe_20 rfl (lv_at hl 0 rfl) ?_
      refine lv_iload_n Z.hx Z.hb dX2_subscribe_21 rfl (lv_at hl 1 rfl) ?_
      -- LinkResolverModel.subscription
      refine z_pcallS (rest := [.ref o]) (As := [.int (nI jp)]) Z (m_subscription G l H_2 (nI jp)) gw_X2_84 gd_X2_84 rfl hl.1 (Nat.le_of_ble_eq_true rfl) rfl dX2_subscribe_22 ⟨⟨Nat.le_of_ble_eq_true rfl, Nat.le_of_ble_eq_true rfl⟩, Nat.le_of_ble_eq_true rfl, Nat.le_of_ble_eq_true rfl⟩ hL (fun locs hL => ?_)
      refine lv_iload_n Z.hx Z.hb dX2_subscribe_25 rfl (lv_at hl 2 rfl) ?_
      refine lv_iconst (v := 0) Z.hx Z.hb dX2_subscribe_26 (by decide) ?_
      refine lv_iconst (v := 0) Z.hx Z.hb dX2_subscribe_27 (by decide) ?_
      refine lv_iconst (v := 0) Z.hx Z.hb dX2_subscribe_28 (by decide) ?_
      -- LinkResolverModel.notes
      refine z_gcallV (rest := []) (As := [.int (21 * (nI jp) + 20), .int on, .int 0, .int 0, .int 0]) Z (m_notes G l H_2 o A (va_up (sV σ N th) 0 0) f hM_2 ha N hNl hN rfl (mW jp 20) on 0 0 0 hon) gw_X2_88 gd_X2_88 rfl hM_2.ob rfl hl.1 (Nat.le_of_ble_eq_true rfl) rfl dX2_subscribe_29 ⟨⟨Nat.le_of_ble_eq_true rfl, Nat.le_of_ble_eq_true rfl⟩, Nat.le_of_ble_eq_true rfl, Nat.le_of_ble_eq_true rfl⟩ hL (fun H_3 locs hL hP_ => ?_)
      obtain ⟨hM_3, hF_3⟩ := hP_
      have hF_3 := hF_2.trans hF_3
      refine lv_if_eq (tgt := 39) Z.hx Z.hb dX2_subscribe_32 (by decide) (fun c32 => ?_) (fun c32 => ?_)
      · skip
        have c32 : (mOn f (mCh f (mW jp 20) (sT σ) N)) = false := zb_0.mp c32
        refine lv_iconst (v := 0) Z.hx Z.hb dX2_subscribe_39 (by decide) ?_
        exact z_zret Z hr hL (by decide) (mPost.mut hM_3 hF_3 rfl (mNn_le f (mW jp 20) _ N) (by rw [hjpc]; exact hS.note (by omega) (Nat.le_refl 20) hNl on 0 0 0 0) (by simp [kPk, kIf, kPT, hjpi, hjpc, c17]) (by rw [hjpc, ← mOn_s hS (by omega) (Nat.le_refl 20), c32]; rfl)) (Nat.le_of_ble_eq_true rfl) (Nat.le_of_ble_eq_true rfl) dX2_subscribe_40
      · skip
        have c32 : (mOn f (mCh f (mW jp 20) (sT σ) N)) = true := zb_n.mp c32
        refine lv_iconst (v := 1) Z.hx Z.hb dX2_subscribe_35 (by decide) ?_
        refine lv_goto (tgt := 40) Z.hx Z.hb dX2_subscribe_36 (by decide) ?_
        exact z_zret Z hr hL (by decide) (mPost.mut hM_3 hF_3 rfl (mNn_le f (mW jp 20) _ N) (by rw [hjpc]; exact hS.note (by omega) (Nat.le_refl 20) hNl on 0 0 0 0) (by simp [kPk, kIf, kPT, hjpi, hjpc, c17]) (by rw [hjpc, ← mOn_s hS (by omega) (Nat.le_refl 20), c32]; rfl)) (Nat.le_of_ble_eq_true rfl) (Nat.le_of_ble_eq_true rfl) dX2_subscribe_40
set_option maxHeartbeats 4000000 in
set_option maxRecDepth 100000 in
theorem m_come (G : zG) (l : Launch) (H : Heap) (o : Nat) (A : Nat → Nat) (f : Nat → Nat → Int32) (ha : mAd G o A) (σ : zS) (N : Nat) (th : Int32) (hM : mRep G H o A (sV σ N th) f) (hS : mSim σ N (sV σ N th) f) (hW : sWf σ) (hNl : N < 4096) (p t fi la wa : Int32) : zM G l yX2_come cX2_come 8 (Option.some Jvm.ClassFile.FieldType.boolean) 2 0 0 [.ref o, .int p, .int t, .int fi, .int la, .int wa] H (mPost G H o A N σ (sNote σ p.toNatClampNeg t.toNatClampNeg 1 fi la wa) (kCome σ p t fi la wa) (zb (sOn (sL σ p.toNatClampNeg t.toNatClampNeg (sT σ))))) := by
  have hN : N ≤ 4096 := Nat.le_of_lt hNl
  have hN1 : sV σ N th 11 = nI N := rfl
  have hN20 : sN σ ≤ 20 := hW.2.1
  have hnP : sP σ ≤ 10 := hW.2.2.1
  refine zM.of (by decide +kernel) (Nat.le_of_ble_eq_true rfl) ?_
  intro p0 e0 s0 m0 args0 below0 meth0 c0 Z hr hH hn ls hl
  have Z : zC G p0 s0 m0 args0 meth0 c0 RX2 cX2_come 8 := Z
  have hl : lv_has ls 8 [(0, .ref o), (1, .int p), (2, .int t), (3, .int fi), (4, .int la), (5, .int wa)] := hl
  have hL : zL G [] := zL.nil
  refine lv_aload_n Z.hx Z.hb dX2_come_0 rfl (lv_at hl 0 rfl) ?_
  refine lv_iload_n Z.hx Z.hb dX2_come_1 rfl (lv_at hl 1 rfl) ?_
  -- LinkResolverModel.isPackage
  refine z_pcallV (rest := []) (As := [.int p]) Z (m_isPackage G l H o A (sV σ N th) f hM p) gw_X2_81 gd_X2_81 rfl hM.ob rfl hl.1 (Nat.le_of_ble_eq_true rfl) rfl dX2_come_2 ⟨⟨Nat.le_of_ble_eq_true rfl, Nat.le_of_ble_eq_true rfl⟩, Nat.le_of_ble_eq_true rfl, Nat.le_of_ble_eq_true rfl⟩ hL (fun locs hL => ?_)
  refine lv_if_eq (tgt := 20) Z.hx Z.hb dX2_come_5 (by decide) (fun c5 => ?_) (fun c5 => ?_)
  · skip
    have c5 : (mIs p (nI (sP σ))) = false := zb_0.mp c5
    refine lv_iconst (v := 0) Z.hx Z.hb dX2_come_20 (by decide) ?_
    refine lv_istore (lv' := [(6, .int 0), (0, .ref o), (1, .int p), (2, .int t), (3, .int fi), (4, .int la), (5, .int wa)]) Z.hx Z.hb dX2_come_21 hl (by decide) rfl (fun ls hl => ?_)
    refine lv_iload_n Z.hx Z.hb dX2_come_23 rfl (lv_at hl 4 rfl) ?_
    refine lv_iconst (v := 0) Z.hx Z.hb dX2_come_24 (by decide) ?_
    refine lv_bipush (v := 55) Z.hx Z.hb dX2_come_25 (by decide) ?_
    -- LinkResolverModel.isBetween
    refine z_pcallS (rest := []) (As := [.int fi, .int 0, .int 55]) Z (m_isBetween G l H fi 0 55) gw_X2_60 gd_X2_60 rfl hl.1 (Nat.le_of_ble_eq_true rfl) rfl dX2_come_27 ⟨⟨Nat.le_of_ble_eq_true rfl, Nat.le_of_ble_eq_true rfl⟩, Nat.le_of_ble_eq_true rfl, Nat.le_of_ble_eq_true rfl⟩ hL (fun locs hL => ?_)
    refine lv_if_eq (tgt := 59) Z.hx Z.hb dX2_come_30 (by decide) (fun c30 => ?_) (fun c30 => ?_)
    · skip
      have c30 : (mBt fi 0 55) = false := zb_0.mp c30
      refine lv_iconst (v := 0) Z.hx Z.hb dX2_come_59 (by decide) ?_
      refine lv_istore (lv' := [(7, .int 0), (6, .int 0), (0, .ref o), (1, .int p), (2, .int t), (3, .int fi), (4, .int la), (5, .int wa)]) Z.hx Z.hb dX2_come_60 hl (by decide) rfl (fun ls hl => ?_)
      refine lv_aload_n Z.hx Z.hb dX2_come_62 rfl (lv_at hl 2 rfl) ?_
      refine lv_iload Z.hx Z.hb dX2_come_63 (lv_at hl 1 rfl) ?_
      refine lv_if_ne (tgt := 72) Z.hx Z.hb dX2_come_65 (by decide) (fun c65 => ?_) (fun c65 => ?_)
      · exact absurd (by decide) c65
      · skip
        refine lv_iconst (v := 1) Z.hx Z.hb dX2_come_68 (by decide) ?_
        refine lv_goto (tgt := 82) Z.hx Z.hb dX2_come_69 (by decide) ?_
        -- LinkResolverModel.holds
        refine z_gcallV (rest := []) (As := [.int 1]) Z (m_holdsN G l H o A (sV σ N th) f hM ha 1 (by decide)) gw_X2_64 gd_X2_64 rfl hM.ob rfl hl.1 (Nat.le_of_ble_eq_true rfl) rfl dX2_come_82 ⟨⟨Nat.le_of_ble_eq_true rfl, Nat.le_of_ble_eq_true rfl⟩, Nat.le_of_ble_eq_true rfl, Nat.le_of_ble_eq_true rfl⟩ hL (fun H_1 locs hL hP_ => ?_)
        obtain ⟨hM_1, hF_1⟩ := hP_
        refine lv_if_eq (tgt := 111) Z.hx Z.hb dX2_come_85 (by decide) (fun c85 => ?_) (fun c85 => ?_)
        · skip
          refine lv_iconst (v := 0) Z.hx Z.hb dX2_come_111 (by decide) ?_
          exact z_zret Z hr hL (by decide) (mPost.no hM_1 hF_1 hS (by simp [kCome, kIf, kPT, sAsk, c5, c30, c65, c85]) (by decide)) (Nat.le_of_ble_eq_true rfl) (Nat.le_of_ble_eq_true rfl) dX2_come_112
        · exact absurd (by decide) c85
    · skip
      have c30 : (mBt fi 0 55) = true := zb_n.mp c30
      refine lv_iload Z.hx Z.hb dX2_come_33 (lv_at hl 5 rfl) ?_
      refine lv_iload_n Z.hx Z.hb dX2_come_35 rfl (lv_at hl 4 rfl) ?_
      refine lv_bipush (v := 55) Z.hx Z.hb dX2_come_36 (by decide) ?_
      -- LinkResolverModel.isBetween
      refine z_pcallS (rest := []) (As := [.int la, .int fi, .int 55]) Z (m_isBetween G l H la fi 55) gw_X2_60 gd_X2_60 rfl hl.1 (Nat.le_of_ble_eq_true rfl) rfl dX2_come_38 ⟨⟨Nat.le_of_ble_eq_true rfl, Nat.le_of_ble_eq_true rfl⟩, Nat.le_of_ble_eq_true rfl, Nat.le_of_ble_eq_true rfl⟩ hL (fun locs hL => ?_)
      refine lv_if_eq (tgt := 59) Z.hx Z.hb dX2_come_41 (by decide) (fun c41 => ?_) (fun c41 => ?_)
      · skip
        have c41 : (mBt la fi 55) = false := zb_0.mp c41
        refine lv_iconst (v := 0) Z.hx Z.hb dX2_come_59 (by decide) ?_
        refine lv_istore (lv' := [(7, .int 0), (6, .int 0), (0, .ref o), (1, .int p), (2, .int t), (3, .int fi), (4, .int la), (5, .int wa)]) Z.hx Z.hb dX2_come_60 hl (by decide) rfl (fun ls hl => ?_)
        refine lv_aload_n Z.hx Z.hb dX2_come_62 rfl (lv_at hl 2 rfl) ?_
        refine lv_iload Z.hx Z.hb dX2_come_63 (lv_at hl 1 rfl) ?_
        refine lv_if_ne (tgt := 72) Z.hx Z.hb dX2_come_65 (by decide) (fun c65 => ?_) (fun c65 => ?_)
        · exact absurd (by decide) c65
        · skip
          refine lv_iconst (v := 1) Z.hx Z.hb dX2_come_68 (by decide) ?_
          refine lv_goto (tgt := 82) Z.hx Z.hb dX2_come_69 (by decide) ?_
          -- LinkResolverModel.holds
          refine z_gcallV (rest := []) (As := [.int 1]) Z (m_holdsN G l H o A (sV σ N th) f hM ha 1 (by decide)) gw_X2_64 gd_X2_64 rfl hM.ob rfl hl.1 (Nat.le_of_ble_eq_true rfl) rfl dX2_come_82 ⟨⟨Nat.le_of_ble_eq_true rfl, Nat.le_of_ble_eq_true rfl⟩, Nat.le_of_ble_eq_true rfl, Nat.le_of_ble_eq_true rfl⟩ hL (fun H_2 locs hL hP_ => ?_)
          obtain ⟨hM_2, hF_2⟩ := hP_
          refine lv_if_eq (tgt := 111) Z.hx Z.hb dX2_come_85 (by decide) (fun c85 => ?_) (fun c85 => ?_)
          · skip
            refine lv_iconst (v := 0) Z.hx Z.hb dX2_come_111 (by decide) ?_
            exact z_zret Z hr hL (by decide) (mPost.no hM_2 hF_2 hS (by simp [kCome, kIf, kPT, sAsk, c5, c30, c41, c65, c85]) (by decide)) (Nat.le_of_ble_eq_true rfl) (Nat.le_of_ble_eq_true rfl) dX2_come_112
          · exact absurd (by decide) c85
      · skip
        have c41 : (mBt la fi 55) = true := zb_n.mp c41
        refine lv_iload Z.hx Z.hb dX2_come_44 (lv_at hl 6 rfl) ?_
        refine lv_iconst (v := 0) Z.hx Z.hb dX2_come_46 (by decide) ?_
        refine lv_bipush (v := 20) Z.hx Z.hb dX2_come_47 (by decide) ?_
        -- LinkResolverModel.isBetween
        refine z_pcallS (rest := []) (As := [.int wa, .int 0, .int 20]) Z (m_isBetween G l H wa 0 20) gw_X2_60 gd_X2_60 rfl hl.1 (Nat.le_of_ble_eq_true rfl) rfl dX2_come_49 ⟨⟨Nat.le_of_ble_eq_true rfl, Nat.le_of_ble_eq_true rfl⟩, Nat.le_of_ble_eq_true rfl, Nat.le_of_ble_eq_true rfl⟩ hL (fun locs hL => ?_)
        refine lv_if_eq (tgt := 59) Z.hx Z.hb dX2_come_52 (by decide) (fun c52 => ?_) (fun c52 => ?_)
        · skip
          have c52 : (mBt wa 0 20) = false := zb_0.mp c52
          refine lv_iconst (v := 0) Z.hx Z.hb dX2_come_59 (by decide) ?_
          refine lv_istore (lv' := [(7, .int 0), (6, .int 0), (0, .ref o), (1, .int p), (2, .int t), (3, .int fi), (4, .int la), (5, .int wa)]) Z.hx Z.hb dX2_come_60 hl (by decide) rfl (fun ls hl => ?_)
          refine lv_aload_n Z.hx Z.hb dX2_come_62 rfl (lv_at hl 2 rfl) ?_
          refine lv_iload Z.hx Z.hb dX2_come_63 (lv_at hl 1 rfl) ?_
          refine lv_if_ne (tgt := 72) Z.hx Z.hb dX2_come_65 (by decide) (fun c65 => ?_) (fun c65 => ?_)
          · exact absurd (by decide) c65
          · skip
            refine lv_iconst (v := 1) Z.hx Z.hb dX2_come_68 (by decide) ?_
            refine lv_goto (tgt := 82) Z.hx Z.hb dX2_come_69 (by decide) ?_
            -- LinkResolverModel.holds
            refine z_gcallV (rest := []) (As := [.int 1]) Z (m_holdsN G l H o A (sV σ N th) f hM ha 1 (by decide)) gw_X2_64 gd_X2_64 rfl hM.ob rfl hl.1 (Nat.le_of_ble_eq_true rfl) rfl dX2_come_82 ⟨⟨Nat.le_of_ble_eq_true rfl, Nat.le_of_ble_eq_true rfl⟩, Nat.le_of_ble_eq_true rfl, Nat.le_of_ble_eq_true rfl⟩ hL (fun H_3 locs hL hP_ => ?_)
            obtain ⟨hM_3, hF_3⟩ := hP_
            refine lv_if_eq (tgt := 111) Z.hx Z.hb dX2_come_85 (by decide) (fun c85 => ?_) (fun c85 => ?_)
            · skip
              refine lv_iconst (v := 0) Z.hx Z.hb dX2_come_111 (by decide) ?_
              exact z_zret Z hr hL (by decide) (mPost.no hM_3 hF_3 hS (by simp [kCome, kIf, kPT, sAsk, c5, c30, c41, c52, c65, c85]) (by decide)) (Nat.le_of_ble_eq_true rfl) (Nat.le_of_ble_eq_true rfl) dX2_come_112
            · exact absurd (by decide) c85
        · skip
          have c52 : (mBt wa 0 20) = true := zb_n.mp c52
          refine lv_iconst (v := 1) Z.hx Z.hb dX2_come_55 (by decide) ?_
          refine lv_goto (tgt := 60) Z.hx Z.hb dX2_come_56 (by decide) ?_
          refine lv_istore (lv' := [(7, .int 1), (6, .int 0), (0, .ref o), (1, .int p), (2, .int t), (3, .int fi), (4, .int la), (5, .int wa)]) Z.hx Z.hb dX2_come_60 hl (by decide) rfl (fun ls hl => ?_)
          refine lv_aload_n Z.hx Z.hb dX2_come_62 rfl (lv_at hl 2 rfl) ?_
          refine lv_iload Z.hx Z.hb dX2_come_63 (lv_at hl 1 rfl) ?_
          refine lv_if_ne (tgt := 72) Z.hx Z.hb dX2_come_65 (by decide) (fun c65 => ?_) (fun c65 => ?_)
          · exact absurd (by decide) c65
          · skip
            refine lv_iconst (v := 1) Z.hx Z.hb dX2_come_68 (by decide) ?_
            refine lv_goto (tgt := 82) Z.hx Z.hb dX2_come_69 (by decide) ?_
            -- LinkResolverModel.holds
            refine z_gcallV (rest := []) (As := [.int 1]) Z (m_holdsN G l H o A (sV σ N th) f hM ha 1 (by decide)) gw_X2_64 gd_X2_64 rfl hM.ob rfl hl.1 (Nat.le_of_ble_eq_true rfl) rfl dX2_come_82 ⟨⟨Nat.le_of_ble_eq_true rfl, Nat.le_of_ble_eq_true rfl⟩, Nat.le_of_ble_eq_true rfl, Nat.le_of_ble_eq_true rfl⟩ hL (fun H_4 locs hL hP_ => ?_)
            obtain ⟨hM_4, hF_4⟩ := hP_
            refine lv_if_eq (tgt := 111) Z.hx Z.hb dX2_come_85 (by decide) (fun c85 => ?_) (fun c85 => ?_)
            · skip
              refine lv_iconst (v := 0) Z.hx Z.hb dX2_come_111 (by decide) ?_
              exact z_zret Z hr hL (by decide) (mPost.no hM_4 hF_4 hS (by simp [kCome, kIf, kPT, sAsk, c5, c30, c41, c52, c65, c85]) (by decide)) (Nat.le_of_ble_eq_true rfl) (Nat.le_of_ble_eq_true rfl) dX2_come_112
            · exact absurd (by decide) c85
  · skip
    have c5 : (mIs p (nI (sP σ))) = true := zb_n.mp c5
    obtain ⟨jp, hjp, rfl⟩ := mIs_nI (by omega) c5
    have hjpi := c5
    have hjpc : (nI jp).toNatClampNeg = jp := nI_clamp (by omega)
    have hjpl : jp < 10 := by omega
    refine lv_aload_n Z.hx Z.hb dX2_come_8 rfl (lv_at hl 0 rfl) ?_
    refine lv_iload_n Z.hx Z.hb dX2_come_9 rfl (lv_at hl 2 rfl) ?_
    -- LinkResolverModel.isTitle
    refine z_pcallV (rest := []) (As := [.int t]) Z (m_isTitle G l H o A (sV σ N th) f hM t) gw_X2_68 gd_X2_68 rfl hM.ob rfl hl.1 (Nat.le_of_ble_eq_true rfl) rfl dX2_come_10 ⟨⟨Nat.le_of_ble_eq_true rfl, Nat.le_of_ble_eq_true rfl⟩, Nat.le_of_ble_eq_true rfl, Nat.le_of_ble_eq_true rfl⟩ hL (fun locs hL => ?_)
    refine lv_if_eq (tgt := 20) Z.hx Z.hb dX2_come_13 (by decide) (fun c13 => ?_) (fun c13 => ?_)
    · skip
      have c13 : (mIs t (nI (sN σ))) = false := zb_0.mp c13
      refine lv_iconst (v := 0) Z.hx Z.hb dX2_come_20 (by decide) ?_
      refine lv_istore (lv' := [(6, .int 0), (0, .ref o), (1, .int (nI jp)), (2, .int t), (3, .int fi), (4, .int la), (5, .int wa)]) Z.hx Z.hb dX2_come_21 hl (by decide) rfl (fun ls hl => ?_)
      refine lv_iload_n Z.hx Z.hb dX2_come_23 rfl (lv_at hl 4 rfl) ?_
      refine lv_iconst (v := 0) Z.hx Z.hb dX2_come_24 (by decide) ?_
      refine lv_bipush (v := 55) Z.hx Z.hb dX2_come_25 (by decide) ?_
      -- LinkResolverModel.isBetween
      refine z_pcallS (rest := []) (As := [.int fi, .int 0, .int 55]) Z (m_isBetween G l H fi 0 55) gw_X2_60 gd_X2_60 rfl hl.1 (Nat.le_of_ble_eq_true rfl) rfl dX2_come_27 ⟨⟨Nat.le_of_ble_eq_true rfl, Nat.le_of_ble_eq_true rfl⟩, Nat.le_of_ble_eq_true rfl, Nat.le_of_ble_eq_true rfl⟩ hL (fun locs hL => ?_)
      refine lv_if_eq (tgt := 59) Z.hx Z.hb dX2_come_30 (by decide) (fun c30 => ?_) (fun c30 => ?_)
      · skip
        have c30 : (mBt fi 0 55) = false := zb_0.mp c30
        refine lv_iconst (v := 0) Z.hx Z.hb dX2_come_59 (by decide) ?_
        refine lv_istore (lv' := [(7, .int 0), (6, .int 0), (0, .ref o), (1, .int (nI jp)), (2, .int t), (3, .int fi), (4, .int la), (5, .int wa)]) Z.hx Z.hb dX2_come_60 hl (by decide) rfl (fun ls hl => ?_)
        refine lv_aload_n Z.hx Z.hb dX2_come_62 rfl (lv_at hl 2 rfl) ?_
        refine lv_iload Z.hx Z.hb dX2_come_63 (lv_at hl 1 rfl) ?_
        refine lv_if_ne (tgt := 72) Z.hx Z.hb dX2_come_65 (by decide) (fun c65 => ?_) (fun c65 => ?_)
        · exact absurd (by decide) c65
        · skip
          refine lv_iconst (v := 1) Z.hx Z.hb dX2_come_68 (by decide) ?_
          refine lv_goto (tgt := 82) Z.hx Z.hb dX2_come_69 (by decide) ?_
          -- LinkResolverModel.holds
          refine z_gcallV (rest := []) (As := [.int 1]) Z (m_holdsN G l H o A (sV σ N th) f hM ha 1 (by decide)) gw_X2_64 gd_X2_64 rfl hM.ob rfl hl.1 (Nat.le_of_ble_eq_true rfl) rfl dX2_come_82 ⟨⟨Nat.le_of_ble_eq_true rfl, Nat.le_of_ble_eq_true rfl⟩, Nat.le_of_ble_eq_true rfl, Nat.le_of_ble_eq_true rfl⟩ hL (fun H_5 locs hL hP_ => ?_)
          obtain ⟨hM_5, hF_5⟩ := hP_
          refine lv_if_eq (tgt := 111) Z.hx Z.hb dX2_come_85 (by decide) (fun c85 => ?_) (fun c85 => ?_)
          · skip
            refine lv_iconst (v := 0) Z.hx Z.hb dX2_come_111 (by decide) ?_
            exact z_zret Z hr hL (by decide) (mPost.no hM_5 hF_5 hS (by simp [kCome, kIf, kPT, sAsk, hjpi, hjpc, c13, c30, c65, c85]) (by decide)) (Nat.le_of_ble_eq_true rfl) (Nat.le_of_ble_eq_true rfl) dX2_come_112
          · exact absurd (by decide) c85
      · skip
        have c30 : (mBt fi 0 55) = true := zb_n.mp c30
        refine lv_iload Z.hx Z.hb dX2_come_33 (lv_at hl 5 rfl) ?_
        refine lv_iload_n Z.hx Z.hb dX2_come_35 rfl (lv_at hl 4 rfl) ?_
        refine lv_bipush (v := 55) Z.hx Z.hb dX2_come_36 (by decide) ?_
        -- LinkResolverModel.isBetween
        refine z_pcallS (rest := []) (As := [.int la, .int fi, .int 55]) Z (m_isBetween G l H la fi 55) gw_X2_60 gd_X2_60 rfl hl.1 (Nat.le_of_ble_eq_true rfl) rfl dX2_come_38 ⟨⟨Nat.le_of_ble_eq_true rfl, Nat.le_of_ble_eq_true rfl⟩, Nat.le_of_ble_eq_true rfl, Nat.le_of_ble_eq_true rfl⟩ hL (fun locs hL => ?_)
        refine lv_if_eq (tgt := 59) Z.hx Z.hb dX2_come_41 (by decide) (fun c41 => ?_) (fun c41 => ?_)
        · skip
          have c41 : (mBt la fi 55) = false := zb_0.mp c41
          refine lv_iconst (v := 0) Z.hx Z.hb dX2_come_59 (by decide) ?_
          refine lv_istore (lv' := [(7, .int 0), (6, .int 0), (0, .ref o), (1, .int (nI jp)), (2, .int t), (3, .int fi), (4, .int la), (5, .int wa)]) Z.hx Z.hb dX2_come_60 hl (by decide) rfl (fun ls hl => ?_)
          refine lv_aload_n Z.hx Z.hb dX2_come_62 rfl (lv_at hl 2 rfl) ?_
          refine lv_iload Z.hx Z.hb dX2_come_63 (lv_at hl 1 rfl) ?_
          refine lv_if_ne (tgt := 72) Z.hx Z.hb dX2_come_65 (by decide) (fun c65 => ?_) (fun c65 => ?_)
          · exact absurd (by decide) c65
          · skip
            refine lv_iconst (v := 1) Z.hx Z.hb dX2_come_68 (by decide) ?_
            refine lv_goto (tgt := 82) Z.hx Z.hb dX2_come_69 (by decide) ?_
            -- LinkResolverModel.holds
            refine z_gcallV (rest := []) (As := [.int 1]) Z (m_holdsN G l H o A (sV σ N th) f hM ha 1 (by decide)) gw_X2_64 gd_X2_64 rfl hM.ob rfl hl.1 (Nat.le_of_ble_eq_true rfl) rfl dX2_come_82 ⟨⟨Nat.le_of_ble_eq_true rfl, Nat.le_of_ble_eq_true rfl⟩, Nat.le_of_ble_eq_true rfl, Nat.le_of_ble_eq_true rfl⟩ hL (fun H_6 locs hL hP_ => ?_)
            obtain ⟨hM_6, hF_6⟩ := hP_
            refine lv_if_eq (tgt := 111) Z.hx Z.hb dX2_come_85 (by decide) (fun c85 => ?_) (fun c85 => ?_)
            · skip
              refine lv_iconst (v := 0) Z.hx Z.hb dX2_come_111 (by decide) ?_
              exact z_zret Z hr hL (by decide) (mPost.no hM_6 hF_6 hS (by simp [kCome, kIf, kPT, sAsk, hjpi, hjpc, c13, c30, c41, c65, c85]) (by decide)) (Nat.le_of_ble_eq_true rfl) (Nat.le_of_ble_eq_true rfl) dX2_come_112
            · exact absurd (by decide) c85
        · skip
          have c41 : (mBt la fi 55) = true := zb_n.mp c41
          refine lv_iload Z.hx Z.hb dX2_come_44 (lv_at hl 6 rfl) ?_
          refine lv_iconst (v := 0) Z.hx Z.hb dX2_come_46 (by decide) ?_
          refine lv_bipush (v := 20) Z.hx Z.hb dX2_come_47 (by decide) ?_
          -- LinkResolverModel.isBetween
          refine z_pcallS (rest := []) (As := [.int wa, .int 0, .int 20]) Z (m_isBetween G l H wa 0 20) gw_X2_60 gd_X2_60 rfl hl.1 (Nat.le_of_ble_eq_true rfl) rfl dX2_come_49 ⟨⟨Nat.le_of_ble_eq_true rfl, Nat.le_of_ble_eq_true rfl⟩, Nat.le_of_ble_eq_true rfl, Nat.le_of_ble_eq_true rfl⟩ hL (fun locs hL => ?_)
          refine lv_if_eq (tgt := 59) Z.hx Z.hb dX2_come_52 (by decide) (fun c52 => ?_) (fun c52 => ?_)
          · skip
            have c52 : (mBt wa 0 20) = false := zb_0.mp c52
            refine lv_iconst (v := 0) Z.hx Z.hb dX2_come_59 (by decide) ?_
            refine lv_istore (lv' := [(7, .int 0), (6, .int 0), (0, .ref o), (1, .int (nI jp)), (2, .int t), (3, .int fi), (4, .int la), (5, .int wa)]) Z.hx Z.hb dX2_come_60 hl (by decide) rfl (fun ls hl => ?_)
            refine lv_aload_n Z.hx Z.hb dX2_come_62 rfl (lv_at hl 2 rfl) ?_
            refine lv_iload Z.hx Z.hb dX2_come_63 (lv_at hl 1 rfl) ?_
            refine lv_if_ne (tgt := 72) Z.hx Z.hb dX2_come_65 (by decide) (fun c65 => ?_) (fun c65 => ?_)
            · exact absurd (by decide) c65
            · skip
              refine lv_iconst (v := 1) Z.hx Z.hb dX2_come_68 (by decide) ?_
              refine lv_goto (tgt := 82) Z.hx Z.hb dX2_come_69 (by decide) ?_
              -- LinkResolverModel.holds
              refine z_gcallV (rest := []) (As := [.int 1]) Z (m_holdsN G l H o A (sV σ N th) f hM ha 1 (by decide)) gw_X2_64 gd_X2_64 rfl hM.ob rfl hl.1 (Nat.le_of_ble_eq_true rfl) rfl dX2_come_82 ⟨⟨Nat.le_of_ble_eq_true rfl, Nat.le_of_ble_eq_true rfl⟩, Nat.le_of_ble_eq_true rfl, Nat.le_of_ble_eq_true rfl⟩ hL (fun H_7 locs hL hP_ => ?_)
              obtain ⟨hM_7, hF_7⟩ := hP_
              refine lv_if_eq (tgt := 111) Z.hx Z.hb dX2_come_85 (by decide) (fun c85 => ?_) (fun c85 => ?_)
              · skip
                refine lv_iconst (v := 0) Z.hx Z.hb dX2_come_111 (by decide) ?_
                exact z_zret Z hr hL (by decide) (mPost.no hM_7 hF_7 hS (by simp [kCome, kIf, kPT, sAsk, hjpi, hjpc, c13, c30, c41, c52, c65, c85]) (by decide)) (Nat.le_of_ble_eq_true rfl) (Nat.le_of_ble_eq_true rfl) dX2_come_112
              · exact absurd (by decide) c85
          · skip
            have c52 : (mBt wa 0 20) = true := zb_n.mp c52
            refine lv_iconst (v := 1) Z.hx Z.hb dX2_come_55 (by decide) ?_
            refine lv_goto (tgt := 60) Z.hx Z.hb dX2_come_56 (by decide) ?_
            refine lv_istore (lv' := [(7, .int 1), (6, .int 0), (0, .ref o), (1, .int (nI jp)), (2, .int t), (3, .int fi), (4, .int la), (5, .int wa)]) Z.hx Z.hb dX2_come_60 hl (by decide) rfl (fun ls hl => ?_)
            refine lv_aload_n Z.hx Z.hb dX2_come_62 rfl (lv_at hl 2 rfl) ?_
            refine lv_iload Z.hx Z.hb dX2_come_63 (lv_at hl 1 rfl) ?_
            refine lv_if_ne (tgt := 72) Z.hx Z.hb dX2_come_65 (by decide) (fun c65 => ?_) (fun c65 => ?_)
            · exact absurd (by decide) c65
            · skip
              refine lv_iconst (v := 1) Z.hx Z.hb dX2_come_68 (by decide) ?_
              refine lv_goto (tgt := 82) Z.hx Z.hb dX2_come_69 (by decide) ?_
              -- LinkResolverModel.holds
              refine z_gcallV (rest := []) (As := [.int 1]) Z (m_holdsN G l H o A (sV σ N th) f hM ha 1 (by decide)) gw_X2_64 gd_X2_64 rfl hM.ob rfl hl.1 (Nat.le_of_ble_eq_true rfl) rfl dX2_come_82 ⟨⟨Nat.le_of_ble_eq_true rfl, Nat.le_of_ble_eq_true rfl⟩, Nat.le_of_ble_eq_true rfl, Nat.le_of_ble_eq_true rfl⟩ hL (fun H_8 locs hL hP_ => ?_)
              obtain ⟨hM_8, hF_8⟩ := hP_
              refine lv_if_eq (tgt := 111) Z.hx Z.hb dX2_come_85 (by decide) (fun c85 => ?_) (fun c85 => ?_)
              · skip
                refine lv_iconst (v := 0) Z.hx Z.hb dX2_come_111 (by decide) ?_
                exact z_zret Z hr hL (by decide) (mPost.no hM_8 hF_8 hS (by simp [kCome, kIf, kPT, sAsk, hjpi, hjpc, c13, c30, c41, c52, c65, c85]) (by decide)) (Nat.le_of_ble_eq_true rfl) (Nat.le_of_ble_eq_true rfl) dX2_come_112
              · exact absurd (by decide) c85
    · skip
      have c13 : (mIs t (nI (sN σ))) = true := zb_n.mp c13
      obtain ⟨jt, hjt, rfl⟩ := mIs_nI (by omega) c13
      have hjti := c13
      have hjtc : (nI jt).toNatClampNeg = jt := nI_clamp (by omega)
      have hjtl : jt < 20 := by omega
      refine lv_iconst (v := 1) Z.hx Z.hb dX2_come_16 (by decide) ?_
      refine lv_goto (tgt := 21) Z.hx Z.hb dX2_come_17 (by decide) ?_
      refine lv_istore (lv' := [(6, .int 1), (0, .ref o), (1, .int (nI jp)), (2, .int (nI jt)), (3, .int fi), (4, .int la), (5, .int wa)]) Z.hx Z.hb dX2_come_21 hl (by decide) rfl (fun ls hl => ?_)
      refine lv_iload_n Z.hx Z.hb dX2_come_23 rfl (lv_at hl 4 rfl) ?_
      refine lv_iconst (v := 0) Z.hx Z.hb dX2_come_24 (by decide) ?_
      refine lv_bipush (v := 55) Z.hx Z.hb dX2_come_25 (by decide) ?_
      -- LinkResolverModel.isBetween
      refine z_pcallS (rest := []) (As := [.int fi, .int 0, .int 55]) Z (m_isBetween G l H fi 0 55) gw_X2_60 gd_X2_60 rfl hl.1 (Nat.le_of_ble_eq_true rfl) rfl dX2_come_27 ⟨⟨Nat.le_of_ble_eq_true rfl, Nat.le_of_ble_eq_true rfl⟩, Nat.le_of_ble_eq_true rfl, Nat.le_of_ble_eq_true rfl⟩ hL (fun locs hL => ?_)
      refine lv_if_eq (tgt := 59) Z.hx Z.hb dX2_come_30 (by decide) (fun c30 => ?_) (fun c30 => ?_)
      · skip
        have c30 : (mBt fi 0 55) = false := zb_0.mp c30
        refine lv_iconst (v := 0) Z.hx Z.hb dX2_come_59 (by decide) ?_
        refine lv_istore (lv' := [(7, .int 0), (6, .int 1), (0, .ref o), (1, .int (nI jp)), (2, .int (nI jt)), (3, .int fi), (4, .int la), (5, .int wa)]) Z.hx Z.hb dX2_come_60 hl (by decide) rfl (fun ls hl => ?_)
        refine lv_aload_n Z.hx Z.hb dX2_come_62 rfl (lv_at hl 2 rfl) ?_
        refine lv_iload Z.hx Z.hb dX2_come_63 (lv_at hl 1 rfl) ?_
        refine lv_if_ne (tgt := 72) Z.hx Z.hb dX2_come_65 (by decide) (fun c65 => ?_) (fun c65 => ?_)
        · skip
          refine lv_iload Z.hx Z.hb dX2_come_72 (lv_at hl 0 rfl) ?_
          refine lv_if_eq (tgt := 81) Z.hx Z.hb dX2_come_74 (by decide) (fun c74 => ?_) (fun c74 => ?_)
          · skip
            refine lv_iconst (v := 2) Z.hx Z.hb dX2_come_81 (by decide) ?_
            -- LinkResolverModel.holds
            refine z_gcallV (rest := []) (As := [.int 2]) Z (m_holdsN G l H o A (sV σ N th) f hM ha 2 (by decide)) gw_X2_64 gd_X2_64 rfl hM.ob rfl hl.1 (Nat.le_of_ble_eq_true rfl) rfl dX2_come_82 ⟨⟨Nat.le_of_ble_eq_true rfl, Nat.le_of_ble_eq_true rfl⟩, Nat.le_of_ble_eq_true rfl, Nat.le_of_ble_eq_true rfl⟩ hL (fun H_9 locs hL hP_ => ?_)
            obtain ⟨hM_9, hF_9⟩ := hP_
            refine lv_if_eq (tgt := 111) Z.hx Z.hb dX2_come_85 (by decide) (fun c85 => ?_) (fun c85 => ?_)
            · skip
              refine lv_iconst (v := 0) Z.hx Z.hb dX2_come_111 (by decide) ?_
              exact z_zret Z hr hL (by decide) (mPost.no hM_9 hF_9 hS (by simp [kCome, kIf, kPT, sAsk, hjpi, hjpc, hjti, hjtc, c30, c65, c74, c85]) (by decide)) (Nat.le_of_ble_eq_true rfl) (Nat.le_of_ble_eq_true rfl) dX2_come_112
            · exact absurd (by decide) c85
          · exact absurd (by decide) c74
        · exact absurd c65 (by decide)
      · skip
        have c30 : (mBt fi 0 55) = true := zb_n.mp c30
        refine lv_iload Z.hx Z.hb dX2_come_33 (lv_at hl 5 rfl) ?_
        refine lv_iload_n Z.hx Z.hb dX2_come_35 rfl (lv_at hl 4 rfl) ?_
        refine lv_bipush (v := 55) Z.hx Z.hb dX2_come_36 (by decide) ?_
        -- LinkResolverModel.isBetween
        refine z_pcallS (rest := []) (As := [.int la, .int fi, .int 55]) Z (m_isBetween G l H la fi 55) gw_X2_60 gd_X2_60 rfl hl.1 (Nat.le_of_ble_eq_true rfl) rfl dX2_come_38 ⟨⟨Nat.le_of_ble_eq_true rfl, Nat.le_of_ble_eq_true rfl⟩, Nat.le_of_ble_eq_true rfl, Nat.le_of_ble_eq_true rfl⟩ hL (fun locs hL => ?_)
        refine lv_if_eq (tgt := 59) Z.hx Z.hb dX2_come_41 (by decide) (fun c41 => ?_) (fun c41 => ?_)
        · skip
          have c41 : (mBt la fi 55) = false := zb_0.mp c41
          refine lv_iconst (v := 0) Z.hx Z.hb dX2_come_59 (by decide) ?_
          refine lv_istore (lv' := [(7, .int 0), (6, .int 1), (0, .ref o), (1, .int (nI jp)), (2, .int (nI jt)), (3, .int fi), (4, .int la), (5, .int wa)]) Z.hx Z.hb dX2_come_60 hl (by decide) rfl (fun ls hl => ?_)
          refine lv_aload_n Z.hx Z.hb dX2_come_62 rfl (lv_at hl 2 rfl) ?_
          refine lv_iload Z.hx Z.hb dX2_come_63 (lv_at hl 1 rfl) ?_
          refine lv_if_ne (tgt := 72) Z.hx Z.hb dX2_come_65 (by decide) (fun c65 => ?_) (fun c65 => ?_)
          · skip
            refine lv_iload Z.hx Z.hb dX2_come_72 (lv_at hl 0 rfl) ?_
            refine lv_if_eq (tgt := 81) Z.hx Z.hb dX2_come_74 (by decide) (fun c74 => ?_) (fun c74 => ?_)
            · skip
              refine lv_iconst (v := 2) Z.hx Z.hb dX2_come_81 (by decide) ?_
              -- LinkResolverModel.holds
              refine z_gcallV (rest := []) (As := [.int 2]) Z (m_holdsN G l H o A (sV σ N th) f hM ha 2 (by decide)) gw_X2_64 gd_X2_64 rfl hM.ob rfl hl.1 (Nat.le_of_ble_eq_true rfl) rfl dX2_come_82 ⟨⟨Nat.le_of_ble_eq_true rfl, Nat.le_of_ble_eq_true rfl⟩, Nat.le_of_ble_eq_true rfl, Nat.le_of_ble_eq_true rfl⟩ hL (fun H_10 locs hL hP_ => ?_)
              obtain ⟨hM_10, hF_10⟩ := hP_
              refine lv_if_eq (tgt := 111) Z.hx Z.hb dX2_come_85 (by decide) (fun c85 => ?_) (fun c85 => ?_)
              · skip
                refine lv_iconst (v := 0) Z.hx Z.hb dX2_come_111 (by decide) ?_
                exact z_zret Z hr hL (by decide) (mPost.no hM_10 hF_10 hS (by simp [kCome, kIf, kPT, sAsk, hjpi, hjpc, hjti, hjtc, c30, c41, c65, c74, c85]) (by decide)) (Nat.le_of_ble_eq_true rfl) (Nat.le_of_ble_eq_true rfl) dX2_come_112
              · exact absurd (by decide) c85
            · exact absurd (by decide) c74
          · exact absurd c65 (by decide)
        · skip
          have c41 : (mBt la fi 55) = true := zb_n.mp c41
          refine lv_iload Z.hx Z.hb dX2_come_44 (lv_at hl 6 rfl) ?_
          refine lv_iconst (v := 0) Z.hx Z.hb dX2_come_46 (by decide) ?_
          refine lv_bipush (v := 20) Z.hx Z.hb dX2_come_47 (by decide) ?_
          -- LinkResolverModel.isBetween
          refine z_pcallS (rest := []) (As := [.int wa, .int 0, .int 20]) Z (m_isBetween G l H wa 0 20) gw_X2_60 gd_X2_60 rfl hl.1 (Nat.le_of_ble_eq_true rfl) rfl dX2_come_49 ⟨⟨Nat.le_of_ble_eq_true rfl, Nat.le_of_ble_eq_true rfl⟩, Nat.le_of_ble_eq_true rfl, Nat.le_of_ble_eq_true rfl⟩ hL (fun locs hL => ?_)
          refine lv_if_eq (tgt := 59) Z.hx Z.hb dX2_come_52 (by decide) (fun c52 => ?_) (fun c52 => ?_)
          · skip
            have c52 : (mBt wa 0 20) = false := zb_0.mp c52
            refine lv_iconst (v := 0) Z.hx Z.hb dX2_come_59 (by decide) ?_
            refine lv_istore (lv' := [(7, .int 0), (6, .int 1), (0, .ref o), (1, .int (nI jp)), (2, .int (nI jt)), (3, .int fi), (4, .int la), (5, .int wa)]) Z.hx Z.hb dX2_come_60 hl (by decide) rfl (fun ls hl => ?_)
            refine lv_aload_n Z.hx Z.hb dX2_come_62 rfl (lv_at hl 2 rfl) ?_
            refine lv_iload Z.hx Z.hb dX2_come_63 (lv_at hl 1 rfl) ?_
            refine lv_if_ne (tgt := 72) Z.hx Z.hb dX2_come_65 (by decide) (fun c65 => ?_) (fun c65 => ?_)
            · skip
              refine lv_iload Z.hx Z.hb dX2_come_72 (lv_at hl 0 rfl) ?_
              refine lv_if_eq (tgt := 81) Z.hx Z.hb dX2_come_74 (by decide) (fun c74 => ?_) (fun c74 => ?_)
              · skip
                refine lv_iconst (v := 2) Z.hx Z.hb dX2_come_81 (by decide) ?_
                -- LinkResolverModel.holds
                refine z_gcallV (rest := []) (As := [.int 2]) Z (m_holdsN G l H o A (sV σ N th) f hM ha 2 (by decide)) gw_X2_64 gd_X2_64 rfl hM.ob rfl hl.1 (Nat.le_of_ble_eq_true rfl) rfl dX2_come_82 ⟨⟨Nat.le_of_ble_eq_true rfl, Nat.le_of_ble_eq_true rfl⟩, Nat.le_of_ble_eq_true rfl, Nat.le_of_ble_eq_true rfl⟩ hL (fun H_11 locs hL hP_ => ?_)
                obtain ⟨hM_11, hF_11⟩ := hP_
                refine lv_if_eq (tgt := 111) Z.hx Z.hb dX2_come_85 (by decide) (fun c85 => ?_) (fun c85 => ?_)
                · skip
                  refine lv_iconst (v := 0) Z.hx Z.hb dX2_come_111 (by decide) ?_
                  exact z_zret Z hr hL (by decide) (mPost.no hM_11 hF_11 hS (by simp [kCome, kIf, kPT, sAsk, hjpi, hjpc, hjti, hjtc, c30, c41, c52, c65, c74, c85]) (by decide)) (Nat.le_of_ble_eq_true rfl) (Nat.le_of_ble_eq_true rfl) dX2_come_112
                · exact absurd (by decide) c85
              · exact absurd (by decide) c74
            · exact absurd c65 (by decide)
          · skip
            have c52 : (mBt wa 0 20) = true := zb_n.mp c52
            refine lv_iconst (v := 1) Z.hx Z.hb dX2_come_55 (by decide) ?_
            refine lv_goto (tgt := 60) Z.hx Z.hb dX2_come_56 (by decide) ?_
            refine lv_istore (lv' := [(7, .int 1), (6, .int 1), (0, .ref o), (1, .int (nI jp)), (2, .int (nI jt)), (3, .int fi), (4, .int la), (5, .int wa)]) Z.hx Z.hb dX2_come_60 hl (by decide) rfl (fun ls hl => ?_)
            refine lv_aload_n Z.hx Z.hb dX2_come_62 rfl (lv_at hl 2 rfl) ?_
            refine lv_iload Z.hx Z.hb dX2_come_63 (lv_at hl 1 rfl) ?_
            refine lv_if_ne (tgt := 72) Z.hx Z.hb dX2_come_65 (by decide) (fun c65 => ?_) (fun c65 => ?_)
            · skip
              refine lv_iload Z.hx Z.hb dX2_come_72 (lv_at hl 0 rfl) ?_
              refine lv_if_eq (tgt := 81) Z.hx Z.hb dX2_come_74 (by decide) (fun c74 => ?_) (fun c74 => ?_)
              · exact absurd c74 (by decide)
              · skip
                refine lv_iconst (v := 0) Z.hx Z.hb dX2_come_77 (by decide) ?_
                refine lv_goto (tgt := 82) Z.hx Z.hb dX2_come_78 (by decide) ?_
                -- LinkResolverModel.holds
                refine z_gcallV (rest := []) (As := [.int 0]) Z (m_holds0 G l H o A (sV σ N th) f hM ha) gw_X2_64 gd_X2_64 rfl hM.ob rfl hl.1 (Nat.le_of_ble_eq_true rfl) rfl dX2_come_82 ⟨⟨Nat.le_of_ble_eq_true rfl, Nat.le_of_ble_eq_true rfl⟩, Nat.le_of_ble_eq_true rfl, Nat.le_of_ble_eq_true rfl⟩ hL (fun H_12 locs hL hP_ => ?_)
                obtain ⟨hM_12, hF_12⟩ := hP_
                refine lv_if_eq (tgt := 111) Z.hx Z.hb dX2_come_85 (by decide) (fun c85 => ?_) (fun c85 => ?_)
                · exact absurd c85 (by decide)
                · skip
                  refine lv_aload_n Z.hx Z.hb dX2_come_88 rfl (lv_at hl 2 rfl) ?_
                  refine lv_bipush (v := 21) Z.hx Z.hb dX2_come_89 (by decide) ?_
                  refine lv_iload_n Z.hx Z.hb dX2_come_91 rfl (lv_at hl 3 rfl) ?_
                  refine lv_imul Z.hx Z.hb dX2_come_92 ?_
                  refine lv_iload_n Z.hx Z.hb dX2_come_93 rfl (lv_at hl 4 rfl) ?_
                  refine lv_iadd Z.hx Z.hb dX2_come_94 ?_
                  refine lv_iconst (v := 1) Z.hx Z.hb dX2_come_95 (by decide) ?_
                  refine lv_iload_n Z.hx Z.hb dX2_come_96 rfl (lv_at hl 5 rfl) ?_
                  refine lv_iload Z.hx Z.hb dX2_come_97 (lv_at hl 6 rfl) ?_
                  refine lv_iload Z.hx Z.hb dX2_come_99 (lv_at hl 7 rfl) ?_
                  -- LinkResolverModel.notes
                  refine z_gcallV (rest := []) (As := [.int ((21 * (nI jp)) + (nI jt)), .int 1, .int fi, .int la, .int wa]) Z (m_notes G l H_12 o A (va_up (sV σ N th) 0 0) f hM_12 ha N hNl hN rfl (mW jp jt) 1 fi la wa (Or.inr rfl)) gw_X2_88 gd_X2_88 rfl hM_12.ob rfl hl.1 (Nat.le_of_ble_eq_true rfl) rfl dX2_come_101 ⟨⟨Nat.le_of_ble_eq_true rfl, Nat.le_of_ble_eq_true rfl⟩, Nat.le_of_ble_eq_true rfl, Nat.le_of_ble_eq_true rfl⟩ hL (fun H_13 locs hL hP_ => ?_)
                  obtain ⟨hM_13, hF_13⟩ := hP_
                  have hF_13 := hF_12.trans hF_13
                  refine lv_if_eq (tgt := 111) Z.hx Z.hb dX2_come_104 (by decide) (fun c104 => ?_) (fun c104 => ?_)
                  · skip
                    have c104 : (mOn f (mCh f (mW jp jt) (sT σ) N)) = false := zb_0.mp c104
                    refine lv_iconst (v := 0) Z.hx Z.hb dX2_come_111 (by decide) ?_
                    exact z_zret Z hr hL (by decide) (mPost.mut hM_13 hF_13 rfl (mNn_le f (mW jp jt) _ N) (by rw [hjpc, hjtc]; exact hS.note (by omega) (by omega) hNl 1 fi la wa 0) (by simp [kCome, kIf, kPT, hjpi, hjpc, hjti, hjtc, c30, c41, c52, c65, c74, c85]) (by rw [hjpc, hjtc, ← mOn_s hS (by omega) (by omega), c104]; rfl)) (Nat.le_of_ble_eq_true rfl) (Nat.le_of_ble_eq_true rfl) dX2_come_112
                  · skip
                    have c104 : (mOn f (mCh f (mW jp jt) (sT σ) N)) = true := zb_n.mp c104
                    refine lv_iconst (v := 1) Z.hx Z.hb dX2_come_107 (by decide) ?_
                    refine lv_goto (tgt := 112) Z.hx Z.hb dX2_come_108 (by decide) ?_
                    exact z_zret Z hr hL (by decide) (mPost.mut hM_13 hF_13 rfl (mNn_le f (mW jp jt) _ N) (by rw [hjpc, hjtc]; exact hS.note (by omega) (by omega) hNl 1 fi la wa 0) (by simp [kCome, kIf, kPT, hjpi, hjpc, hjti, hjtc, c30, c41, c52, c65, c74, c85]) (by rw [hjpc, hjtc, ← mOn_s hS (by omega) (by omega), c104]; rfl)) (Nat.le_of_ble_eq_true rfl) (Nat.le_of_ble_eq_true rfl) dX2_come_112
            · exact absurd c65 (by decide)
theorem zle_add {x d : Int32} (hx : x ≤ 20000) (hd : mBt d 1 20000 = true) : x ≤ x + d := by
  simp only [mBt, Bool.and_eq_true, Bool.not_eq_true', decide_eq_false_iff_not] at hd
  obtain ⟨j, hj, rfl⟩ := nI_of2 (x := d) (M := 20000) (n := 20000) (by decide) (fun z => hd.1 (Int32.lt_trans z (by decide))) (Int32.not_lt.mp hd.2)
  have h1 : (20000 : Int32).toInt = 20000 := by decide
  have h2 := Int32.le_iff_toInt_le.mp hx
  have h3 : x.toInt + (nI j).toInt = (x + nI j).toInt := by
    rw [Int32.toInt_add, nI_toInt (by omega)]
    have h4 := Int32.le_toInt x
    have h5 : Int32.minValue.toInt = -2147483648 := by decide
    rw [h1] at h2
    rw [Int.bmod_eq_of_le] <;> omega
  rw [Int32.le_iff_toInt_le, ← h3, nI_toInt (by omega)]
  omega
set_option maxHeartbeats 4000000 in
set_option maxRecDepth 100000 in
theorem m_pass (G : zG) (l : Launch) (H : Heap) (o : Nat) (A : Nat → Nat) (f : Nat → Nat → Int32) (ha : mAd G o A) (σ : zS) (N : Nat) (th : Int32) (hM : mRep G H o A (sV σ N th) f) (hS : mSim σ N (sV σ N th) f) (hW : sWf σ) (hNl : N < 4096) (d : Int32) : zM G l yX2_pass cX2_pass 2 (Option.some Jvm.ClassFile.FieldType.int) 2 0 0 [.ref o, .int d] H (mPost G H o A N σ (sPass σ d) (kPass σ d) (sT σ + d)) := by
  have hN : N ≤ 4096 := Nat.le_of_lt hNl
  have hN1 : sV σ N th 11 = nI N := rfl
  have hN20 : sN σ ≤ 20 := hW.2.1
  have hnP : sP σ ≤ 10 := hW.2.2.1
  refine zM.of (by decide +kernel) (Nat.le_of_ble_eq_true rfl) ?_
  intro p0 e0 s0 m0 args0 below0 meth0 c0 Z hr hH hn ls hl
  have Z : zC G p0 s0 m0 args0 meth0 c0 RX2 cX2_pass 2 := Z
  have hl : lv_has ls 2 [(0, .ref o), (1, .int d)] := hl
  have hL : zL G [] := zL.nil
  refine lv_aload_n Z.hx Z.hb dX2_pass_0 rfl (lv_at hl 0 rfl) ?_
  refine lv_iload_n Z.hx Z.hb dX2_pass_1 rfl (lv_at hl 1 rfl) ?_
  refine lv_iconst (v := 1) Z.hx Z.hb dX2_pass_2 (by decide) ?_
  refine lv_sipush (v := 20000) Z.hx Z.hb dX2_pass_3 (by decide) ?_
  -- LinkResolverModel.isBetween
  refine z_pcallS (rest := [.ref o]) (As := [.int d, .int 1, .int 20000]) Z (m_isBetween G l H d 1 20000) gw_X2_60 gd_X2_60 rfl hl.1 (Nat.le_of_ble_eq_true rfl) rfl dX2_pass_6 ⟨⟨Nat.le_of_ble_eq_true rfl, Nat.le_of_ble_eq_true rfl⟩, Nat.le_of_ble_eq_true rfl, Nat.le_of_ble_eq_true rfl⟩ hL (fun locs hL => ?_)
  refine lv_if_ne (tgt := 16) Z.hx Z.hb dX2_pass_9 (by decide) (fun c9 => ?_) (fun c9 => ?_)
  · skip
    have c9 : (mBt d 1 20000) = true := zb_n.mp c9
    refine lv_aload_n Z.hx Z.hb dX2_pass_16 rfl (lv_at hl 0 rfl) ?_
    refine gf_X2_78 Z hM.ob (v := .int (sT σ)) rfl dX2_pass_17 ?_
    refine lv_iload_n Z.hx Z.hb dX2_pass_20 rfl (lv_at hl 1 rfl) ?_
    refine lv_iadd Z.hx Z.hb dX2_pass_21 ?_
    refine lv_sipush (v := 20000) Z.hx Z.hb dX2_pass_22 (by decide) ?_
    refine lv_icmp_le (tgt := 32) Z.hx Z.hb dX2_pass_25 (by decide) (fun c25 => ?_) (fun c25 => ?_)
    · skip
      refine lv_iconst (v := 0) Z.hx Z.hb dX2_pass_32 (by decide) ?_
      -- LinkResolverModel.holds
      refine z_gcallV (rest := []) (As := [.int 0]) Z (m_holds0 G l H o A (sV σ N th) f hM ha) gw_X2_64 gd_X2_64 rfl hM.ob rfl hl.1 (Nat.le_of_ble_eq_true rfl) rfl dX2_pass_33 ⟨⟨Nat.le_of_ble_eq_true rfl, Nat.le_of_ble_eq_true rfl⟩, Nat.le_of_ble_eq_true rfl, Nat.le_of_ble_eq_true rfl⟩ hL (fun H_1 locs hL hP_ => ?_)
      obtain ⟨hM_1, hF_1⟩ := hP_
      refine lv_if_ne (tgt := 41) Z.hx Z.hb dX2_pass_36 (by decide) (fun c36 => ?_) (fun c36 => ?_)
      · skip
        refine lv_aload_n Z.hx Z.hb dX2_pass_41 rfl (lv_at hl 0 rfl) ?_
        refine lv_dup Z.hx Z.hb dX2_pass_42 rfl ?_
        refine gf_X2_78 Z hM_1.ob (v := .int (sT σ)) rfl dX2_pass_43 ?_
        refine lv_iload_n Z.hx Z.hb dX2_pass_46 rfl (lv_at hl 1 rfl) ?_
        refine lv_iadd Z.hx Z.hb dX2_pass_47 ?_
        refine pf_X2_78 Z hM_1.ob (Nat.le_of_ble_eq_true rfl) hL ha.1 dX2_pass_48 (fun H_2 locs hL hO_ hz_ hq_ => ?_)
        have hM_2 : mRep G H_2 o A (va_up (va_up (sV σ N th) 0 0) 1 ((sT σ) + d)) f := hM_1.setV ha (v' := va_up (va_up (sV σ N th) 0 0) 1 ((sT σ) + d)) hO_ hq_
        have hF_2 : mFr o A H H_2 := hF_1.trans (mFr.o hz_ hq_)
        refine lv_aload_n Z.hx Z.hb dX2_pass_51 rfl (lv_at hl 0 rfl) ?_
        refine gf_X2_78 Z hM_2.ob (v := .int ((sT σ) + d)) rfl dX2_pass_52 ?_
        exact z_iret Z hr hL (mPost.mut hM_2 hF_2 rfl (Nat.le_succ N) (hS.pass (fun i hi => Int32.le_trans (hS.2.2.2.2.2 i hi) (zle_add hW.1.2 c9)) 0) (by simp [kPass, kIf, kPT, sAsk, c9, c25, c36]) rfl) (Nat.le_of_ble_eq_true rfl) (Nat.le_of_ble_eq_true rfl) dX2_pass_55
      · exact absurd c36 (by decide)
    · skip
      refine lv_iconst (v := 2) Z.hx Z.hb dX2_pass_28 (by decide) ?_
      refine lv_goto (tgt := 33) Z.hx Z.hb dX2_pass_29 (by decide) ?_
      -- LinkResolverModel.holds
      refine z_gcallV (rest := []) (As := [.int 2]) Z (m_holdsN G l H o A (sV σ N th) f hM ha 2 (by decide)) gw_X2_64 gd_X2_64 rfl hM.ob rfl hl.1 (Nat.le_of_ble_eq_true rfl) rfl dX2_pass_33 ⟨⟨Nat.le_of_ble_eq_true rfl, Nat.le_of_ble_eq_true rfl⟩, Nat.le_of_ble_eq_true rfl, Nat.le_of_ble_eq_true rfl⟩ hL (fun H_3 locs hL hP_ => ?_)
      obtain ⟨hM_3, hF_3⟩ := hP_
      refine lv_if_ne (tgt := 41) Z.hx Z.hb dX2_pass_36 (by decide) (fun c36 => ?_) (fun c36 => ?_)
      · exact absurd (by decide) c36
      · skip
        refine lv_iconst (v := 0) Z.hx Z.hb dX2_pass_39 (by decide) ?_
        exact z_iret Z hr hL (mPost.no hM_3 hF_3 hS (by simp [kPass, kIf, kPT, sAsk, c9, c25, c36]) (by decide)) (Nat.le_of_ble_eq_true rfl) (Nat.le_of_ble_eq_true rfl) dX2_pass_40
  · skip
    have c9 : (mBt d 1 20000) = false := zb_0.mp c9
    refine lv_iconst (v := 1) Z.hx Z.hb dX2_pass_12 (by decide) ?_
    refine lv_goto (tgt := 33) Z.hx Z.hb dX2_pass_13 (by decide) ?_
    -- LinkResolverModel.holds
    refine z_gcallV (rest := []) (As := [.int 1]) Z (m_holdsN G l H o A (sV σ N th) f hM ha 1 (by decide)) gw_X2_64 gd_X2_64 rfl hM.ob rfl hl.1 (Nat.le_of_ble_eq_true rfl) rfl dX2_pass_33 ⟨⟨Nat.le_of_ble_eq_true rfl, Nat.le_of_ble_eq_true rfl⟩, Nat.le_of_ble_eq_true rfl, Nat.le_of_ble_eq_true rfl⟩ hL (fun H_4 locs hL hP_ => ?_)
    obtain ⟨hM_4, hF_4⟩ := hP_
    refine lv_if_ne (tgt := 41) Z.hx Z.hb dX2_pass_36 (by decide) (fun c36 => ?_) (fun c36 => ?_)
    · exact absurd (by decide) c36
    · skip
      refine lv_iconst (v := 0) Z.hx Z.hb dX2_pass_39 (by decide) ?_
      exact z_iret Z hr hL (mPost.no hM_4 hF_4 hS (by simp [kPass, kIf, kPT, sAsk, c9, c36]) (by decide)) (Nat.le_of_ble_eq_true rfl) (Nat.le_of_ble_eq_true rfl) dX2_pass_40
set_option maxHeartbeats 4000000 in
set_option maxRecDepth 100000 in
theorem m_today (G : zG) (l : Launch) (H : Heap) (o : Nat) (A : Nat → Nat) (f : Nat → Nat → Int32) (ha : mAd G o A) (σ : zS) (N : Nat) (th : Int32) (hM : mRep G H o A (sV σ N th) f) (hS : mSim σ N (sV σ N th) f) (hW : sWf σ) (hNl : N < 4096) : zM G l yX2_today cX2_today 1 (Option.some Jvm.ClassFile.FieldType.int) 2 0 0 [.ref o] H (mPost G H o A N σ σ 0 (sT σ)) := by
  have hN : N ≤ 4096 := Nat.le_of_lt hNl
  have hN1 : sV σ N th 11 = nI N := rfl
  have hN20 : sN σ ≤ 20 := hW.2.1
  have hnP : sP σ ≤ 10 := hW.2.2.1
  refine zM.of (by decide +kernel) (Nat.le_of_ble_eq_true rfl) ?_
  intro p0 e0 s0 m0 args0 below0 meth0 c0 Z hr hH hn ls hl
  have Z : zC G p0 s0 m0 args0 meth0 c0 RX2 cX2_today 1 := Z
  have hl : lv_has ls 1 [(0, .ref o)] := hl
  have hL : zL G [] := zL.nil
  refine lv_aload_n Z.hx Z.hb dX2_today_0 rfl (lv_at hl 0 rfl) ?_
  refine lv_iconst (v := 0) Z.hx Z.hb dX2_today_1 (by decide) ?_
  refine pf_X2_50 Z hM.ob (Nat.le_of_ble_eq_true rfl) hL ha.1 dX2_today_2 (fun H_1 locs hL hO_ hz_ hq_ => ?_)
  have hM_1 : mRep G H_1 o A (va_up (sV σ N th) 0 0) f := hM.setV ha (v' := va_up (sV σ N th) 0 0) hO_ hq_
  have hF_1 : mFr o A H H_1 := mFr.o hz_ hq_
  refine lv_aload_n Z.hx Z.hb dX2_today_5 rfl (lv_at hl 0 rfl) ?_
  refine gf_X2_78 Z hM_1.ob (v := .int (sT σ)) rfl dX2_today_6 ?_
  exact z_iret Z hr hL (mPost.yes hM_1 hF_1 hS rfl rfl) (Nat.le_of_ble_eq_true rfl) (Nat.le_of_ble_eq_true rfl) dX2_today_9
set_option maxHeartbeats 4000000 in
set_option maxRecDepth 100000 in
theorem m_isSubscribed (G : zG) (l : Launch) (H : Heap) (o : Nat) (A : Nat → Nat) (f : Nat → Nat → Int32) (ha : mAd G o A) (σ : zS) (N : Nat) (th : Int32) (hM : mRep G H o A (sV σ N th) f) (hS : mSim σ N (sV σ N th) f) (hW : sWf σ) (hNl : N < 4096) (p d : Int32) : zM G l yX2_isSubscribed cX2_isSubscribed 3 (Option.some Jvm.ClassFile.FieldType.boolean) 2 0 0 [.ref o, .int p, .int d] H (mPost G H o A N σ σ (kSub σ p d) (zb (sOn (sL σ p.toNatClampNeg 20 d)))) := by
  have hN : N ≤ 4096 := Nat.le_of_lt hNl
  have hN1 : sV σ N th 11 = nI N := rfl
  have hN20 : sN σ ≤ 20 := hW.2.1
  have hnP : sP σ ≤ 10 := hW.2.2.1
  refine zM.of (by decide +kernel) (Nat.le_of_ble_eq_true rfl) ?_
  intro p0 e0 s0 m0 args0 below0 meth0 c0 Z hr hH hn ls hl
  have Z : zC G p0 s0 m0 args0 meth0 c0 RX2 cX2_isSubscribed 3 := Z
  have hl : lv_has ls 3 [(0, .ref o), (1, .int p), (2, .int d)] := hl
  have hL : zL G [] := zL.nil
  refine lv_aload_n Z.hx Z.hb dX2_isSubscribed_0 rfl (lv_at hl 0 rfl) ?_
  refine lv_aload_n Z.hx Z.hb dX2_isSubscribed_1 rfl (lv_at hl 0 rfl) ?_
  refine lv_iload_n Z.hx Z.hb dX2_isSubscribed_2 rfl (lv_at hl 1 rfl) ?_
  -- LinkResolverModel.isPackage
  refine z_pcallV (rest := [.ref o]) (As := [.int p]) Z (m_isPackage G l H o A (sV σ N th) f hM p) gw_X2_81 gd_X2_81 rfl hM.ob rfl hl.1 (Nat.le_of_ble_eq_true rfl) rfl dX2_isSubscribed_3 ⟨⟨Nat.le_of_ble_eq_true rfl, Nat.le_of_ble_eq_true rfl⟩, Nat.le_of_ble_eq_true rfl, Nat.le_of_ble_eq_true rfl⟩ hL (fun locs hL => ?_)
  refine lv_if_ne (tgt := 13) Z.hx Z.hb dX2_isSubscribed_6 (by decide) (fun c6 => ?_) (fun c6 => ?_)
  · skip
    have c6 : (mIs p (nI (sP σ))) = true := zb_n.mp c6
    obtain ⟨jp, hjp, rfl⟩ := mIs_nI (by omega) c6
    have hjpi := c6
    have hjpc : (nI jp).toNatClampNeg = jp := nI_clamp (by omega)
    have hjpl : jp < 10 := by omega
    refine lv_iload_n Z.hx Z.hb dX2_isSubscribed_13 rfl (lv_at hl 2 rfl) ?_
    refine lv_iconst (v := 0) Z.hx Z.hb dX2_isSubscribed_14 (by decide) ?_
    refine lv_aload_n Z.hx Z.hb dX2_isSubscribed_15 rfl (lv_at hl 0 rfl) ?_
    refine gf_X2_78 Z hM.ob (v := .int (sT σ)) rfl dX2_isSubscribed_16 ?_
    -- LinkResolverModel.isBetween
    refine z_pcallS (rest := [.ref o]) (As := [.int d, .int 0, .int (sT σ)]) Z (m_isBetween G l H d 0 (sT σ)) gw_X2_60 gd_X2_60 rfl hl.1 (Nat.le_of_ble_eq_true rfl) rfl dX2_isSubscribed_19 ⟨⟨Nat.le_of_ble_eq_true rfl, Nat.le_of_ble_eq_true rfl⟩, Nat.le_of_ble_eq_true rfl, Nat.le_of_ble_eq_true rfl⟩ hL (fun locs hL => ?_)
    refine lv_if_eq (tgt := 29) Z.hx Z.hb dX2_isSubscribed_22 (by decide) (fun c22 => ?_) (fun c22 => ?_)
    · skip
      have c22 : (mBt d 0 (sT σ)) = false := zb_0.mp c22
      refine lv_iconst (v := 2) Z.hx Z.hb dX2_isSubscribed_29 (by decide) ?_
      -- LinkResolverModel.holds
      refine z_gcallV (rest := []) (As := [.int 2]) Z (m_holdsN G l H o A (sV σ N th) f hM ha 2 (by decide)) gw_X2_64 gd_X2_64 rfl hM.ob rfl hl.1 (Nat.le_of_ble_eq_true rfl) rfl dX2_isSubscribed_30 ⟨⟨Nat.le_of_ble_eq_true rfl, Nat.le_of_ble_eq_true rfl⟩, Nat.le_of_ble_eq_true rfl, Nat.le_of_ble_eq_true rfl⟩ hL (fun H_1 locs hL hP_ => ?_)
      obtain ⟨hM_1, hF_1⟩ := hP_
      refine lv_if_eq (tgt := 52) Z.hx Z.hb dX2_isSubscribed_33 (by decide) (fun c33 => ?_) (fun c33 => ?_)
      · skip
        refine lv_iconst (v := 0) Z.hx Z.hb dX2_isSubscribed_52 (by decide) ?_
        exact z_zret Z hr hL (by decide) (mPost.no hM_1 hF_1 hS (by simp [kSub, kIf, kPT, sAsk, hjpi, hjpc, c22, c33]) (by decide)) (Nat.le_of_ble_eq_true rfl) (Nat.le_of_ble_eq_true rfl) dX2_isSubscribed_53
      · exact absurd (by decide) c33
    · skip
      have c22 : (mBt d 0 (sT σ)) = true := zb_n.mp c22
      refine lv_iconst (v := 0) Z.hx Z.hb dX2_isSubscribed_25 (by decide) ?_
      refine lv_goto (tgt := 30) Z.hx Z.hb dX2_isSubscribed_26 (by decide) ?_
      -- LinkResolverModel.holds
      refine z_gcallV (rest := []) (As := [.int 0]) Z (m_holds0 G l H o A (sV σ N th) f hM ha) gw_X2_64 gd_X2_64 rfl hM.ob rfl hl.1 (Nat.le_of_ble_eq_true rfl) rfl dX2_isSubscribed_30 ⟨⟨Nat.le_of_ble_eq_true rfl, Nat.le_of_ble_eq_true rfl⟩, Nat.le_of_ble_eq_true rfl, Nat.le_of_ble_eq_true rfl⟩ hL (fun H_2 locs hL hP_ => ?_)
      obtain ⟨hM_2, hF_2⟩ := hP_
      refine lv_if_eq (tgt := 52) Z.hx Z.hb dX2_isSubscribed_33 (by decide) (fun c33 => ?_) (fun c33 => ?_)
      · exact absurd c33 (by decide)
      · skip
        refine lv_aload_n Z.hx Z.hb dX2_isSubscribed_36 rfl (lv_at hl 0 rfl) ?_
        refine lv_iload_n Z.hx Z.hb dX2_isSubscribed_37 rfl (lv_at hl 1 rfl) ?_
        -- LinkResolverModel.subscription
        refine z_pcallS (rest := [.ref o]) (As := [.int (nI jp)]) Z (m_subscription G l H_2 (nI jp)) gw_X2_84 gd_X2_84 rfl hl.1 (Nat.le_of_ble_eq_true rfl) rfl dX2_isSubscribed_38 ⟨⟨Nat.le_of_ble_eq_true rfl, Nat.le_of_ble_eq_true rfl⟩, Nat.le_of_ble_eq_true rfl, Nat.le_of_ble_eq_true rfl⟩ hL (fun locs hL => ?_)
        refine lv_iload_n Z.hx Z.hb dX2_isSubscribed_41 rfl (lv_at hl 2 rfl) ?_
        -- LinkResolverModel.isSo
        refine z_pcallV (rest := []) (As := [.int (21 * (nI jp) + 20), .int d]) Z (m_isSo G l H_2 o A (va_up (sV σ N th) 0 0) f hM_2 N hN hN1 (21 * (nI jp) + 20) d) gw_X2_92 gd_X2_92 rfl hM_2.ob rfl hl.1 (Nat.le_of_ble_eq_true rfl) rfl dX2_isSubscribed_42 ⟨⟨Nat.le_of_ble_eq_true rfl, Nat.le_of_ble_eq_true rfl⟩, Nat.le_of_ble_eq_true rfl, Nat.le_of_ble_eq_true rfl⟩ hL (fun locs hL => ?_)
        refine lv_if_eq (tgt := 52) Z.hx Z.hb dX2_isSubscribed_45 (by decide) (fun c45 => ?_) (fun c45 => ?_)
        · skip
          have c45 : (mOn f (mCh f (21 * (nI jp) + 20) d N)) = false := zb_0.mp c45
          refine lv_iconst (v := 0) Z.hx Z.hb dX2_isSubscribed_52 (by decide) ?_
          exact z_zret Z hr hL (by decide) (mPost.yes hM_2 hF_2 hS (by simp [kSub, kIf, hjpi, hjpc, c22, c33]) (by rw [hjpc, ← mOn_s hS (by omega) (Nat.le_refl 20)]; exact (congrArg zb c45).symm)) (Nat.le_of_ble_eq_true rfl) (Nat.le_of_ble_eq_true rfl) dX2_isSubscribed_53
        · skip
          have c45 : (mOn f (mCh f (21 * (nI jp) + 20) d N)) = true := zb_n.mp c45
          refine lv_iconst (v := 1) Z.hx Z.hb dX2_isSubscribed_48 (by decide) ?_
          refine lv_goto (tgt := 53) Z.hx Z.hb dX2_isSubscribed_49 (by decide) ?_
          exact z_zret Z hr hL (by decide) (mPost.yes hM_2 hF_2 hS (by simp [kSub, kIf, hjpi, hjpc, c22, c33]) (by rw [hjpc, ← mOn_s hS (by omega) (Nat.le_refl 20)]; exact (congrArg zb c45).symm)) (Nat.le_of_ble_eq_true rfl) (Nat.le_of_ble_eq_true rfl) dX2_isSubscribed_53
  · skip
    have c6 : (mIs p (nI (sP σ))) = false := zb_0.mp c6
    refine lv_iconst (v := 1) Z.hx Z.hb dX2_isSubscribed_9 (by decide) ?_
    refine lv_goto (tgt := 30) Z.hx Z.hb dX2_isSubscribed_10 (by decide) ?_
    -- LinkResolverModel.holds
    refine z_gcallV (rest := []) (As := [.int 1]) Z (m_holdsN G l H o A (sV σ N th) f hM ha 1 (by decide)) gw_X2_64 gd_X2_64 rfl hM.ob rfl hl.1 (Nat.le_of_ble_eq_true rfl) rfl dX2_isSubscribed_30 ⟨⟨Nat.le_of_ble_eq_true rfl, Nat.le_of_ble_eq_true rfl⟩, Nat.le_of_ble_eq_true rfl, Nat.le_of_ble_eq_true rfl⟩ hL (fun H_3 locs hL hP_ => ?_)
    obtain ⟨hM_3, hF_3⟩ := hP_
    refine lv_if_eq (tgt := 52) Z.hx Z.hb dX2_isSubscribed_33 (by decide) (fun c33 => ?_) (fun c33 => ?_)
    · skip
      refine lv_iconst (v := 0) Z.hx Z.hb dX2_isSubscribed_52 (by decide) ?_
      exact z_zret Z hr hL (by decide) (mPost.no hM_3 hF_3 hS (by simp [kSub, kIf, kPT, sAsk, c6, c33]) (by decide)) (Nat.le_of_ble_eq_true rfl) (Nat.le_of_ble_eq_true rfl) dX2_isSubscribed_53
    · exact absurd (by decide) c33
set_option maxHeartbeats 4000000 in
set_option maxRecDepth 100000 in
theorem m_isIn (G : zG) (l : Launch) (H : Heap) (o : Nat) (A : Nat → Nat) (f : Nat → Nat → Int32) (ha : mAd G o A) (σ : zS) (N : Nat) (th : Int32) (hM : mRep G H o A (sV σ N th) f) (hS : mSim σ N (sV σ N th) f) (hW : sWf σ) (hNl : N < 4096) (p t d : Int32) : zM G l yX2_isIn cX2_isIn 4 (Option.some Jvm.ClassFile.FieldType.boolean) 2 0 0 [.ref o, .int p, .int t, .int d] H (mPost G H o A N σ σ (kIn σ p t d) (zb (sOn (sL σ p.toNatClampNeg t.toNatClampNeg d)))) := by
  have hN : N ≤ 4096 := Nat.le_of_lt hNl
  have hN1 : sV σ N th 11 = nI N := rfl
  have hN20 : sN σ ≤ 20 := hW.2.1
  have hnP : sP σ ≤ 10 := hW.2.2.1
  refine zM.of (by decide +kernel) (Nat.le_of_ble_eq_true rfl) ?_
  intro p0 e0 s0 m0 args0 below0 meth0 c0 Z hr hH hn ls hl
  have Z : zC G p0 s0 m0 args0 meth0 c0 RX2 cX2_isIn 4 := Z
  have hl : lv_has ls 4 [(0, .ref o), (1, .int p), (2, .int t), (3, .int d)] := hl
  have hL : zL G [] := zL.nil
  refine lv_aload_n Z.hx Z.hb dX2_isIn_0 rfl (lv_at hl 0 rfl) ?_
  refine lv_aload_n Z.hx Z.hb dX2_isIn_1 rfl (lv_at hl 0 rfl) ?_
  refine lv_iload_n Z.hx Z.hb dX2_isIn_2 rfl (lv_at hl 1 rfl) ?_
  -- LinkResolverModel.isPackage
  refine z_pcallV (rest := [.ref o]) (As := [.int p]) Z (m_isPackage G l H o A (sV σ N th) f hM p) gw_X2_81 gd_X2_81 rfl hM.ob rfl hl.1 (Nat.le_of_ble_eq_true rfl) rfl dX2_isIn_3 ⟨⟨Nat.le_of_ble_eq_true rfl, Nat.le_of_ble_eq_true rfl⟩, Nat.le_of_ble_eq_true rfl, Nat.le_of_ble_eq_true rfl⟩ hL (fun locs hL => ?_)
  refine lv_if_eq (tgt := 17) Z.hx Z.hb dX2_isIn_6 (by decide) (fun c6 => ?_) (fun c6 => ?_)
  · skip
    have c6 : (mIs p (nI (sP σ))) = false := zb_0.mp c6
    refine lv_iconst (v := 1) Z.hx Z.hb dX2_isIn_17 (by decide) ?_
    refine lv_goto (tgt := 38) Z.hx Z.hb dX2_isIn_18 (by decide) ?_
    -- LinkResolverModel.holds
    refine z_gcallV (rest := []) (As := [.int 1]) Z (m_holdsN G l H o A (sV σ N th) f hM ha 1 (by decide)) gw_X2_64 gd_X2_64 rfl hM.ob rfl hl.1 (Nat.le_of_ble_eq_true rfl) rfl dX2_isIn_38 ⟨⟨Nat.le_of_ble_eq_true rfl, Nat.le_of_ble_eq_true rfl⟩, Nat.le_of_ble_eq_true rfl, Nat.le_of_ble_eq_true rfl⟩ hL (fun H_1 locs hL hP_ => ?_)
    obtain ⟨hM_1, hF_1⟩ := hP_
    refine lv_if_eq (tgt := 62) Z.hx Z.hb dX2_isIn_41 (by decide) (fun c41 => ?_) (fun c41 => ?_)
    · skip
      refine lv_iconst (v := 0) Z.hx Z.hb dX2_isIn_62 (by decide) ?_
      exact z_zret Z hr hL (by decide) (mPost.no hM_1 hF_1 hS (by simp [kIn, kIf, kPT, sAsk, c6, c41]) (by decide)) (Nat.le_of_ble_eq_true rfl) (Nat.le_of_ble_eq_true rfl) dX2_isIn_63
    · exact absurd (by decide) c41
  · skip
    have c6 : (mIs p (nI (sP σ))) = true := zb_n.mp c6
    obtain ⟨jp, hjp, rfl⟩ := mIs_nI (by omega) c6
    have hjpi := c6
    have hjpc : (nI jp).toNatClampNeg = jp := nI_clamp (by omega)
    have hjpl : jp < 10 := by omega
    refine lv_aload_n Z.hx Z.hb dX2_isIn_9 rfl (lv_at hl 0 rfl) ?_
    refine lv_iload_n Z.hx Z.hb dX2_isIn_10 rfl (lv_at hl 2 rfl) ?_
    -- LinkResolverModel.isTitle
    refine z_pcallV (rest := [.ref o]) (As := [.int t]) Z (m_isTitle G l H o A (sV σ N th) f hM t) gw_X2_68 gd_X2_68 rfl hM.ob rfl hl.1 (Nat.le_of_ble_eq_true rfl) rfl dX2_isIn_11 ⟨⟨Nat.le_of_ble_eq_true rfl, Nat.le_of_ble_eq_true rfl⟩, Nat.le_of_ble_eq_true rfl, Nat.le_of_ble_eq_true rfl⟩ hL (fun locs hL => ?_)
    refine lv_if_ne (tgt := 21) Z.hx Z.hb dX2_isIn_14 (by decide) (fun c14 => ?_) (fun c14 => ?_)
    · skip
      have c14 : (mIs t (nI (sN σ))) = true := zb_n.mp c14
      obtain ⟨jt, hjt, rfl⟩ := mIs_nI (by omega) c14
      have hjti := c14
      have hjtc : (nI jt).toNatClampNeg = jt := nI_clamp (by omega)
      have hjtl : jt < 20 := by omega
      refine lv_iload_n Z.hx Z.hb dX2_isIn_21 rfl (lv_at hl 3 rfl) ?_
      refine lv_iconst (v := 0) Z.hx Z.hb dX2_isIn_22 (by decide) ?_
      refine lv_aload_n Z.hx Z.hb dX2_isIn_23 rfl (lv_at hl 0 rfl) ?_
      refine gf_X2_78 Z hM.ob (v := .int (sT σ)) rfl dX2_isIn_24 ?_
      -- LinkResolverModel.isBetween
      refine z_pcallS (rest := [.ref o]) (As := [.int d, .int 0, .int (sT σ)]) Z (m_isBetween G l H d 0 (sT σ)) gw_X2_60 gd_X2_60 rfl hl.1 (Nat.le_of_ble_eq_true rfl) rfl dX2_isIn_27 ⟨⟨Nat.le_of_ble_eq_true rfl, Nat.le_of_ble_eq_true rfl⟩, Nat.le_of_ble_eq_true rfl, Nat.le_of_ble_eq_true rfl⟩ hL (fun locs hL => ?_)
      refine lv_if_eq (tgt := 37) Z.hx Z.hb dX2_isIn_30 (by decide) (fun c30 => ?_) (fun c30 => ?_)
      · skip
        have c30 : (mBt d 0 (sT σ)) = false := zb_0.mp c30
        refine lv_iconst (v := 2) Z.hx Z.hb dX2_isIn_37 (by decide) ?_
        -- LinkResolverModel.holds
        refine z_gcallV (rest := []) (As := [.int 2]) Z (m_holdsN G l H o A (sV σ N th) f hM ha 2 (by decide)) gw_X2_64 gd_X2_64 rfl hM.ob rfl hl.1 (Nat.le_of_ble_eq_true rfl) rfl dX2_isIn_38 ⟨⟨Nat.le_of_ble_eq_true rfl, Nat.le_of_ble_eq_true rfl⟩, Nat.le_of_ble_eq_true rfl, Nat.le_of_ble_eq_true rfl⟩ hL (fun H_2 locs hL hP_ => ?_)
        obtain ⟨hM_2, hF_2⟩ := hP_
        refine lv_if_eq (tgt := 62) Z.hx Z.hb dX2_isIn_41 (by decide) (fun c41 => ?_) (fun c41 => ?_)
        · skip
          refine lv_iconst (v := 0) Z.hx Z.hb dX2_isIn_62 (by decide) ?_
          exact z_zret Z hr hL (by decide) (mPost.no hM_2 hF_2 hS (by simp [kIn, kIf, kPT, sAsk, hjpi, hjpc, hjti, hjtc, c30, c41]) (by decide)) (Nat.le_of_ble_eq_true rfl) (Nat.le_of_ble_eq_true rfl) dX2_isIn_63
        · exact absurd (by decide) c41
      · skip
        have c30 : (mBt d 0 (sT σ)) = true := zb_n.mp c30
        refine lv_iconst (v := 0) Z.hx Z.hb dX2_isIn_33 (by decide) ?_
        refine lv_goto (tgt := 38) Z.hx Z.hb dX2_isIn_34 (by decide) ?_
        -- LinkResolverModel.holds
        refine z_gcallV (rest := []) (As := [.int 0]) Z (m_holds0 G l H o A (sV σ N th) f hM ha) gw_X2_64 gd_X2_64 rfl hM.ob rfl hl.1 (Nat.le_of_ble_eq_true rfl) rfl dX2_isIn_38 ⟨⟨Nat.le_of_ble_eq_true rfl, Nat.le_of_ble_eq_true rfl⟩, Nat.le_of_ble_eq_true rfl, Nat.le_of_ble_eq_true rfl⟩ hL (fun H_3 locs hL hP_ => ?_)
        obtain ⟨hM_3, hF_3⟩ := hP_
        refine lv_if_eq (tgt := 62) Z.hx Z.hb dX2_isIn_41 (by decide) (fun c41 => ?_) (fun c41 => ?_)
        · exact absurd c41 (by decide)
        · skip
          refine lv_aload_n Z.hx Z.hb dX2_isIn_44 rfl (lv_at hl 0 rfl) ?_
          refine lv_bipush (v := 21) Z.hx Z.hb dX2_isIn_45 (by decide) ?_
          refine lv_iload_n Z.hx Z.hb dX2_isIn_47 rfl (lv_at hl 1 rfl) ?_
          refine lv_imul Z.hx Z.hb dX2_isIn_48 ?_
          refine lv_iload_n Z.hx Z.hb dX2_isIn_49 rfl (lv_at hl 2 rfl) ?_
          refine lv_iadd Z.hx Z.hb dX2_isIn_50 ?_
          refine lv_iload_n Z.hx Z.hb dX2_isIn_51 rfl (lv_at hl 3 rfl) ?_
          -- LinkResolverModel.isSo
          refine z_pcallV (rest := []) (As := [.int ((21 * (nI jp)) + (nI jt)), .int d]) Z (m_isSo G l H_3 o A (va_up (sV σ N th) 0 0) f hM_3 N hN hN1 ((21 * (nI jp)) + (nI jt)) d) gw_X2_92 gd_X2_92 rfl hM_3.ob rfl hl.1 (Nat.le_of_ble_eq_true rfl) rfl dX2_isIn_52 ⟨⟨Nat.le_of_ble_eq_true rfl, Nat.le_of_ble_eq_true rfl⟩, Nat.le_of_ble_eq_true rfl, Nat.le_of_ble_eq_true rfl⟩ hL (fun locs hL => ?_)
          refine lv_if_eq (tgt := 62) Z.hx Z.hb dX2_isIn_55 (by decide) (fun c55 => ?_) (fun c55 => ?_)
          · skip
            have c55 : (mOn f (mCh f ((21 * (nI jp)) + (nI jt)) d N)) = false := zb_0.mp c55
            refine lv_iconst (v := 0) Z.hx Z.hb dX2_isIn_62 (by decide) ?_
            exact z_zret Z hr hL (by decide) (mPost.yes hM_3 hF_3 hS (by simp [kIn, kIf, kPT, hjpi, hjpc, hjti, hjtc, c30, c41]) (by rw [hjpc, hjtc, ← mOn_s hS (by omega) (by omega), c55]; rfl)) (Nat.le_of_ble_eq_true rfl) (Nat.le_of_ble_eq_true rfl) dX2_isIn_63
          · skip
            have c55 : (mOn f (mCh f ((21 * (nI jp)) + (nI jt)) d N)) = true := zb_n.mp c55
            refine lv_iconst (v := 1) Z.hx Z.hb dX2_isIn_58 (by decide) ?_
            refine lv_goto (tgt := 63) Z.hx Z.hb dX2_isIn_59 (by decide) ?_
            exact z_zret Z hr hL (by decide) (mPost.yes hM_3 hF_3 hS (by simp [kIn, kIf, kPT, hjpi, hjpc, hjti, hjtc, c30, c41]) (by rw [hjpc, hjtc, ← mOn_s hS (by omega) (by omega), c55]; rfl)) (Nat.le_of_ble_eq_true rfl) (Nat.le_of_ble_eq_true rfl) dX2_isIn_63
    · skip
      have c14 : (mIs t (nI (sN σ))) = false := zb_0.mp c14
      refine lv_iconst (v := 1) Z.hx Z.hb dX2_isIn_17 (by decide) ?_
      refine lv_goto (tgt := 38) Z.hx Z.hb dX2_isIn_18 (by decide) ?_
      -- LinkResolverModel.holds
      refine z_gcallV (rest := []) (As := [.int 1]) Z (m_holdsN G l H o A (sV σ N th) f hM ha 1 (by decide)) gw_X2_64 gd_X2_64 rfl hM.ob rfl hl.1 (Nat.le_of_ble_eq_true rfl) rfl dX2_isIn_38 ⟨⟨Nat.le_of_ble_eq_true rfl, Nat.le_of_ble_eq_true rfl⟩, Nat.le_of_ble_eq_true rfl, Nat.le_of_ble_eq_true rfl⟩ hL (fun H_4 locs hL hP_ => ?_)
      obtain ⟨hM_4, hF_4⟩ := hP_
      refine lv_if_eq (tgt := 62) Z.hx Z.hb dX2_isIn_41 (by decide) (fun c41 => ?_) (fun c41 => ?_)
      · skip
        refine lv_iconst (v := 0) Z.hx Z.hb dX2_isIn_62 (by decide) ?_
        exact z_zret Z hr hL (by decide) (mPost.no hM_4 hF_4 hS (by simp [kIn, kIf, kPT, sAsk, hjpi, hjpc, c14, c41]) (by decide)) (Nat.le_of_ble_eq_true rfl) (Nat.le_of_ble_eq_true rfl) dX2_isIn_63
      · exact absurd (by decide) c41
set_option maxHeartbeats 4000000 in
set_option maxRecDepth 100000 in
theorem m_report (G : zG) (l : Launch) (H : Heap) (o : Nat) (A : Nat → Nat) (f : Nat → Nat → Int32) (ha : mAd G o A) (σ : zS) (N : Nat) (th : Int32) (hM : mRep G H o A (sV σ N th) f) (hS : mSim σ N (sV σ N th) f) (hW : sWf σ) (hNl : N < 4096) (p t : Int32) : zM G l yX2_report cX2_report 3 (Option.some Jvm.ClassFile.FieldType.int) 2 0 0 [.ref o, .int p, .int t] H (mPost G H o A N σ (sPutB σ p.toNatClampNeg t.toNatClampNeg (sB σ p.toNatClampNeg t.toNatClampNeg + 1)) (kRep σ p t) (sB σ p.toNatClampNeg t.toNatClampNeg + 1)) := by
  have hN : N ≤ 4096 := Nat.le_of_lt hNl
  have hN1 : sV σ N th 11 = nI N := rfl
  have hN20 : sN σ ≤ 20 := hW.2.1
  have hnP : sP σ ≤ 10 := hW.2.2.1
  refine zM.of (by decide +kernel) (Nat.le_of_ble_eq_true rfl) ?_
  intro p0 e0 s0 m0 args0 below0 meth0 c0 Z hr hH hn ls hl
  have Z : zC G p0 s0 m0 args0 meth0 c0 RX2 cX2_report 3 := Z
  have hl : lv_has ls 3 [(0, .ref o), (1, .int p), (2, .int t)] := hl
  have hL : zL G [] := zL.nil
  refine lv_aload_n Z.hx Z.hb dX2_report_0 rfl (lv_at hl 0 rfl) ?_
  refine lv_aload_n Z.hx Z.hb dX2_report_1 rfl (lv_at hl 0 rfl) ?_
  refine lv_iload_n Z.hx Z.hb dX2_report_2 rfl (lv_at hl 1 rfl) ?_
  -- LinkResolverModel.isPackage
  refine z_pcallV (rest := [.ref o]) (As := [.int p]) Z (m_isPackage G l H o A (sV σ N th) f hM p) gw_X2_81 gd_X2_81 rfl hM.ob rfl hl.1 (Nat.le_of_ble_eq_true rfl) rfl dX2_report_3 ⟨⟨Nat.le_of_ble_eq_true rfl, Nat.le_of_ble_eq_true rfl⟩, Nat.le_of_ble_eq_true rfl, Nat.le_of_ble_eq_true rfl⟩ hL (fun locs hL => ?_)
  refine lv_if_eq (tgt := 21) Z.hx Z.hb dX2_report_6 (by decide) (fun c6 => ?_) (fun c6 => ?_)
  · skip
    have c6 : (mIs p (nI (sP σ))) = false := zb_0.mp c6
    refine lv_iconst (v := 1) Z.hx Z.hb dX2_report_21 (by decide) ?_
    -- LinkResolverModel.holds
    refine z_gcallV (rest := []) (As := [.int 1]) Z (m_holdsN G l H o A (sV σ N th) f hM ha 1 (by decide)) gw_X2_64 gd_X2_64 rfl hM.ob rfl hl.1 (Nat.le_of_ble_eq_true rfl) rfl dX2_report_22 ⟨⟨Nat.le_of_ble_eq_true rfl, Nat.le_of_ble_eq_true rfl⟩, Nat.le_of_ble_eq_true rfl, Nat.le_of_ble_eq_true rfl⟩ hL (fun H_1 locs hL hP_ => ?_)
    obtain ⟨hM_1, hF_1⟩ := hP_
    refine lv_if_ne (tgt := 30) Z.hx Z.hb dX2_report_25 (by decide) (fun c25 => ?_) (fun c25 => ?_)
    · exact absurd (by decide) c25
    · skip
      refine lv_iconst (v := 0) Z.hx Z.hb dX2_report_28 (by decide) ?_
      exact z_iret Z hr hL (mPost.no hM_1 hF_1 hS (by simp [kRep, kIf, kPT, sAsk, c6, c25]) (by decide)) (Nat.le_of_ble_eq_true rfl) (Nat.le_of_ble_eq_true rfl) dX2_report_29
  · skip
    have c6 : (mIs p (nI (sP σ))) = true := zb_n.mp c6
    obtain ⟨jp, hjp, rfl⟩ := mIs_nI (by omega) c6
    have hjpi := c6
    have hjpc : (nI jp).toNatClampNeg = jp := nI_clamp (by omega)
    have hjpl : jp < 10 := by omega
    refine lv_aload_n Z.hx Z.hb dX2_report_9 rfl (lv_at hl 0 rfl) ?_
    refine lv_iload_n Z.hx Z.hb dX2_report_10 rfl (lv_at hl 2 rfl) ?_
    -- LinkResolverModel.isTitle
    refine z_pcallV (rest := [.ref o]) (As := [.int t]) Z (m_isTitle G l H o A (sV σ N th) f hM t) gw_X2_68 gd_X2_68 rfl hM.ob rfl hl.1 (Nat.le_of_ble_eq_true rfl) rfl dX2_report_11 ⟨⟨Nat.le_of_ble_eq_true rfl, Nat.le_of_ble_eq_true rfl⟩, Nat.le_of_ble_eq_true rfl, Nat.le_of_ble_eq_true rfl⟩ hL (fun locs hL => ?_)
    refine lv_if_eq (tgt := 21) Z.hx Z.hb dX2_report_14 (by decide) (fun c14 => ?_) (fun c14 => ?_)
    · skip
      have c14 : (mIs t (nI (sN σ))) = false := zb_0.mp c14
      refine lv_iconst (v := 1) Z.hx Z.hb dX2_report_21 (by decide) ?_
      -- LinkResolverModel.holds
      refine z_gcallV (rest := []) (As := [.int 1]) Z (m_holdsN G l H o A (sV σ N th) f hM ha 1 (by decide)) gw_X2_64 gd_X2_64 rfl hM.ob rfl hl.1 (Nat.le_of_ble_eq_true rfl) rfl dX2_report_22 ⟨⟨Nat.le_of_ble_eq_true rfl, Nat.le_of_ble_eq_true rfl⟩, Nat.le_of_ble_eq_true rfl, Nat.le_of_ble_eq_true rfl⟩ hL (fun H_2 locs hL hP_ => ?_)
      obtain ⟨hM_2, hF_2⟩ := hP_
      refine lv_if_ne (tgt := 30) Z.hx Z.hb dX2_report_25 (by decide) (fun c25 => ?_) (fun c25 => ?_)
      · exact absurd (by decide) c25
      · skip
        refine lv_iconst (v := 0) Z.hx Z.hb dX2_report_28 (by decide) ?_
        exact z_iret Z hr hL (mPost.no hM_2 hF_2 hS (by simp [kRep, kIf, kPT, sAsk, hjpi, hjpc, c14, c25]) (by decide)) (Nat.le_of_ble_eq_true rfl) (Nat.le_of_ble_eq_true rfl) dX2_report_29
    · skip
      have c14 : (mIs t (nI (sN σ))) = true := zb_n.mp c14
      obtain ⟨jt, hjt, rfl⟩ := mIs_nI (by omega) c14
      have hjti := c14
      have hjtc : (nI jt).toNatClampNeg = jt := nI_clamp (by omega)
      have hjtl : jt < 20 := by omega
      refine lv_iconst (v := 0) Z.hx Z.hb dX2_report_17 (by decide) ?_
      refine lv_goto (tgt := 22) Z.hx Z.hb dX2_report_18 (by decide) ?_
      -- LinkResolverModel.holds
      refine z_gcallV (rest := []) (As := [.int 0]) Z (m_holds0 G l H o A (sV σ N th) f hM ha) gw_X2_64 gd_X2_64 rfl hM.ob rfl hl.1 (Nat.le_of_ble_eq_true rfl) rfl dX2_report_22 ⟨⟨Nat.le_of_ble_eq_true rfl, Nat.le_of_ble_eq_true rfl⟩, Nat.le_of_ble_eq_true rfl, Nat.le_of_ble_eq_true rfl⟩ hL (fun H_3 locs hL hP_ => ?_)
      obtain ⟨hM_3, hF_3⟩ := hP_
      refine lv_if_ne (tgt := 30) Z.hx Z.hb dX2_report_25 (by decide) (fun c25 => ?_) (fun c25 => ?_)
      · skip
        refine lv_aload_n Z.hx Z.hb dX2_report_30 rfl (lv_at hl 0 rfl) ?_
        refine gf_X2_29 Z hM_3.ob (v := .ref (A 10)) rfl dX2_report_31 ?_
        refine lv_bipush (v := 20) Z.hx Z.hb dX2_report_34 (by decide) ?_
        refine lv_iload_n Z.hx Z.hb dX2_report_36 rfl (lv_at hl 1 rfl) ?_
        refine lv_imul Z.hx Z.hb dX2_report_37 ?_
        refine lv_iload_n Z.hx Z.hb dX2_report_38 rfl (lv_at hl 2 rfl) ?_
        refine lv_iadd Z.hx Z.hb dX2_report_39 ?_
        refine z_top (x' := nI (20 * jp + jt)) (z_lin 20 jp jt) ?_
        refine lv_dup2_11 Z.hx Z.hb dX2_report_40 rfl rfl ?_
        refine z_ialdN Z hM_3.a10 (k := (20 * jp + jt)) (by omega) (by decide) dX2_report_41 ?_
        refine lv_iconst (v := 1) Z.hx Z.hb dX2_report_42 (by decide) ?_
        refine lv_iadd Z.hx Z.hb dX2_report_43 ?_
        refine z_iastN Z hM_3.a10 (k := (20 * jp + jt)) (by omega) (by decide) hL (ha.2.1 10 rfl).1 dX2_report_44 (fun H_4 locs hL hA_ hz_ hq_ => ?_)
        have hM_4 : mRep G H_4 o A (va_up (sV σ N th) 0 0) (va_up f 10 (upd (f 10) (20 * jp + jt) ((f 10 (20 * jp + jt)) + 1))) := hM_3.setA ha 10 rfl hA_ hq_
        have hF_4 : mFr o A H H_4 := hF_3.trans (mFr.a 10 rfl hz_ hq_)
        refine lv_aload_n Z.hx Z.hb dX2_report_45 rfl (lv_at hl 0 rfl) ?_
        refine gf_X2_29 Z hM_4.ob (v := .ref (A 10)) rfl dX2_report_46 ?_
        refine lv_bipush (v := 20) Z.hx Z.hb dX2_report_49 (by decide) ?_
        refine lv_iload_n Z.hx Z.hb dX2_report_51 rfl (lv_at hl 1 rfl) ?_
        refine lv_imul Z.hx Z.hb dX2_report_52 ?_
        refine lv_iload_n Z.hx Z.hb dX2_report_53 rfl (lv_at hl 2 rfl) ?_
        refine lv_iadd Z.hx Z.hb dX2_report_54 ?_
        refine z_top (x' := nI (20 * jp + jt)) (z_lin 20 jp jt) ?_
        refine z_ialdN Z hM_4.a10 (k := (20 * jp + jt)) (by omega) (by decide) dX2_report_55 ?_
        exact z_iret Z hr hL (mPost.mut hM_4 hF_4 rfl (Nat.le_succ N) (by rw [hjpc, hjtc, ← hS.2.2.2.1 jp jt (by omega) (by omega)]; exact hS.putB (by omega) (by omega) _ 0) (by simp [kRep, kIf, kPT, hjpi, hjpc, hjti, hjtc, c25]) (by rw [hjpc, hjtc, ← hS.2.2.2.1 jp jt (by omega) (by omega)]; exact upd_eq)) (Nat.le_of_ble_eq_true rfl) (Nat.le_of_ble_eq_true rfl) dX2_report_56
      · exact absurd c25 (by decide)
set_option maxHeartbeats 4000000 in
set_option maxRecDepth 100000 in
theorem m_mend (G : zG) (l : Launch) (H : Heap) (o : Nat) (A : Nat → Nat) (f : Nat → Nat → Int32) (ha : mAd G o A) (σ : zS) (N : Nat) (th : Int32) (hM : mRep G H o A (sV σ N th) f) (hS : mSim σ N (sV σ N th) f) (hW : sWf σ) (hNl : N < 4096) (p t : Int32) : zM G l yX2_mend cX2_mend 4 (Option.some Jvm.ClassFile.FieldType.int) 2 0 0 [.ref o, .int p, .int t] H (mPost G H o A N σ (sPutB σ p.toNatClampNeg t.toNatClampNeg 0) (kRep σ p t) (sB σ p.toNatClampNeg t.toNatClampNeg)) := by
  have hN : N ≤ 4096 := Nat.le_of_lt hNl
  have hN1 : sV σ N th 11 = nI N := rfl
  have hN20 : sN σ ≤ 20 := hW.2.1
  have hnP : sP σ ≤ 10 := hW.2.2.1
  refine zM.of (by decide +kernel) (Nat.le_of_ble_eq_true rfl) ?_
  intro p0 e0 s0 m0 args0 below0 meth0 c0 Z hr hH hn ls hl
  have Z : zC G p0 s0 m0 args0 meth0 c0 RX2 cX2_mend 4 := Z
  have hl : lv_has ls 4 [(0, .ref o), (1, .int p), (2, .int t)] := hl
  have hL : zL G [] := zL.nil
  refine lv_aload_n Z.hx Z.hb dX2_mend_0 rfl (lv_at hl 0 rfl) ?_
  refine lv_aload_n Z.hx Z.hb dX2_mend_1 rfl (lv_at hl 0 rfl) ?_
  refine lv_iload_n Z.hx Z.hb dX2_mend_2 rfl (lv_at hl 1 rfl) ?_
  -- LinkResolverModel.isPackage
  refine z_pcallV (rest := [.ref o]) (As := [.int p]) Z (m_isPackage G l H o A (sV σ N th) f hM p) gw_X2_81 gd_X2_81 rfl hM.ob rfl hl.1 (Nat.le_of_ble_eq_true rfl) rfl dX2_mend_3 ⟨⟨Nat.le_of_ble_eq_true rfl, Nat.le_of_ble_eq_true rfl⟩, Nat.le_of_ble_eq_true rfl, Nat.le_of_ble_eq_true rfl⟩ hL (fun locs hL => ?_)
  refine lv_if_eq (tgt := 21) Z.hx Z.hb dX2_mend_6 (by decide) (fun c6 => ?_) (fun c6 => ?_)
  · skip
    have c6 : (mIs p (nI (sP σ))) = false := zb_0.mp c6
    refine lv_iconst (v := 1) Z.hx Z.hb dX2_mend_21 (by decide) ?_
    -- LinkResolverModel.holds
    refine z_gcallV (rest := []) (As := [.int 1]) Z (m_holdsN G l H o A (sV σ N th) f hM ha 1 (by decide)) gw_X2_64 gd_X2_64 rfl hM.ob rfl hl.1 (Nat.le_of_ble_eq_true rfl) rfl dX2_mend_22 ⟨⟨Nat.le_of_ble_eq_true rfl, Nat.le_of_ble_eq_true rfl⟩, Nat.le_of_ble_eq_true rfl, Nat.le_of_ble_eq_true rfl⟩ hL (fun H_1 locs hL hP_ => ?_)
    obtain ⟨hM_1, hF_1⟩ := hP_
    refine lv_if_ne (tgt := 30) Z.hx Z.hb dX2_mend_25 (by decide) (fun c25 => ?_) (fun c25 => ?_)
    · exact absurd (by decide) c25
    · skip
      refine lv_iconst (v := 0) Z.hx Z.hb dX2_mend_28 (by decide) ?_
      exact z_iret Z hr hL (mPost.no hM_1 hF_1 hS (by simp [kRep, kIf, kPT, sAsk, c6, c25]) (by decide)) (Nat.le_of_ble_eq_true rfl) (Nat.le_of_ble_eq_true rfl) dX2_mend_29
  · skip
    have c6 : (mIs p (nI (sP σ))) = true := zb_n.mp c6
    obtain ⟨jp, hjp, rfl⟩ := mIs_nI (by omega) c6
    have hjpi := c6
    have hjpc : (nI jp).toNatClampNeg = jp := nI_clamp (by omega)
    have hjpl : jp < 10 := by omega
    refine lv_aload_n Z.hx Z.hb dX2_mend_9 rfl (lv_at hl 0 rfl) ?_
    refine lv_iload_n Z.hx Z.hb dX2_mend_10 rfl (lv_at hl 2 rfl) ?_
    -- LinkResolverModel.isTitle
    refine z_pcallV (rest := [.ref o]) (As := [.int t]) Z (m_isTitle G l H o A (sV σ N th) f hM t) gw_X2_68 gd_X2_68 rfl hM.ob rfl hl.1 (Nat.le_of_ble_eq_true rfl) rfl dX2_mend_11 ⟨⟨Nat.le_of_ble_eq_true rfl, Nat.le_of_ble_eq_true rfl⟩, Nat.le_of_ble_eq_true rfl, Nat.le_of_ble_eq_true rfl⟩ hL (fun locs hL => ?_)
    refine lv_if_eq (tgt := 21) Z.hx Z.hb dX2_mend_14 (by decide) (fun c14 => ?_) (fun c14 => ?_)
    · skip
      have c14 : (mIs t (nI (sN σ))) = false := zb_0.mp c14
      refine lv_iconst (v := 1) Z.hx Z.hb dX2_mend_21 (by decide) ?_
      -- LinkResolverModel.holds
      refine z_gcallV (rest := []) (As := [.int 1]) Z (m_holdsN G l H o A (sV σ N th) f hM ha 1 (by decide)) gw_X2_64 gd_X2_64 rfl hM.ob rfl hl.1 (Nat.le_of_ble_eq_true rfl) rfl dX2_mend_22 ⟨⟨Nat.le_of_ble_eq_true rfl, Nat.le_of_ble_eq_true rfl⟩, Nat.le_of_ble_eq_true rfl, Nat.le_of_ble_eq_true rfl⟩ hL (fun H_2 locs hL hP_ => ?_)
      obtain ⟨hM_2, hF_2⟩ := hP_
      refine lv_if_ne (tgt := 30) Z.hx Z.hb dX2_mend_25 (by decide) (fun c25 => ?_) (fun c25 => ?_)
      · exact absurd (by decide) c25
      · skip
        refine lv_iconst (v := 0) Z.hx Z.hb dX2_mend_28 (by decide) ?_
        exact z_iret Z hr hL (mPost.no hM_2 hF_2 hS (by simp [kRep, kIf, kPT, sAsk, hjpi, hjpc, c14, c25]) (by decide)) (Nat.le_of_ble_eq_true rfl) (Nat.le_of_ble_eq_true rfl) dX2_mend_29
    · skip
      have c14 : (mIs t (nI (sN σ))) = true := zb_n.mp c14
      obtain ⟨jt, hjt, rfl⟩ := mIs_nI (by omega) c14
      have hjti := c14
      have hjtc : (nI jt).toNatClampNeg = jt := nI_clamp (by omega)
      have hjtl : jt < 20 := by omega
      refine lv_iconst (v := 0) Z.hx Z.hb dX2_mend_17 (by decide) ?_
      refine lv_goto (tgt := 22) Z.hx Z.hb dX2_mend_18 (by decide) ?_
      -- LinkResolverModel.holds
      refine z_gcallV (rest := []) (As := [.int 0]) Z (m_holds0 G l H o A (sV σ N th) f hM ha) gw_X2_64 gd_X2_64 rfl hM.ob rfl hl.1 (Nat.le_of_ble_eq_true rfl) rfl dX2_mend_22 ⟨⟨Nat.le_of_ble_eq_true rfl, Nat.le_of_ble_eq_true rfl⟩, Nat.le_of_ble_eq_true rfl, Nat.le_of_ble_eq_true rfl⟩ hL (fun H_3 locs hL hP_ => ?_)
      obtain ⟨hM_3, hF_3⟩ := hP_
      refine lv_if_ne (tgt := 30) Z.hx Z.hb dX2_mend_25 (by decide) (fun c25 => ?_) (fun c25 => ?_)
      · skip
        refine lv_aload_n Z.hx Z.hb dX2_mend_30 rfl (lv_at hl 0 rfl) ?_
        refine gf_X2_29 Z hM_3.ob (v := .ref (A 10)) rfl dX2_mend_31 ?_
        refine lv_bipush (v := 20) Z.hx Z.hb dX2_mend_34 (by decide) ?_
        refine lv_iload_n Z.hx Z.hb dX2_mend_36 rfl (lv_at hl 1 rfl) ?_
        refine lv_imul Z.hx Z.hb dX2_mend_37 ?_
        refine lv_iload_n Z.hx Z.hb dX2_mend_38 rfl (lv_at hl 2 rfl) ?_
        refine lv_iadd Z.hx Z.hb dX2_mend_39 ?_
        refine z_top (x' := nI (20 * jp + jt)) (z_lin 20 jp jt) ?_
        refine z_ialdN Z hM_3.a10 (k := (20 * jp + jt)) (by omega) (by decide) dX2_mend_40 ?_
        refine lv_istore_n (lv' := [(3, .int (f 10 (20 * jp + jt))), (0, .ref o), (1, .int (nI jp)), (2, .int (nI jt))]) Z.hx Z.hb dX2_mend_41 rfl hl (by decide) rfl (fun ls hl => ?_)
        refine lv_aload_n Z.hx Z.hb dX2_mend_42 rfl (lv_at hl 1 rfl) ?_
        refine gf_X2_29 Z hM_3.ob (v := .ref (A 10)) rfl dX2_mend_43 ?_
        refine lv_bipush (v := 20) Z.hx Z.hb dX2_mend_46 (by decide) ?_
        refine lv_iload_n Z.hx Z.hb dX2_mend_48 rfl (lv_at hl 2 rfl) ?_
        refine lv_imul Z.hx Z.hb dX2_mend_49 ?_
        refine lv_iload_n Z.hx Z.hb dX2_mend_50 rfl (lv_at hl 3 rfl) ?_
        refine lv_iadd Z.hx Z.hb dX2_mend_51 ?_
        refine z_top (x' := nI (20 * jp + jt)) (z_lin 20 jp jt) ?_
        refine lv_iconst (v := 0) Z.hx Z.hb dX2_mend_52 (by decide) ?_
        refine z_iastN Z hM_3.a10 (k := (20 * jp + jt)) (by omega) (by decide) hL (ha.2.1 10 rfl).1 dX2_mend_53 (fun H_4 locs hL hA_ hz_ hq_ => ?_)
        have hM_4 : mRep G H_4 o A (va_up (sV σ N th) 0 0) (va_up f 10 (upd (f 10) (20 * jp + jt) 0)) := hM_3.setA ha 10 rfl hA_ hq_
        have hF_4 : mFr o A H H_4 := hF_3.trans (mFr.a 10 rfl hz_ hq_)
        refine lv_iload_n Z.hx Z.hb dX2_mend_54 rfl (lv_at hl 0 rfl) ?_
        exact z_iret Z hr hL (mPost.mut hM_4 hF_4 rfl (Nat.le_succ N) (by rw [hjpc, hjtc]; exact hS.putB (by omega) (by omega) _ 0) (by simp [kRep, kIf, kPT, hjpi, hjpc, hjti, hjtc, c25]) (by rw [hjpc, hjtc, ← hS.2.2.2.1 jp jt (by omega) (by omega)])) (Nat.le_of_ble_eq_true rfl) (Nat.le_of_ble_eq_true rfl) dX2_mend_55
      · exact absurd c25 (by decide)
set_option maxHeartbeats 4000000 in
set_option maxRecDepth 100000 in
theorem m_covers (G : zG) (l : Launch) (H : Heap) (o : Nat) (A : Nat → Nat) (f : Nat → Nat → Int32) (ha : mAd G o A) (σ : zS) (N : Nat) (th : Int32) (hM : mRep G H o A (sV σ N th) f) (hS : mSim σ N (sV σ N th) f) (hW : sWf σ) (hNl : N < 4096) (p t y g d : Int32) : zM G l yX2_covers cX2_covers 7 (Option.some Jvm.ClassFile.FieldType.boolean) 5 0 0 [.ref o, .int p, .int t, .int y, .int g, .int d] H (mPost G H o A N σ σ (kCov σ p t y g d) (zb (sWay σ p.toNatClampNeg t.toNatClampNeg y g d))) := by
  have hN : N ≤ 4096 := Nat.le_of_lt hNl
  have hN1 : sV σ N th 11 = nI N := rfl
  have hN20 : sN σ ≤ 20 := hW.2.1
  have hnP : sP σ ≤ 10 := hW.2.2.1
  refine zM.of (by decide +kernel) (Nat.le_of_ble_eq_true rfl) ?_
  intro p0 e0 s0 m0 args0 below0 meth0 c0 Z hr hH hn ls hl
  have Z : zC G p0 s0 m0 args0 meth0 c0 RX2 cX2_covers 7 := Z
  have hl : lv_has ls 7 [(0, .ref o), (1, .int p), (2, .int t), (3, .int y), (4, .int g), (5, .int d)] := hl
  have hL : zL G [] := zL.nil
  refine lv_aload_n Z.hx Z.hb dX2_covers_0 rfl (lv_at hl 0 rfl) ?_
  refine lv_iload_n Z.hx Z.hb dX2_covers_1 rfl (lv_at hl 1 rfl) ?_
  -- LinkResolverModel.isPackage
  refine z_pcallV (rest := []) (As := [.int p]) Z (m_isPackage G l H o A (sV σ N th) f hM p) gw_X2_81 gd_X2_81 rfl hM.ob rfl hl.1 (Nat.le_of_ble_eq_true rfl) rfl dX2_covers_2 ⟨⟨Nat.le_of_ble_eq_true rfl, Nat.le_of_ble_eq_true rfl⟩, Nat.le_of_ble_eq_true rfl, Nat.le_of_ble_eq_true rfl⟩ hL (fun locs hL => ?_)
  refine lv_if_eq (tgt := 20) Z.hx Z.hb dX2_covers_5 (by decide) (fun c5 => ?_) (fun c5 => ?_)
  · skip
    have c5 : (mIs p (nI (sP σ))) = false := zb_0.mp c5
    refine lv_iconst (v := 0) Z.hx Z.hb dX2_covers_20 (by decide) ?_
    refine lv_istore (lv' := [(6, .int 0), (0, .ref o), (1, .int p), (2, .int t), (3, .int y), (4, .int g), (5, .int d)]) Z.hx Z.hb dX2_covers_21 hl (by decide) rfl (fun ls hl => ?_)
    refine lv_aload_n Z.hx Z.hb dX2_covers_23 rfl (lv_at hl 1 rfl) ?_
    refine lv_iload Z.hx Z.hb dX2_covers_24 (lv_at hl 0 rfl) ?_
    refine lv_if_ne (tgt := 33) Z.hx Z.hb dX2_covers_26 (by decide) (fun c26 => ?_) (fun c26 => ?_)
    · exact absurd (by decide) c26
    · skip
      refine lv_iconst (v := 1) Z.hx Z.hb dX2_covers_29 (by decide) ?_
      refine lv_goto (tgt := 50) Z.hx Z.hb dX2_covers_30 (by decide) ?_
      -- LinkResolverModel.holds
      refine z_gcallV (rest := []) (As := [.int 1]) Z (m_holdsN G l H o A (sV σ N th) f hM ha 1 (by decide)) gw_X2_64 gd_X2_64 rfl hM.ob rfl hl.1 (Nat.le_of_ble_eq_true rfl) rfl dX2_covers_50 ⟨⟨Nat.le_of_ble_eq_true rfl, Nat.le_of_ble_eq_true rfl⟩, Nat.le_of_ble_eq_true rfl, Nat.le_of_ble_eq_true rfl⟩ hL (fun H_1 locs hL hP_ => ?_)
      obtain ⟨hM_1, hF_1⟩ := hP_
      refine lv_if_eq (tgt := 82) Z.hx Z.hb dX2_covers_53 (by decide) (fun c53 => ?_) (fun c53 => ?_)
      · skip
        refine lv_iconst (v := 0) Z.hx Z.hb dX2_covers_82 (by decide) ?_
        exact z_zret Z hr hL (by decide) (mPost.no hM_1 hF_1 hS (by simp [kCov, kIf, kPT, sAsk, c5, c26, c53]) (by decide)) (Nat.le_of_ble_eq_true rfl) (Nat.le_of_ble_eq_true rfl) dX2_covers_83
      · exact absurd (by decide) c53
  · skip
    have c5 : (mIs p (nI (sP σ))) = true := zb_n.mp c5
    obtain ⟨jp, hjp, rfl⟩ := mIs_nI (by omega) c5
    have hjpi := c5
    have hjpc : (nI jp).toNatClampNeg = jp := nI_clamp (by omega)
    have hjpl : jp < 10 := by omega
    refine lv_aload_n Z.hx Z.hb dX2_covers_8 rfl (lv_at hl 0 rfl) ?_
    refine lv_iload_n Z.hx Z.hb dX2_covers_9 rfl (lv_at hl 2 rfl) ?_
    -- LinkResolverModel.isTitle
    refine z_pcallV (rest := []) (As := [.int t]) Z (m_isTitle G l H o A (sV σ N th) f hM t) gw_X2_68 gd_X2_68 rfl hM.ob rfl hl.1 (Nat.le_of_ble_eq_true rfl) rfl dX2_covers_10 ⟨⟨Nat.le_of_ble_eq_true rfl, Nat.le_of_ble_eq_true rfl⟩, Nat.le_of_ble_eq_true rfl, Nat.le_of_ble_eq_true rfl⟩ hL (fun locs hL => ?_)
    refine lv_if_eq (tgt := 20) Z.hx Z.hb dX2_covers_13 (by decide) (fun c13 => ?_) (fun c13 => ?_)
    · skip
      have c13 : (mIs t (nI (sN σ))) = false := zb_0.mp c13
      refine lv_iconst (v := 0) Z.hx Z.hb dX2_covers_20 (by decide) ?_
      refine lv_istore (lv' := [(6, .int 0), (0, .ref o), (1, .int (nI jp)), (2, .int t), (3, .int y), (4, .int g), (5, .int d)]) Z.hx Z.hb dX2_covers_21 hl (by decide) rfl (fun ls hl => ?_)
      refine lv_aload_n Z.hx Z.hb dX2_covers_23 rfl (lv_at hl 1 rfl) ?_
      refine lv_iload Z.hx Z.hb dX2_covers_24 (lv_at hl 0 rfl) ?_
      refine lv_if_ne (tgt := 33) Z.hx Z.hb dX2_covers_26 (by decide) (fun c26 => ?_) (fun c26 => ?_)
      · exact absurd (by decide) c26
      · skip
        refine lv_iconst (v := 1) Z.hx Z.hb dX2_covers_29 (by decide) ?_
        refine lv_goto (tgt := 50) Z.hx Z.hb dX2_covers_30 (by decide) ?_
        -- LinkResolverModel.holds
        refine z_gcallV (rest := []) (As := [.int 1]) Z (m_holdsN G l H o A (sV σ N th) f hM ha 1 (by decide)) gw_X2_64 gd_X2_64 rfl hM.ob rfl hl.1 (Nat.le_of_ble_eq_true rfl) rfl dX2_covers_50 ⟨⟨Nat.le_of_ble_eq_true rfl, Nat.le_of_ble_eq_true rfl⟩, Nat.le_of_ble_eq_true rfl, Nat.le_of_ble_eq_true rfl⟩ hL (fun H_2 locs hL hP_ => ?_)
        obtain ⟨hM_2, hF_2⟩ := hP_
        refine lv_if_eq (tgt := 82) Z.hx Z.hb dX2_covers_53 (by decide) (fun c53 => ?_) (fun c53 => ?_)
        · skip
          refine lv_iconst (v := 0) Z.hx Z.hb dX2_covers_82 (by decide) ?_
          exact z_zret Z hr hL (by decide) (mPost.no hM_2 hF_2 hS (by simp [kCov, kIf, kPT, sAsk, hjpi, hjpc, c13, c26, c53]) (by decide)) (Nat.le_of_ble_eq_true rfl) (Nat.le_of_ble_eq_true rfl) dX2_covers_83
        · exact absurd (by decide) c53
    · skip
      have c13 : (mIs t (nI (sN σ))) = true := zb_n.mp c13
      obtain ⟨jt, hjt, rfl⟩ := mIs_nI (by omega) c13
      have hjti := c13
      have hjtc : (nI jt).toNatClampNeg = jt := nI_clamp (by omega)
      have hjtl : jt < 20 := by omega
      refine lv_iconst (v := 1) Z.hx Z.hb dX2_covers_16 (by decide) ?_
      refine lv_goto (tgt := 21) Z.hx Z.hb dX2_covers_17 (by decide) ?_
      refine lv_istore (lv' := [(6, .int 1), (0, .ref o), (1, .int (nI jp)), (2, .int (nI jt)), (3, .int y), (4, .int g), (5, .int d)]) Z.hx Z.hb dX2_covers_21 hl (by decide) rfl (fun ls hl => ?_)
      refine lv_aload_n Z.hx Z.hb dX2_covers_23 rfl (lv_at hl 1 rfl) ?_
      refine lv_iload Z.hx Z.hb dX2_covers_24 (lv_at hl 0 rfl) ?_
      refine lv_if_ne (tgt := 33) Z.hx Z.hb dX2_covers_26 (by decide) (fun c26 => ?_) (fun c26 => ?_)
      · skip
        refine lv_aload_n Z.hx Z.hb dX2_covers_33 rfl (lv_at hl 1 rfl) ?_
        refine lv_iload_n Z.hx Z.hb dX2_covers_34 rfl (lv_at hl 4 rfl) ?_
        refine lv_iload Z.hx Z.hb dX2_covers_35 (lv_at hl 5 rfl) ?_
        refine lv_iload Z.hx Z.hb dX2_covers_37 (lv_at hl 6 rfl) ?_
        -- LinkResolverModel.isAsked
        refine z_pcallV (rest := [.ref o]) (As := [.int y, .int g, .int d]) Z (m_isAsked G l H o A (sV σ N th) f hM y g d) gw_X2_104 gd_X2_104 rfl hM.ob rfl hl.1 (Nat.le_of_ble_eq_true rfl) rfl dX2_covers_39 ⟨⟨Nat.le_of_ble_eq_true rfl, Nat.le_of_ble_eq_true rfl⟩, Nat.le_of_ble_eq_true rfl, Nat.le_of_ble_eq_true rfl⟩ hL (fun locs hL => ?_)
        refine lv_if_eq (tgt := 49) Z.hx Z.hb dX2_covers_42 (by decide) (fun c42 => ?_) (fun c42 => ?_)
        · skip
          have c42 : (mBt y 0 55 && mBt g 0 3 && mBt d 0 (sT σ)) = false := zb_0.mp c42
          refine lv_iconst (v := 2) Z.hx Z.hb dX2_covers_49 (by decide) ?_
          -- LinkResolverModel.holds
          refine z_gcallV (rest := []) (As := [.int 2]) Z (m_holdsN G l H o A (sV σ N th) f hM ha 2 (by decide)) gw_X2_64 gd_X2_64 rfl hM.ob rfl hl.1 (Nat.le_of_ble_eq_true rfl) rfl dX2_covers_50 ⟨⟨Nat.le_of_ble_eq_true rfl, Nat.le_of_ble_eq_true rfl⟩, Nat.le_of_ble_eq_true rfl, Nat.le_of_ble_eq_true rfl⟩ hL (fun H_3 locs hL hP_ => ?_)
          obtain ⟨hM_3, hF_3⟩ := hP_
          refine lv_if_eq (tgt := 82) Z.hx Z.hb dX2_covers_53 (by decide) (fun c53 => ?_) (fun c53 => ?_)
          · skip
            refine lv_iconst (v := 0) Z.hx Z.hb dX2_covers_82 (by decide) ?_
            exact z_zret Z hr hL (by decide) (mPost.no hM_3 hF_3 hS (by simp [kCov, kIf, kPT, sAsk, hjpi, hjpc, hjti, hjtc, c26, c42, c53]) (by decide)) (Nat.le_of_ble_eq_true rfl) (Nat.le_of_ble_eq_true rfl) dX2_covers_83
          · exact absurd (by decide) c53
        · skip
          have c42 : (mBt y 0 55 && mBt g 0 3 && mBt d 0 (sT σ)) = true := zb_n.mp c42
          refine lv_iconst (v := 0) Z.hx Z.hb dX2_covers_45 (by decide) ?_
          refine lv_goto (tgt := 50) Z.hx Z.hb dX2_covers_46 (by decide) ?_
          -- LinkResolverModel.holds
          refine z_gcallV (rest := []) (As := [.int 0]) Z (m_holds0 G l H o A (sV σ N th) f hM ha) gw_X2_64 gd_X2_64 rfl hM.ob rfl hl.1 (Nat.le_of_ble_eq_true rfl) rfl dX2_covers_50 ⟨⟨Nat.le_of_ble_eq_true rfl, Nat.le_of_ble_eq_true rfl⟩, Nat.le_of_ble_eq_true rfl, Nat.le_of_ble_eq_true rfl⟩ hL (fun H_4 locs hL hP_ => ?_)
          obtain ⟨hM_4, hF_4⟩ := hP_
          refine lv_if_eq (tgt := 82) Z.hx Z.hb dX2_covers_53 (by decide) (fun c53 => ?_) (fun c53 => ?_)
          · exact absurd c53 (by decide)
          · skip
            refine lv_aload_n Z.hx Z.hb dX2_covers_56 rfl (lv_at hl 1 rfl) ?_
            refine lv_iload_n Z.hx Z.hb dX2_covers_57 rfl (lv_at hl 2 rfl) ?_
            refine lv_iload Z.hx Z.hb dX2_covers_58 (lv_at hl 5 rfl) ?_
            -- LinkResolverModel.lets
            refine z_pcallV (rest := []) (As := [.int (nI jp), .int g]) Z (m_lets G l H_4 o A (va_up (sV σ N th) 0 0) f hM_4 jp (by omega) g) gw_X2_107 gd_X2_107 rfl hM_4.ob rfl hl.1 (Nat.le_of_ble_eq_true rfl) rfl dX2_covers_60 ⟨⟨Nat.le_of_ble_eq_true rfl, Nat.le_of_ble_eq_true rfl⟩, Nat.le_of_ble_eq_true rfl, Nat.le_of_ble_eq_true rfl⟩ hL (fun locs hL => ?_)
            refine lv_if_eq (tgt := 82) Z.hx Z.hb dX2_covers_63 (by decide) (fun c63 => ?_) (fun c63 => ?_)
            · skip
              have c63 : (mLet f jp g) = false := zb_0.mp c63
              refine lv_iconst (v := 0) Z.hx Z.hb dX2_covers_82 (by decide) ?_
              exact z_zret Z hr hL (by decide) (mPost.yes hM_4 hF_4 hS (by simp [kCov, kIf, kPT, sAsk, hjpi, hjpc, hjti, hjtc, c26, c42, c53]) (by rw [hjpc, hjtc, ← mWay_s hS (by omega) (by omega) (by omega)]; simp [mWay, c63, zb])) (Nat.le_of_ble_eq_true rfl) (Nat.le_of_ble_eq_true rfl) dX2_covers_83
            · skip
              have c63 : (mLet f jp g) = true := zb_n.mp c63
              refine lv_aload_n Z.hx Z.hb dX2_covers_66 rfl (lv_at hl 1 rfl) ?_
              refine lv_iload_n Z.hx Z.hb dX2_covers_67 rfl (lv_at hl 2 rfl) ?_
              refine lv_iload_n Z.hx Z.hb dX2_covers_68 rfl (lv_at hl 3 rfl) ?_
              refine lv_iload_n Z.hx Z.hb dX2_covers_69 rfl (lv_at hl 4 rfl) ?_
              refine lv_iload Z.hx Z.hb dX2_covers_70 (lv_at hl 6 rfl) ?_
              -- LinkResolverModel.isCovered
              refine z_pcallV (rest := []) (As := [.int (nI jp), .int (nI jt), .int y, .int d]) Z (m_isCovered G l H_4 o A (va_up (sV σ N th) 0 0) f hM_4 N hN hN1 jp jt (by omega) (by omega) y d) gw_X2_110 gd_X2_110 rfl hM_4.ob rfl hl.1 (Nat.le_of_ble_eq_true rfl) rfl dX2_covers_72 ⟨⟨Nat.le_of_ble_eq_true rfl, Nat.le_of_ble_eq_true rfl⟩, Nat.le_of_ble_eq_true rfl, Nat.le_of_ble_eq_true rfl⟩ hL (fun locs hL => ?_)
              refine lv_if_eq (tgt := 82) Z.hx Z.hb dX2_covers_75 (by decide) (fun c75 => ?_) (fun c75 => ?_)
              · skip
                have c75 : (mCov f N jp jt y d) = false := zb_0.mp c75
                refine lv_iconst (v := 0) Z.hx Z.hb dX2_covers_82 (by decide) ?_
                exact z_zret Z hr hL (by decide) (mPost.yes hM_4 hF_4 hS (by simp [kCov, kIf, kPT, sAsk, hjpi, hjpc, hjti, hjtc, c26, c42, c53]) (by rw [hjpc, hjtc, ← mWay_s hS (by omega) (by omega) (by omega)]; simp [mWay, c63, c75, zb])) (Nat.le_of_ble_eq_true rfl) (Nat.le_of_ble_eq_true rfl) dX2_covers_83
              · skip
                have c75 : (mCov f N jp jt y d) = true := zb_n.mp c75
                refine lv_iconst (v := 1) Z.hx Z.hb dX2_covers_78 (by decide) ?_
                refine lv_goto (tgt := 83) Z.hx Z.hb dX2_covers_79 (by decide) ?_
                exact z_zret Z hr hL (by decide) (mPost.yes hM_4 hF_4 hS (by simp [kCov, kIf, kPT, sAsk, hjpi, hjpc, hjti, hjtc, c26, c42, c53]) (by rw [hjpc, hjtc, ← mWay_s hS (by omega) (by omega) (by omega)]; simp [mWay, c63, c75, zb])) (Nat.le_of_ble_eq_true rfl) (Nat.le_of_ble_eq_true rfl) dX2_covers_83
      · exact absurd c26 (by decide)
set_option maxHeartbeats 4000000 in
set_option maxRecDepth 100000 in
theorem m_ways (G : zG) (l : Launch) (H : Heap) (o : Nat) (A : Nat → Nat) (f : Nat → Nat → Int32) (ha : mAd G o A) (σ : zS) (N : Nat) (th : Int32) (hM : mRep G H o A (sV σ N th) f) (hS : mSim σ N (sV σ N th) f) (hW : sWf σ) (hNl : N < 4096) (t y g d : Int32) : zM G l yX2_ways cX2_ways 5 (Option.some Jvm.ClassFile.FieldType.int) 6 0 0 [.ref o, .int t, .int y, .int g, .int d] H (mPost G H o A N σ σ (kWays σ t y g d) (nI (sCnt σ t.toNatClampNeg y g d))) := by
  have hN : N ≤ 4096 := Nat.le_of_lt hNl
  have hN1 : sV σ N th 11 = nI N := rfl
  have hN20 : sN σ ≤ 20 := hW.2.1
  have hnP : sP σ ≤ 10 := hW.2.2.1
  refine zM.of (by decide +kernel) (Nat.le_of_ble_eq_true rfl) ?_
  intro p0 e0 s0 m0 args0 below0 meth0 c0 Z hr hH hn ls hl
  have Z : zC G p0 s0 m0 args0 meth0 c0 RX2 cX2_ways 5 := Z
  have hl : lv_has ls 5 [(0, .ref o), (1, .int t), (2, .int y), (3, .int g), (4, .int d)] := hl
  have hL : zL G [] := zL.nil
  refine lv_aload_n Z.hx Z.hb dX2_ways_0 rfl (lv_at hl 0 rfl) ?_
  refine lv_aload_n Z.hx Z.hb dX2_ways_1 rfl (lv_at hl 0 rfl) ?_
  refine lv_iload_n Z.hx Z.hb dX2_ways_2 rfl (lv_at hl 1 rfl) ?_
  -- LinkResolverModel.isTitle
  refine z_pcallV (rest := [.ref o]) (As := [.int t]) Z (m_isTitle G l H o A (sV σ N th) f hM t) gw_X2_68 gd_X2_68 rfl hM.ob rfl hl.1 (Nat.le_of_ble_eq_true rfl) rfl dX2_ways_3 ⟨⟨Nat.le_of_ble_eq_true rfl, Nat.le_of_ble_eq_true rfl⟩, Nat.le_of_ble_eq_true rfl, Nat.le_of_ble_eq_true rfl⟩ hL (fun locs hL => ?_)
  refine lv_if_ne (tgt := 13) Z.hx Z.hb dX2_ways_6 (by decide) (fun c6 => ?_) (fun c6 => ?_)
  · skip
    have c6 : (mIs t (nI (sN σ))) = true := zb_n.mp c6
    obtain ⟨jt, hjt, rfl⟩ := mIs_nI (by omega) c6
    have hjti := c6
    have hjtc : (nI jt).toNatClampNeg = jt := nI_clamp (by omega)
    have hjtl : jt < 20 := by omega
    refine lv_aload_n Z.hx Z.hb dX2_ways_13 rfl (lv_at hl 0 rfl) ?_
    refine lv_iload_n Z.hx Z.hb dX2_ways_14 rfl (lv_at hl 2 rfl) ?_
    refine lv_iload_n Z.hx Z.hb dX2_ways_15 rfl (lv_at hl 3 rfl) ?_
    refine lv_iload Z.hx Z.hb dX2_ways_16 (lv_at hl 4 rfl) ?_
    -- LinkResolverModel.isAsked
    refine z_pcallV (rest := [.ref o]) (As := [.int y, .int g, .int d]) Z (m_isAsked G l H o A (sV σ N th) f hM y g d) gw_X2_104 gd_X2_104 rfl hM.ob rfl hl.1 (Nat.le_of_ble_eq_true rfl) rfl dX2_ways_18 ⟨⟨Nat.le_of_ble_eq_true rfl, Nat.le_of_ble_eq_true rfl⟩, Nat.le_of_ble_eq_true rfl, Nat.le_of_ble_eq_true rfl⟩ hL (fun locs hL => ?_)
    refine lv_if_eq (tgt := 28) Z.hx Z.hb dX2_ways_21 (by decide) (fun c21 => ?_) (fun c21 => ?_)
    · skip
      have c21 : (mBt y 0 55 && mBt g 0 3 && mBt d 0 (sT σ)) = false := zb_0.mp c21
      refine lv_iconst (v := 2) Z.hx Z.hb dX2_ways_28 (by decide) ?_
      -- LinkResolverModel.holds
      refine z_gcallV (rest := []) (As := [.int 2]) Z (m_holdsN G l H o A (sV σ N th) f hM ha 2 (by decide)) gw_X2_64 gd_X2_64 rfl hM.ob rfl hl.1 (Nat.le_of_ble_eq_true rfl) rfl dX2_ways_29 ⟨⟨Nat.le_of_ble_eq_true rfl, Nat.le_of_ble_eq_true rfl⟩, Nat.le_of_ble_eq_true rfl, Nat.le_of_ble_eq_true rfl⟩ hL (fun H_1 locs hL hP_ => ?_)
      obtain ⟨hM_1, hF_1⟩ := hP_
      refine lv_if_eq (tgt := 47) Z.hx Z.hb dX2_ways_32 (by decide) (fun c32 => ?_) (fun c32 => ?_)
      · skip
        refine lv_iconst (v := 0) Z.hx Z.hb dX2_ways_47 (by decide) ?_
        exact z_iret Z hr hL (mPost.no hM_1 hF_1 hS (by simp [kWays, kIf, kPT, sAsk, hjti, hjtc, c21, c32]) (by decide)) (Nat.le_of_ble_eq_true rfl) (Nat.le_of_ble_eq_true rfl) dX2_ways_48
      · exact absurd (by decide) c32
    · skip
      have c21 : (mBt y 0 55 && mBt g 0 3 && mBt d 0 (sT σ)) = true := zb_n.mp c21
      refine lv_iconst (v := 0) Z.hx Z.hb dX2_ways_24 (by decide) ?_
      refine lv_goto (tgt := 29) Z.hx Z.hb dX2_ways_25 (by decide) ?_
      -- LinkResolverModel.holds
      refine z_gcallV (rest := []) (As := [.int 0]) Z (m_holds0 G l H o A (sV σ N th) f hM ha) gw_X2_64 gd_X2_64 rfl hM.ob rfl hl.1 (Nat.le_of_ble_eq_true rfl) rfl dX2_ways_29 ⟨⟨Nat.le_of_ble_eq_true rfl, Nat.le_of_ble_eq_true rfl⟩, Nat.le_of_ble_eq_true rfl, Nat.le_of_ble_eq_true rfl⟩ hL (fun H_2 locs hL hP_ => ?_)
      obtain ⟨hM_2, hF_2⟩ := hP_
      refine lv_if_eq (tgt := 47) Z.hx Z.hb dX2_ways_32 (by decide) (fun c32 => ?_) (fun c32 => ?_)
      · exact absurd c32 (by decide)
      · skip
        refine lv_aload_n Z.hx Z.hb dX2_ways_35 rfl (lv_at hl 0 rfl) ?_
        refine lv_iload_n Z.hx Z.hb dX2_ways_36 rfl (lv_at hl 1 rfl) ?_
        refine lv_iload_n Z.hx Z.hb dX2_ways_37 rfl (lv_at hl 2 rfl) ?_
        refine lv_iload_n Z.hx Z.hb dX2_ways_38 rfl (lv_at hl 3 rfl) ?_
        refine lv_iload Z.hx Z.hb dX2_ways_39 (lv_at hl 4 rfl) ?_
        -- LinkResolverModel.waysTo
        refine z_pcallV (rest := []) (As := [.int (nI jt), .int y, .int g, .int d]) Z (m_waysTo G l H_2 o A (va_up (sV σ N th) 0 0) f hM_2 N hN hN1 (sP σ) hnP rfl jt (by omega) y g d) gw_X2_113 gd_X2_113 rfl hM_2.ob rfl hl.1 (Nat.le_of_ble_eq_true rfl) rfl dX2_ways_41 ⟨⟨Nat.le_of_ble_eq_true rfl, Nat.le_of_ble_eq_true rfl⟩, Nat.le_of_ble_eq_true rfl, Nat.le_of_ble_eq_true rfl⟩ hL (fun locs hL => ?_)
        refine lv_goto (tgt := 48) Z.hx Z.hb dX2_ways_44 (by decide) ?_
        exact z_iret Z hr hL (mPost.yes hM_2 hF_2 hS (by simp [kWays, kIf, kPT, sAsk, hjti, hjtc, c21, c32]) (by rw [hjtc, ← mCnt_s hS hnP (by omega)])) (Nat.le_of_ble_eq_true rfl) (Nat.le_of_ble_eq_true rfl) dX2_ways_48
  · skip
    have c6 : (mIs t (nI (sN σ))) = false := zb_0.mp c6
    refine lv_iconst (v := 1) Z.hx Z.hb dX2_ways_9 (by decide) ?_
    refine lv_goto (tgt := 29) Z.hx Z.hb dX2_ways_10 (by decide) ?_
    -- LinkResolverModel.holds
    refine z_gcallV (rest := []) (As := [.int 1]) Z (m_holdsN G l H o A (sV σ N th) f hM ha 1 (by decide)) gw_X2_64 gd_X2_64 rfl hM.ob rfl hl.1 (Nat.le_of_ble_eq_true rfl) rfl dX2_ways_29 ⟨⟨Nat.le_of_ble_eq_true rfl, Nat.le_of_ble_eq_true rfl⟩, Nat.le_of_ble_eq_true rfl, Nat.le_of_ble_eq_true rfl⟩ hL (fun H_3 locs hL hP_ => ?_)
    obtain ⟨hM_3, hF_3⟩ := hP_
    refine lv_if_eq (tgt := 47) Z.hx Z.hb dX2_ways_32 (by decide) (fun c32 => ?_) (fun c32 => ?_)
    · skip
      refine lv_iconst (v := 0) Z.hx Z.hb dX2_ways_47 (by decide) ?_
      exact z_iret Z hr hL (mPost.no hM_3 hF_3 hS (by simp [kWays, kIf, kPT, sAsk, c6, c32]) (by decide)) (Nat.le_of_ble_eq_true rfl) (Nat.le_of_ble_eq_true rfl) dX2_ways_48
    · exact absurd (by decide) c32
def mPost0 (G : zG) (H : Heap) (o : Nat) (A : Nat → Nat) (N : Nat) (σ σ1 : zS) (code : Int32) (r : Option Value) (H1 : Heap) : Prop := r = none ∧ mPost G H o A N σ σ1 code 0 (some (.int 0)) H1
set_option maxHeartbeats 4000000 in
set_option maxRecDepth 100000 in
theorem m_go (G : zG) (l : Launch) (H : Heap) (o : Nat) (A : Nat → Nat) (f : Nat → Nat → Int32) (ha : mAd G o A) (σ : zS) (N : Nat) (th : Int32) (hM : mRep G H o A (sV σ N th) f) (hS : mSim σ N (sV σ N th) f) (hW : sWf σ) (hNl : N < 4096) (p t : Int32) : zM G l yX2_go cX2_go 5 none 2 0 0 [.ref o, .int p, .int t] H (mPost0 G H o A N σ (sNote σ p.toNatClampNeg t.toNatClampNeg 0 0 0 0) (kGo σ p t)) := by
  have hN : N ≤ 4096 := Nat.le_of_lt hNl
  have hN1 : sV σ N th 11 = nI N := rfl
  have hN20 : sN σ ≤ 20 := hW.2.1
  have hnP : sP σ ≤ 10 := hW.2.2.1
  refine zM.of (by decide +kernel) (Nat.le_of_ble_eq_true rfl) ?_
  intro p0 e0 s0 m0 args0 below0 meth0 c0 Z hr hH hn ls hl
  have Z : zC G p0 s0 m0 args0 meth0 c0 RX2 cX2_go 5 := Z
  have hl : lv_has ls 5 [(0, .ref o), (1, .int p), (2, .int t)] := hl
  have hL : zL G [] := zL.nil
  refine lv_aload_n Z.hx Z.hb dX2_go_0 rfl (lv_at hl 0 rfl) ?_
  refine lv_iload_n Z.hx Z.hb dX2_go_1 rfl (lv_at hl 1 rfl) ?_
  -- LinkResolverModel.isPackage
  refine z_pcallV (rest := []) (As := [.int p]) Z (m_isPackage G l H o A (sV σ N th) f hM p) gw_X2_81 gd_X2_81 rfl hM.ob rfl hl.1 (Nat.le_of_ble_eq_true rfl) rfl dX2_go_2 ⟨⟨Nat.le_of_ble_eq_true rfl, Nat.le_of_ble_eq_true rfl⟩, Nat.le_of_ble_eq_true rfl, Nat.le_of_ble_eq_true rfl⟩ hL (fun locs hL => ?_)
  refine lv_if_eq (tgt := 20) Z.hx Z.hb dX2_go_5 (by decide) (fun c5 => ?_) (fun c5 => ?_)
  · skip
    have c5 : (mIs p (nI (sP σ))) = false := zb_0.mp c5
    refine lv_iconst (v := 0) Z.hx Z.hb dX2_go_20 (by decide) ?_
    refine lv_istore_n (lv' := [(3, .int 0), (0, .ref o), (1, .int p), (2, .int t)]) Z.hx Z.hb dX2_go_21 rfl hl (by decide) rfl (fun ls hl => ?_)
    refine lv_aload_n Z.hx Z.hb dX2_go_22 rfl (lv_at hl 1 rfl) ?_
    refine lv_iload_n Z.hx Z.hb dX2_go_23 rfl (lv_at hl 0 rfl) ?_
    refine lv_if_ne (tgt := 31) Z.hx Z.hb dX2_go_24 (by decide) (fun c24 => ?_) (fun c24 => ?_)
    · exact absurd (by decide) c24
    · skip
      refine lv_iconst (v := 1) Z.hx Z.hb dX2_go_27 (by decide) ?_
      refine lv_goto (tgt := 53) Z.hx Z.hb dX2_go_28 (by decide) ?_
      -- LinkResolverModel.holds
      refine z_gcallV (rest := []) (As := [.int 1]) Z (m_holdsN G l H o A (sV σ N th) f hM ha 1 (by decide)) gw_X2_64 gd_X2_64 rfl hM.ob rfl hl.1 (Nat.le_of_ble_eq_true rfl) rfl dX2_go_53 ⟨⟨Nat.le_of_ble_eq_true rfl, Nat.le_of_ble_eq_true rfl⟩, Nat.le_of_ble_eq_true rfl, Nat.le_of_ble_eq_true rfl⟩ hL (fun H_1 locs hL hP_ => ?_)
      obtain ⟨hM_1, hF_1⟩ := hP_
      refine lv_if_eq (tgt := 75) Z.hx Z.hb dX2_go_56 (by decide) (fun c56 => ?_) (fun c56 => ?_)
      · skip
        exact z_vret Z hr hL (⟨rfl, mPost.no hM_1 hF_1 hS (by simp [kGo, kIf, kPT, c5, c24, c56]) (by decide)⟩) (Nat.le_of_ble_eq_true rfl) (Nat.le_of_ble_eq_true rfl) dX2_go_75
      · exact absurd (by decide) c56
  · skip
    have c5 : (mIs p (nI (sP σ))) = true := zb_n.mp c5
    obtain ⟨jp, hjp, rfl⟩ := mIs_nI (by omega) c5
    have hjpi := c5
    have hjpc : (nI jp).toNatClampNeg = jp := nI_clamp (by omega)
    have hjpl : jp < 10 := by omega
    refine lv_aload_n Z.hx Z.hb dX2_go_8 rfl (lv_at hl 0 rfl) ?_
    refine lv_iload_n Z.hx Z.hb dX2_go_9 rfl (lv_at hl 2 rfl) ?_
    -- LinkResolverModel.isTitle
    refine z_pcallV (rest := []) (As := [.int t]) Z (m_isTitle G l H o A (sV σ N th) f hM t) gw_X2_68 gd_X2_68 rfl hM.ob rfl hl.1 (Nat.le_of_ble_eq_true rfl) rfl dX2_go_10 ⟨⟨Nat.le_of_ble_eq_true rfl, Nat.le_of_ble_eq_true rfl⟩, Nat.le_of_ble_eq_true rfl, Nat.le_of_ble_eq_true rfl⟩ hL (fun locs hL => ?_)
    refine lv_if_eq (tgt := 20) Z.hx Z.hb dX2_go_13 (by decide) (fun c13 => ?_) (fun c13 => ?_)
    · skip
      have c13 : (mIs t (nI (sN σ))) = false := zb_0.mp c13
      refine lv_iconst (v := 0) Z.hx Z.hb dX2_go_20 (by decide) ?_
      refine lv_istore_n (lv' := [(3, .int 0), (0, .ref o), (1, .int (nI jp)), (2, .int t)]) Z.hx Z.hb dX2_go_21 rfl hl (by decide) rfl (fun ls hl => ?_)
      refine lv_aload_n Z.hx Z.hb dX2_go_22 rfl (lv_at hl 1 rfl) ?_
      refine lv_iload_n Z.hx Z.hb dX2_go_23 rfl (lv_at hl 0 rfl) ?_
      refine lv_if_ne (tgt := 31) Z.hx Z.hb dX2_go_24 (by decide) (fun c24 => ?_) (fun c24 => ?_)
      · exact absurd (by decide) c24
      · skip
        refine lv_iconst (v := 1) Z.hx Z.hb dX2_go_27 (by decide) ?_
        refine lv_goto (tgt := 53) Z.hx Z.hb dX2_go_28 (by decide) ?_
        -- LinkResolverModel.holds
        refine z_gcallV (rest := []) (As := [.int 1]) Z (m_holdsN G l H o A (sV σ N th) f hM ha 1 (by decide)) gw_X2_64 gd_X2_64 rfl hM.ob rfl hl.1 (Nat.le_of_ble_eq_true rfl) rfl dX2_go_53 ⟨⟨Nat.le_of_ble_eq_true rfl, Nat.le_of_ble_eq_true rfl⟩, Nat.le_of_ble_eq_true rfl, Nat.le_of_ble_eq_true rfl⟩ hL (fun H_2 locs hL hP_ => ?_)
        obtain ⟨hM_2, hF_2⟩ := hP_
        refine lv_if_eq (tgt := 75) Z.hx Z.hb dX2_go_56 (by decide) (fun c56 => ?_) (fun c56 => ?_)
        · skip
          exact z_vret Z hr hL (⟨rfl, mPost.no hM_2 hF_2 hS (by simp [kGo, kIf, kPT, hjpi, hjpc, c13, c24, c56]) (by decide)⟩) (Nat.le_of_ble_eq_true rfl) (Nat.le_of_ble_eq_true rfl) dX2_go_75
        · exact absurd (by decide) c56
    · skip
      have c13 : (mIs t (nI (sN σ))) = true := zb_n.mp c13
      obtain ⟨jt, hjt, rfl⟩ := mIs_nI (by omega) c13
      have hjti := c13
      have hjtc : (nI jt).toNatClampNeg = jt := nI_clamp (by omega)
      have hjtl : jt < 20 := by omega
      refine lv_iconst (v := 1) Z.hx Z.hb dX2_go_16 (by decide) ?_
      refine lv_goto (tgt := 21) Z.hx Z.hb dX2_go_17 (by decide) ?_
      refine lv_istore_n (lv' := [(3, .int 1), (0, .ref o), (1, .int (nI jp)), (2, .int (nI jt))]) Z.hx Z.hb dX2_go_21 rfl hl (by decide) rfl (fun ls hl => ?_)
      refine lv_aload_n Z.hx Z.hb dX2_go_22 rfl (lv_at hl 1 rfl) ?_
      refine lv_iload_n Z.hx Z.hb dX2_go_23 rfl (lv_at hl 0 rfl) ?_
      refine lv_if_ne (tgt := 31) Z.hx Z.hb dX2_go_24 (by decide) (fun c24 => ?_) (fun c24 => ?_)
      · skip
        refine lv_aload_n Z.hx Z.hb dX2_go_31 rfl (lv_at hl 1 rfl) ?_
        refine lv_bipush (v := 21) Z.hx Z.hb dX2_go_32 (by decide) ?_
        refine lv_iload_n Z.hx Z.hb dX2_go_34 rfl (lv_at hl 2 rfl) ?_
        refine lv_imul Z.hx Z.hb dX2_go_35 ?_
        refine lv_iload_n Z.hx Z.hb dX2_go_36 rfl (lv_at hl 3 rfl) ?_
        refine lv_iadd Z.hx Z.hb dX2_go_37 ?_
        refine lv_aload_n Z.hx Z.hb dX2_go_38 rfl (lv_at hl 1 rfl) ?_
        refine gf_X2_78 Z hM.ob (v := .int (sT σ)) rfl dX2_go_39 ?_
        -- LinkResolverModel.isSo
        refine z_pcallV (rest := [.ref o]) (As := [.int ((21 * (nI jp)) + (nI jt)), .int (sT σ)]) Z (m_isSo G l H o A (sV σ N th) f hM N hN hN1 ((21 * (nI jp)) + (nI jt)) (sT σ)) gw_X2_92 gd_X2_92 rfl hM.ob rfl hl.1 (Nat.le_of_ble_eq_true rfl) rfl dX2_go_42 ⟨⟨Nat.le_of_ble_eq_true rfl, Nat.le_of_ble_eq_true rfl⟩, Nat.le_of_ble_eq_true rfl, Nat.le_of_ble_eq_true rfl⟩ hL (fun locs hL => ?_)
        refine lv_if_eq (tgt := 52) Z.hx Z.hb dX2_go_45 (by decide) (fun c45 => ?_) (fun c45 => ?_)
        · skip
          have c45 : (mOn f (mCh f ((21 * (nI jp)) + (nI jt)) (sT σ) N)) = false := zb_0.mp c45
          refine lv_iconst (v := 2) Z.hx Z.hb dX2_go_52 (by decide) ?_
          -- LinkResolverModel.holds
          refine z_gcallV (rest := []) (As := [.int 2]) Z (m_holdsN G l H o A (sV σ N th) f hM ha 2 (by decide)) gw_X2_64 gd_X2_64 rfl hM.ob rfl hl.1 (Nat.le_of_ble_eq_true rfl) rfl dX2_go_53 ⟨⟨Nat.le_of_ble_eq_true rfl, Nat.le_of_ble_eq_true rfl⟩, Nat.le_of_ble_eq_true rfl, Nat.le_of_ble_eq_true rfl⟩ hL (fun H_3 locs hL hP_ => ?_)
          obtain ⟨hM_3, hF_3⟩ := hP_
          refine lv_if_eq (tgt := 75) Z.hx Z.hb dX2_go_56 (by decide) (fun c56 => ?_) (fun c56 => ?_)
          · skip
            exact z_vret Z hr hL (⟨rfl, mPost.no hM_3 hF_3 hS (by simp [kGo, kIf, kPT, hjpi, hjpc, hjti, hjtc, c24, c56, (mOn_s hS (p := jp) (k := jt) (by omega) (by omega) (sT σ)).symm.trans c45]) (by decide)⟩) (Nat.le_of_ble_eq_true rfl) (Nat.le_of_ble_eq_true rfl) dX2_go_75
          · exact absurd (by decide) c56
        · skip
          have c45 : (mOn f (mCh f ((21 * (nI jp)) + (nI jt)) (sT σ) N)) = true := zb_n.mp c45
          refine lv_iconst (v := 0) Z.hx Z.hb dX2_go_48 (by decide) ?_
          refine lv_goto (tgt := 53) Z.hx Z.hb dX2_go_49 (by decide) ?_
          -- LinkResolverModel.holds
          refine z_gcallV (rest := []) (As := [.int 0]) Z (m_holds0 G l H o A (sV σ N th) f hM ha) gw_X2_64 gd_X2_64 rfl hM.ob rfl hl.1 (Nat.le_of_ble_eq_true rfl) rfl dX2_go_53 ⟨⟨Nat.le_of_ble_eq_true rfl, Nat.le_of_ble_eq_true rfl⟩, Nat.le_of_ble_eq_true rfl, Nat.le_of_ble_eq_true rfl⟩ hL (fun H_4 locs hL hP_ => ?_)
          obtain ⟨hM_4, hF_4⟩ := hP_
          refine lv_if_eq (tgt := 75) Z.hx Z.hb dX2_go_56 (by decide) (fun c56 => ?_) (fun c56 => ?_)
          · exact absurd c56 (by decide)
          · skip
            refine lv_aload_n Z.hx Z.hb dX2_go_59 rfl (lv_at hl 1 rfl) ?_
            refine lv_bipush (v := 21) Z.hx Z.hb dX2_go_60 (by decide) ?_
            refine lv_iload_n Z.hx Z.hb dX2_go_62 rfl (lv_at hl 2 rfl) ?_
            refine lv_imul Z.hx Z.hb dX2_go_63 ?_
            refine lv_iload_n Z.hx Z.hb dX2_go_64 rfl (lv_at hl 3 rfl) ?_
            refine lv_iadd Z.hx Z.hb dX2_go_65 ?_
            refine lv_iconst (v := 0) Z.hx Z.hb dX2_go_66 (by decide) ?_
            refine lv_iconst (v := 0) Z.hx Z.hb dX2_go_67 (by decide) ?_
            refine lv_iconst (v := 0) Z.hx Z.hb dX2_go_68 (by decide) ?_
            refine lv_iconst (v := 0) Z.hx Z.hb dX2_go_69 (by decide) ?_
            -- LinkResolverModel.notes
            refine z_gcallV (rest := []) (As := [.int ((21 * (nI jp)) + (nI jt)), .int 0, .int 0, .int 0, .int 0]) Z (m_notes G l H_4 o A (va_up (sV σ N th) 0 0) f hM_4 ha N hNl hN rfl (mW jp jt) 0 0 0 0 (Or.inl rfl)) gw_X2_88 gd_X2_88 rfl hM_4.ob rfl hl.1 (Nat.le_of_ble_eq_true rfl) rfl dX2_go_70 ⟨⟨Nat.le_of_ble_eq_true rfl, Nat.le_of_ble_eq_true rfl⟩, Nat.le_of_ble_eq_true rfl, Nat.le_of_ble_eq_true rfl⟩ hL (fun H_5 locs hL hP_ => ?_)
            obtain ⟨hM_5, hF_5⟩ := hP_
            have hF_5 := hF_4.trans hF_5
            refine lv_istore (lv' := [(4, .int (zb (mOn f (mCh f (mW jp jt) (sT σ) N)))), (3, .int 1), (0, .ref o), (1, .int (nI jp)), (2, .int (nI jt))]) Z.hx Z.hb dX2_go_73 hl (by decide) rfl (fun ls hl => ?_)
            exact z_vret Z hr hL (⟨rfl, mPost.mut hM_5 hF_5 rfl (mNn_le f (mW jp jt) _ N) (by rw [hjpc, hjtc]; exact hS.note (by omega) (by omega) hNl 0 0 0 0 0) (by simp [kGo, kIf, kPT, hjpi, hjpc, hjti, hjtc, c24, c56, (mOn_s hS (p := jp) (k := jt) (by omega) (by omega) (sT σ)).symm.trans c45]) rfl⟩) (Nat.le_of_ble_eq_true rfl) (Nat.le_of_ble_eq_true rfl) dX2_go_75
      · exact absurd c24 (by decide)
/-- what the test of a title and a group leaves -/
def mTg (G : zG) (H : Heap) (o : Nat) (A : Nat → Nat) (σ : zS) (N : Nat) (th : Int32) (f : Nat → Nat → Int32) (t g : Int32) (H1 : Heap) : Prop := mRep G H1 o A (va_up (sV σ N th) 0 (kTG σ t g)) f ∧ mFr o A H H1
set_option maxHeartbeats 4000000 in
set_option maxRecDepth 100000 in
theorem m_isOfTitle (G : zG) (l : Launch) (H : Heap) (o : Nat) (A : Nat → Nat) (f : Nat → Nat → Int32) (ha : mAd G o A) (σ : zS) (N : Nat) (th : Int32) (hM : mRep G H o A (sV σ N th) f) (hS : mSim σ N (sV σ N th) f) (hW : sWf σ) (hNl : N < 4096) (t g : Int32) : zMg G l yX2_isOfTitle cX2_isOfTitle 3 (Option.some Jvm.ClassFile.FieldType.boolean) 1 0 0 [.ref o, .int t, .int g] H (.int (zb (decide (kTG σ t g = 0)))) (fun H1 => mTg G H o A σ N th f t g H1) := by
  have hN : N ≤ 4096 := Nat.le_of_lt hNl
  have hN1 : sV σ N th 11 = nI N := rfl
  have hN20 : sN σ ≤ 20 := hW.2.1
  have hnP : sP σ ≤ 10 := hW.2.2.1
  refine zM.of (by decide +kernel) (Nat.le_of_ble_eq_true rfl) ?_
  intro p0 e0 s0 m0 args0 below0 meth0 c0 Z hr hH hn ls hl
  have Z : zC G p0 s0 m0 args0 meth0 c0 RX2 cX2_isOfTitle 3 := Z
  have hl : lv_has ls 3 [(0, .ref o), (1, .int t), (2, .int g)] := hl
  have hL : zL G [] := zL.nil
  refine lv_aload_n Z.hx Z.hb dX2_isOfTitle_0 rfl (lv_at hl 0 rfl) ?_
  refine lv_aload_n Z.hx Z.hb dX2_isOfTitle_1 rfl (lv_at hl 0 rfl) ?_
  refine lv_iload_n Z.hx Z.hb dX2_isOfTitle_2 rfl (lv_at hl 1 rfl) ?_
  -- LinkResolverModel.isTitle
  refine z_pcallV (rest := [.ref o]) (As := [.int t]) Z (m_isTitle G l H o A (sV σ N th) f hM t) gw_X2_68 gd_X2_68 rfl hM.ob rfl hl.1 (Nat.le_of_ble_eq_true rfl) rfl dX2_isOfTitle_3 ⟨⟨Nat.le_of_ble_eq_true rfl, Nat.le_of_ble_eq_true rfl⟩, Nat.le_of_ble_eq_true rfl, Nat.le_of_ble_eq_true rfl⟩ hL (fun locs hL => ?_)
  refine lv_if_ne (tgt := 13) Z.hx Z.hb dX2_isOfTitle_6 (by decide) (fun c6 => ?_) (fun c6 => ?_)
  · skip
    have c6 : (mIs t (nI (sN σ))) = true := zb_n.mp c6
    refine lv_iload_n Z.hx Z.hb dX2_isOfTitle_13 rfl (lv_at hl 2 rfl) ?_
    refine lv_iconst (v := 0) Z.hx Z.hb dX2_isOfTitle_14 (by decide) ?_
    refine lv_iconst (v := 3) Z.hx Z.hb dX2_isOfTitle_15 (by decide) ?_
    -- LinkResolverModel.isBetween
    refine z_pcallS (rest := [.ref o]) (As := [.int g, .int 0, .int 3]) Z (m_isBetween G l H g 0 3) gw_X2_60 gd_X2_60 rfl hl.1 (Nat.le_of_ble_eq_true rfl) rfl dX2_isOfTitle_16 ⟨⟨Nat.le_of_ble_eq_true rfl, Nat.le_of_ble_eq_true rfl⟩, Nat.le_of_ble_eq_true rfl, Nat.le_of_ble_eq_true rfl⟩ hL (fun locs hL => ?_)
    refine lv_if_eq (tgt := 26) Z.hx Z.hb dX2_isOfTitle_19 (by decide) (fun c19 => ?_) (fun c19 => ?_)
    · skip
      have c19 : (mBt g 0 3) = false := zb_0.mp c19
      refine lv_iconst (v := 2) Z.hx Z.hb dX2_isOfTitle_26 (by decide) ?_
      -- LinkResolverModel.holds
      refine z_gcallV (rest := []) (As := [.int 2]) Z (m_holdsN G l H o A (sV σ N th) f hM ha 2 (by decide)) gw_X2_64 gd_X2_64 rfl hM.ob rfl hl.1 (Nat.le_of_ble_eq_true rfl) rfl dX2_isOfTitle_27 ⟨⟨Nat.le_of_ble_eq_true rfl, Nat.le_of_ble_eq_true rfl⟩, Nat.le_of_ble_eq_true rfl, Nat.le_of_ble_eq_true rfl⟩ hL (fun H_1 locs hL hP_ => ?_)
      obtain ⟨hM_1, hF_1⟩ := hP_
      exact z_zret Z hr hL (by decide) (⟨by simp [zb, kTG, kIf, c6, c19], by unfold mTg; rw [show kTG σ t g = 2 from by simp [kTG, kIf, c6, c19]]; exact ⟨hM_1, hF_1⟩⟩) (Nat.le_of_ble_eq_true rfl) (Nat.le_of_ble_eq_true rfl) dX2_isOfTitle_30
    · skip
      have c19 : (mBt g 0 3) = true := zb_n.mp c19
      refine lv_iconst (v := 0) Z.hx Z.hb dX2_isOfTitle_22 (by decide) ?_
      refine lv_goto (tgt := 27) Z.hx Z.hb dX2_isOfTitle_23 (by decide) ?_
      -- LinkResolverModel.holds
      refine z_gcallV (rest := []) (As := [.int 0]) Z (m_holds0 G l H o A (sV σ N th) f hM ha) gw_X2_64 gd_X2_64 rfl hM.ob rfl hl.1 (Nat.le_of_ble_eq_true rfl) rfl dX2_isOfTitle_27 ⟨⟨Nat.le_of_ble_eq_true rfl, Nat.le_of_ble_eq_true rfl⟩, Nat.le_of_ble_eq_true rfl, Nat.le_of_ble_eq_true rfl⟩ hL (fun H_2 locs hL hP_ => ?_)
      obtain ⟨hM_2, hF_2⟩ := hP_
      exact z_zret Z hr hL (by decide) (⟨by simp [zb, kTG, kIf, c6, c19], by unfold mTg; rw [show kTG σ t g = 0 from by simp [kTG, kIf, c6, c19]]; exact ⟨hM_2, hF_2⟩⟩) (Nat.le_of_ble_eq_true rfl) (Nat.le_of_ble_eq_true rfl) dX2_isOfTitle_30
  · skip
    have c6 : (mIs t (nI (sN σ))) = false := zb_0.mp c6
    refine lv_iconst (v := 1) Z.hx Z.hb dX2_isOfTitle_9 (by decide) ?_
    refine lv_goto (tgt := 27) Z.hx Z.hb dX2_isOfTitle_10 (by decide) ?_
    -- LinkResolverModel.holds
    refine z_gcallV (rest := []) (As := [.int 1]) Z (m_holdsN G l H o A (sV σ N th) f hM ha 1 (by decide)) gw_X2_64 gd_X2_64 rfl hM.ob rfl hl.1 (Nat.le_of_ble_eq_true rfl) rfl dX2_isOfTitle_27 ⟨⟨Nat.le_of_ble_eq_true rfl, Nat.le_of_ble_eq_true rfl⟩, Nat.le_of_ble_eq_true rfl, Nat.le_of_ble_eq_true rfl⟩ hL (fun H_3 locs hL hP_ => ?_)
    obtain ⟨hM_3, hF_3⟩ := hP_
    exact z_zret Z hr hL (by decide) (⟨by simp [zb, kTG, kIf, c6], by unfold mTg; rw [show kTG σ t g = 1 from by simp [kTG, kIf, c6]]; exact ⟨hM_3, hF_3⟩⟩) (Nat.le_of_ble_eq_true rfl) (Nat.le_of_ble_eq_true rfl) dX2_isOfTitle_30
theorem sGap_at {σ : zS} {t : Nat} {g : Int32} (hP : sP σ ≤ 10) (y : Int32) : nI (sCnt σ t y g (sT σ)) = 0 ↔ sGapAt σ t g y = true := by
  unfold sGapAt
  have h := zCnt_le (fun p => sWay σ p t y g (sT σ)) (sP σ)
  have h1 : sCnt σ t y g (sT σ) ≤ 10 := Nat.le_trans h hP
  rw [decide_eq_true_iff]
  exact ⟨fun e => (nI_eq (b := 0) (by omega) (by omega)).mp e, fun e => by rw [e]; rfl⟩
theorem sDbl_at {σ : zS} {t : Nat} {g : Int32} (hP : sP σ ≤ 10) (y : Int32) : nI (sCnt σ t y g (sT σ)) ≤ 1 ↔ sDblAt σ t g y = false := by
  unfold sDblAt
  have h := zCnt_le (fun p => sWay σ p t y g (sT σ)) (sP σ)
  have h1 : sCnt σ t y g (sT σ) ≤ 10 := Nat.le_trans h hP
  rw [decide_eq_false_iff_not]
  have h2 : nI (sCnt σ t y g (sT σ)) ≤ nI 1 ↔ sCnt σ t y g (sT σ) ≤ 1 := nI_leI (by omega) (by omega)
  have h3 : nI 1 = 1 := rfl
  rw [← h3, h2]
  omega
theorem zlt_m1 {k : Nat} (h : k < 2 ^ 31) : nI k - 1 < nI k := by
  cases k with
  | zero => decide
  | succ k => rw [nI_pred]; exact nI_lt (by omega) h
set_option maxHeartbeats 4000000 in
set_option maxRecDepth 100000 in
theorem m_gap (G : zG) (l : Launch) (H : Heap) (o : Nat) (A : Nat → Nat) (f : Nat → Nat → Int32) (ha : mAd G o A) (σ : zS) (N : Nat) (th : Int32) (hM : mRep G H o A (sV σ N th) f) (hS : mSim σ N (sV σ N th) f) (hW : sWf σ) (hNl : N < 4096) (t g : Int32) : zM G l yX2_gap cX2_gap 5 (Option.some Jvm.ClassFile.FieldType.int) 7 0 0 [.ref o, .int t, .int g] H (mPost G H o A N σ σ (kTG σ t g) (sGap σ t.toNatClampNeg g (sF σ t.toNatClampNeg) (sYrs σ t.toNatClampNeg))) := by
  have hN : N ≤ 4096 := Nat.le_of_lt hNl
  have hN1 : sV σ N th 11 = nI N := rfl
  have hN20 : sN σ ≤ 20 := hW.2.1
  have hnP : sP σ ≤ 10 := hW.2.2.1
  refine zM.of (by decide +kernel) (Nat.le_of_ble_eq_true rfl) ?_
  intro p0 e0 s0 m0 args0 below0 meth0 c0 Z hr hH hn ls hl
  have Z : zC G p0 s0 m0 args0 meth0 c0 RX2 cX2_gap 5 := Z
  have hl : lv_has ls 5 [(0, .ref o), (1, .int t), (2, .int g)] := hl
  have hL : zL G [] := zL.nil
  refine lv_aload_n Z.hx Z.hb dX2_gap_0 rfl (lv_at hl 0 rfl) ?_
  refine lv_iload_n Z.hx Z.hb dX2_gap_1 rfl (lv_at hl 1 rfl) ?_
  refine lv_iload_n Z.hx Z.hb dX2_gap_2 rfl (lv_at hl 2 rfl) ?_
  -- LinkResolverModel.isOfTitle
  refine z_gcallV (rest := []) (As := [.int t, .int g]) Z (m_isOfTitle G l H o A f ha σ N th hM hS hW hNl t g) gw_X2_120 gd_X2_120 rfl hM.ob rfl hl.1 (Nat.le_of_ble_eq_true rfl) rfl dX2_gap_3 ⟨⟨Nat.le_of_ble_eq_true rfl, Nat.le_of_ble_eq_true rfl⟩, Nat.le_of_ble_eq_true rfl, Nat.le_of_ble_eq_true rfl⟩ hL (fun H_1 locs hL hP_ => ?_)
  obtain ⟨hM_1, hF_1⟩ := hP_
  refine lv_if_ne (tgt := 11) Z.hx Z.hb dX2_gap_6 (by decide) (fun c6 => ?_) (fun c6 => ?_)
  · skip
    have c6 : (decide (kTG σ t g = 0)) = true := zb_n.mp c6
    have htg : mIs t (nI (sN σ)) = true := by
      revert c6
      simp only [kTG, kIf]
      cases mIs t (nI (sN σ)) <;> simp
    obtain ⟨j, hj, rfl⟩ := mIs_nI (by omega) htg
    have hjc : (nI j).toNatClampNeg = j := nI_clamp (by omega)
    have hjl : j < 20 := by omega
    obtain ⟨hF1, hF2⟩ := hW.f hj
    obtain ⟨hY1, hY2⟩ := hW.y
    have h4 : f 4 j = nI (sF σ j) := (hS.2.1 j hj).1.trans hF2
    refine lv_iconst (v := (-1)) Z.hx Z.hb dX2_gap_11 (by decide) ?_
    refine lv_istore_n (lv' := [(3, .int (-1)), (0, .ref o), (1, .int (nI j)), (2, .int g)]) Z.hx Z.hb dX2_gap_12 rfl hl (by decide) rfl (fun ls hl => ?_)
    refine lv_aload_n Z.hx Z.hb dX2_gap_13 rfl (lv_at hl 1 rfl) ?_
    refine gf_X2_78 Z hM_1.ob (v := .int (sT σ)) rfl dX2_gap_14 ?_
    refine lv_sipush (v := 360) Z.hx Z.hb dX2_gap_17 (by decide) ?_
    refine lv_idiv Z.hx Z.hb dX2_gap_20 (by decide) ?_
    refine lv_istore (lv' := [(4, .int ((sT σ) / 360)), (3, .int (-1)), (0, .ref o), (1, .int (nI j)), (2, .int g)]) Z.hx Z.hb dX2_gap_21 hl (by decide) rfl (fun ls hl => ?_)
    have down : ∀ n k : Nat, k = sF σ j + n → k ≤ sY σ + 1 → ∀ (locs : List Loc), zL G locs → ∀ ls : Array Slot, lv_has ls 5 [(4, .int (nI k - 1)), (3, .int (sGap σ j g k (sY σ + 1 - k))), (0, .ref o), (1, .int (nI j)), (2, .int g)] → W p0 l e0 (zr 7 0 0) s0 m0 args0 below0 meth0 c0 H_1 locs 0 0 (MQ below0 (zQ (mPost G H o A N σ σ (kTG σ (nI j) g) (sGap σ (nI j).toNatClampNeg g (sF σ (nI j).toNatClampNeg) (sYrs σ (nI j).toNatClampNeg)))) args0 s0 0 0 (zA G)) (F0 m0 23 ls []) := by
      intro n
      induction n with
      | zero =>
        intro k hk hk1 locs hL ls hl
        have hk : k = sF σ j := hk
        subst hk
        refine lv_iload Z.hx Z.hb dX2_gap_23 (lv_at hl 0 rfl) ?_
        refine lv_aload_n Z.hx Z.hb dX2_gap_25 rfl (lv_at hl 2 rfl) ?_
        refine gf_X2_7 Z hM_1.ob (v := .ref (A 4)) rfl dX2_gap_26 ?_
        refine lv_iload_n Z.hx Z.hb dX2_gap_29 rfl (lv_at hl 3 rfl) ?_
        refine z_ialdN Z hM_1.a4 (k := j) hjl (by decide) dX2_gap_30 ?_
        refine lv_icmp_lt (tgt := 62) Z.hx Z.hb dX2_gap_31 (by decide) (fun c31 => ?_) (fun c31 => ?_)
        · skip
          refine lv_iload_n Z.hx Z.hb dX2_gap_62 rfl (lv_at hl 1 rfl) ?_
          exact z_iret Z hr hL (⟨_, N, _, f, rfl, hM_1, hF_1, rfl, by omega, by rw [if_pos (by simpa using c6)]; exact hS.th _, fun _ => by rw [hjc]; rfl⟩) (Nat.le_of_ble_eq_true rfl) (Nat.le_of_ble_eq_true rfl) dX2_gap_63
        · exact absurd (by rw [h4]; exact zlt_m1 (by omega)) c31
      | succ n ih =>
        intro k0 hk0 hk1 locs hL ls hl
        obtain ⟨k, rfl⟩ : ∃ k, k0 = k + 1 := ⟨sF σ j + n, by omega⟩
        have hl : lv_has ls 5 [(4, .int (nI k)), (3, .int (sGap σ j g (k + 1) (sY σ + 1 - (k + 1)))), (0, .ref o), (1, .int (nI j)), (2, .int g)] := z_loc hl (by rw [nI_pred])
        have hstep : sGap σ j g k (sY σ + 1 - k) = if sGapAt σ j g (nI k) then nI k else sGap σ j g (k + 1) (sY σ + 1 - (k + 1)) := by
          rw [show sY σ + 1 - k = (sY σ + 1 - (k + 1)) + 1 by omega]
          rfl
        refine lv_iload Z.hx Z.hb dX2_gap_23 (lv_at hl 0 rfl) ?_
        refine lv_aload_n Z.hx Z.hb dX2_gap_25 rfl (lv_at hl 2 rfl) ?_
        refine gf_X2_7 Z hM_1.ob (v := .ref (A 4)) rfl dX2_gap_26 ?_
        refine lv_iload_n Z.hx Z.hb dX2_gap_29 rfl (lv_at hl 3 rfl) ?_
        refine z_ialdN Z hM_1.a4 (k := j) hjl (by decide) dX2_gap_30 ?_
        refine lv_icmp_lt (tgt := 62) Z.hx Z.hb dX2_gap_31 (by decide) (fun c31 => ?_) (fun c31 => ?_)
        · exact absurd c31 (by rw [h4]; exact nI_nlt (by omega) (by omega))
        · skip
          refine lv_aload_n Z.hx Z.hb dX2_gap_34 rfl (lv_at hl 2 rfl) ?_
          refine lv_iload_n Z.hx Z.hb dX2_gap_35 rfl (lv_at hl 3 rfl) ?_
          refine lv_iload Z.hx Z.hb dX2_gap_36 (lv_at hl 0 rfl) ?_
          refine lv_iload_n Z.hx Z.hb dX2_gap_38 rfl (lv_at hl 4 rfl) ?_
          refine lv_aload_n Z.hx Z.hb dX2_gap_39 rfl (lv_at hl 2 rfl) ?_
          refine gf_X2_78 Z hM_1.ob (v := .int (sT σ)) rfl dX2_gap_40 ?_
          -- LinkResolverModel.waysTo
          refine z_pcallV (rest := []) (As := [.int (nI j), .int (nI k), .int g, .int (sT σ)]) Z (m_waysTo G l H_1 o A (va_up (sV σ N th) 0 (kTG σ (nI j) g)) f hM_1 N hN hN1 (sP σ) hnP rfl j hjl (nI k) g (sT σ)) gw_X2_113 gd_X2_113 rfl hM_1.ob rfl hl.1 (Nat.le_of_ble_eq_true rfl) rfl dX2_gap_43 ⟨⟨Nat.le_of_ble_eq_true rfl, Nat.le_of_ble_eq_true rfl⟩, Nat.le_of_ble_eq_true rfl, Nat.le_of_ble_eq_true rfl⟩ hL (fun locs hL => ?_)
          refine lv_if_ne (tgt := 54) Z.hx Z.hb dX2_gap_46 (by decide) (fun c46 => ?_) (fun c46 => ?_)
          · skip
            refine lv_iload_n Z.hx Z.hb dX2_gap_54 rfl (lv_at hl 1 rfl) ?_
            refine lv_istore_n (lv' := [(3, .int (sGap σ j g (k + 1) (sY σ + 1 - (k + 1)))), (4, .int (nI k)), (0, .ref o), (1, .int (nI j)), (2, .int g)]) Z.hx Z.hb dX2_gap_55 rfl hl (by decide) rfl (fun ls hl => ?_)
            refine lv_iinc (v := (nI k) + (-1)) (lv' := [(4, .int ((nI k) + (-1))), (3, .int (sGap σ j g (k + 1) (sY σ + 1 - (k + 1)))), (0, .ref o), (1, .int (nI j)), (2, .int g)]) Z.hx Z.hb dX2_gap_56 hl (k := 1) rfl rfl (by decide) rfl (fun ls hl => ?_)
            refine lv_goto (tgt := 23) Z.hx Z.hb dX2_gap_59 (by decide) ?_
            have hz9 : sGapAt σ j g (nI k) = false := by
              exact Bool.not_eq_true _ |>.mp (fun z => c46 (by have z2 := (sGap_at hnP (nI k)).mpr z; rw [← mCnt_s hS hnP hjl] at z2; exact z2))
            rw [hz9] at hstep
            exact ih k (by omega) (by omega) _ hL ls (lv_sub (z_loc (l' := [(4, .int (nI k - 1)), (3, .int (sGap σ j g k (sY σ + 1 - k))), (0, .ref o), (1, .int (nI j)), (2, .int g)]) hl (by rw [Int32.sub_eq_add_neg, hstep]; rfl)) [0, 1, 2, 3, 4] rfl)
          · skip
            refine lv_iload Z.hx Z.hb dX2_gap_49 (lv_at hl 0 rfl) ?_
            refine lv_goto (tgt := 55) Z.hx Z.hb dX2_gap_51 (by decide) ?_
            refine lv_istore_n (lv' := [(3, .int (nI k)), (4, .int (nI k)), (0, .ref o), (1, .int (nI j)), (2, .int g)]) Z.hx Z.hb dX2_gap_55 rfl hl (by decide) rfl (fun ls hl => ?_)
            refine lv_iinc (v := (nI k) + (-1)) (lv' := [(4, .int ((nI k) + (-1))), (3, .int (nI k)), (0, .ref o), (1, .int (nI j)), (2, .int g)]) Z.hx Z.hb dX2_gap_56 hl (k := 1) rfl rfl (by decide) rfl (fun ls hl => ?_)
            refine lv_goto (tgt := 23) Z.hx Z.hb dX2_gap_59 (by decide) ?_
            have hz9 : sGapAt σ j g (nI k) = true := by
              exact (sGap_at hnP (nI k)).mp (by rw [← mCnt_s hS hnP hjl]; exact c46)
            rw [hz9] at hstep
            exact ih k (by omega) (by omega) _ hL ls (lv_sub (z_loc (l' := [(4, .int (nI k - 1)), (3, .int (sGap σ j g k (sY σ + 1 - k))), (0, .ref o), (1, .int (nI j)), (2, .int g)]) hl (by rw [Int32.sub_eq_add_neg, hstep]; rfl)) [0, 1, 2, 3, 4] rfl)
    rcases Nat.lt_or_ge (sY σ) (sF σ j) with hlt | hge
    · skip
      refine lv_iload Z.hx Z.hb dX2_gap_23 (lv_at hl 0 rfl) ?_
      refine lv_aload_n Z.hx Z.hb dX2_gap_25 rfl (lv_at hl 2 rfl) ?_
      refine gf_X2_7 Z hM_1.ob (v := .ref (A 4)) rfl dX2_gap_26 ?_
      refine lv_iload_n Z.hx Z.hb dX2_gap_29 rfl (lv_at hl 3 rfl) ?_
      refine z_ialdN Z hM_1.a4 (k := j) hjl (by decide) dX2_gap_30 ?_
      refine lv_icmp_lt (tgt := 62) Z.hx Z.hb dX2_gap_31 (by decide) (fun c31 => ?_) (fun c31 => ?_)
      · skip
        refine lv_iload_n Z.hx Z.hb dX2_gap_62 rfl (lv_at hl 1 rfl) ?_
        exact z_iret Z hr hL (⟨_, N, _, f, rfl, hM_1, hF_1, rfl, by omega, by rw [if_pos (by simpa using c6)]; exact hS.th _, fun _ => by rw [hjc, show sYrs σ j = 0 from by unfold sYrs; omega]; rfl⟩) (Nat.le_of_ble_eq_true rfl) (Nat.le_of_ble_eq_true rfl) dX2_gap_63
      · exact absurd (by rw [h4, hY2]; exact nI_lt hlt (by omega)) c31
    · skip
      exact down (sY σ + 1 - sF σ j) (sY σ + 1) (by omega) (by omega) _ hL ls (lv_sub (z_loc (l' := [(4, .int (nI (sY σ + 1) - 1)), (3, .int (sGap σ j g (sY σ + 1) (sY σ + 1 - (sY σ + 1)))), (0, .ref o), (1, .int (nI j)), (2, .int g)]) hl (by rw [hY2, nI_pred, Nat.sub_self]; rfl)) [0, 1, 2, 3, 4] rfl)
  · skip
    have c6 : (decide (kTG σ t g = 0)) = false := zb_0.mp c6
    skip
    refine lv_iconst (v := 0) Z.hx Z.hb dX2_gap_9 (by decide) ?_
    exact z_iret Z hr hL (⟨_, N, _, f, rfl, hM_1, hF_1, rfl, by omega, by rw [if_neg (by simpa using c6)]; exact hS.th _, fun h9 => absurd h9 (by simpa using c6)⟩) (Nat.le_of_ble_eq_true rfl) (Nat.le_of_ble_eq_true rfl) dX2_gap_10
set_option maxHeartbeats 4000000 in
set_option maxRecDepth 100000 in
theorem m_doubles (G : zG) (l : Launch) (H : Heap) (o : Nat) (A : Nat → Nat) (f : Nat → Nat → Int32) (ha : mAd G o A) (σ : zS) (N : Nat) (th : Int32) (hM : mRep G H o A (sV σ N th) f) (hS : mSim σ N (sV σ N th) f) (hW : sWf σ) (hNl : N < 4096) (t g : Int32) : zM G l yX2_doubles cX2_doubles 5 (Option.some Jvm.ClassFile.FieldType.int) 7 0 0 [.ref o, .int t, .int g] H (mPost G H o A N σ σ (kTG σ t g) (nI (sDbl σ t.toNatClampNeg g (sF σ t.toNatClampNeg) (sYrs σ t.toNatClampNeg)))) := by
  have hN : N ≤ 4096 := Nat.le_of_lt hNl
  have hN1 : sV σ N th 11 = nI N := rfl
  have hN20 : sN σ ≤ 20 := hW.2.1
  have hnP : sP σ ≤ 10 := hW.2.2.1
  refine zM.of (by decide +kernel) (Nat.le_of_ble_eq_true rfl) ?_
  intro p0 e0 s0 m0 args0 below0 meth0 c0 Z hr hH hn ls hl
  have Z : zC G p0 s0 m0 args0 meth0 c0 RX2 cX2_doubles 5 := Z
  have hl : lv_has ls 5 [(0, .ref o), (1, .int t), (2, .int g)] := hl
  have hL : zL G [] := zL.nil
  refine lv_aload_n Z.hx Z.hb dX2_doubles_0 rfl (lv_at hl 0 rfl) ?_
  refine lv_iload_n Z.hx Z.hb dX2_doubles_1 rfl (lv_at hl 1 rfl) ?_
  refine lv_iload_n Z.hx Z.hb dX2_doubles_2 rfl (lv_at hl 2 rfl) ?_
  -- LinkResolverModel.isOfTitle
  refine z_gcallV (rest := []) (As := [.int t, .int g]) Z (m_isOfTitle G l H o A f ha σ N th hM hS hW hNl t g) gw_X2_120 gd_X2_120 rfl hM.ob rfl hl.1 (Nat.le_of_ble_eq_true rfl) rfl dX2_doubles_3 ⟨⟨Nat.le_of_ble_eq_true rfl, Nat.le_of_ble_eq_true rfl⟩, Nat.le_of_ble_eq_true rfl, Nat.le_of_ble_eq_true rfl⟩ hL (fun H_1 locs hL hP_ => ?_)
  obtain ⟨hM_1, hF_1⟩ := hP_
  refine lv_if_ne (tgt := 11) Z.hx Z.hb dX2_doubles_6 (by decide) (fun c6 => ?_) (fun c6 => ?_)
  · skip
    have c6 : (decide (kTG σ t g = 0)) = true := zb_n.mp c6
    have htg : mIs t (nI (sN σ)) = true := by
      revert c6
      simp only [kTG, kIf]
      cases mIs t (nI (sN σ)) <;> simp
    obtain ⟨j, hj, rfl⟩ := mIs_nI (by omega) htg
    have hjc : (nI j).toNatClampNeg = j := nI_clamp (by omega)
    have hjl : j < 20 := by omega
    obtain ⟨hF1, hF2⟩ := hW.f hj
    obtain ⟨hY1, hY2⟩ := hW.y
    have h4 : f 4 j = nI (sF σ j) := (hS.2.1 j hj).1.trans hF2
    refine lv_iconst (v := 0) Z.hx Z.hb dX2_doubles_11 (by decide) ?_
    refine lv_istore_n (lv' := [(3, .int 0), (0, .ref o), (1, .int (nI j)), (2, .int g)]) Z.hx Z.hb dX2_doubles_12 rfl hl (by decide) rfl (fun ls hl => ?_)
    refine lv_aload_n Z.hx Z.hb dX2_doubles_13 rfl (lv_at hl 1 rfl) ?_
    refine gf_X2_7 Z hM_1.ob (v := .ref (A 4)) rfl dX2_doubles_14 ?_
    refine lv_iload_n Z.hx Z.hb dX2_doubles_17 rfl (lv_at hl 2 rfl) ?_
    refine z_ialdN Z hM_1.a4 (k := j) hjl (by decide) dX2_doubles_18 ?_
    refine lv_istore (lv' := [(4, .int (f 4 j)), (3, .int 0), (0, .ref o), (1, .int (nI j)), (2, .int g)]) Z.hx Z.hb dX2_doubles_19 hl (by decide) rfl (fun ls hl => ?_)
    have up : ∀ n y a : Nat, y + n = (if sY σ + 1 ≤ sF σ j then sF σ j else sY σ + 1) → sY σ + 1 ≤ y + n → a + sDbl σ j g y n = sDbl σ j g (sF σ j) (sYrs σ j) → y ≤ 56 → sF σ j ≤ y → ∀ (locs : List Loc), zL G locs → ∀ ls : Array Slot, lv_has ls 5 [(4, .int (nI y)), (3, .int (nI a)), (0, .ref o), (1, .int (nI j)), (2, .int g)] → W p0 l e0 (zr 7 0 0) s0 m0 args0 below0 meth0 c0 H_1 locs 0 0 (MQ below0 (zQ (mPost G H o A N σ σ (kTG σ (nI j) g) (nI (sDbl σ (nI j).toNatClampNeg g (sF σ (nI j).toNatClampNeg) (sYrs σ (nI j).toNatClampNeg))))) args0 s0 0 0 (zA G)) (F0 m0 21 ls []) := by
      intro n
      induction n with
      | zero =>
        intro y a hy hy2 ha9 hy3 hy4 locs hL ls hl
        have ha9 : a = sDbl σ j g (sF σ j) (sYrs σ j) := ha9
        refine lv_iload Z.hx Z.hb dX2_doubles_21 (lv_at hl 0 rfl) ?_
        refine lv_aload_n Z.hx Z.hb dX2_doubles_23 rfl (lv_at hl 2 rfl) ?_
        refine gf_X2_78 Z hM_1.ob (v := .int (sT σ)) rfl dX2_doubles_24 ?_
        refine lv_sipush (v := 360) Z.hx Z.hb dX2_doubles_27 (by decide) ?_
        refine lv_idiv Z.hx Z.hb dX2_doubles_30 (by decide) ?_
        refine lv_icmp_gt (tgt := 64) Z.hx Z.hb dX2_doubles_31 (by decide) (fun c31 => ?_) (fun c31 => ?_)
        · skip
          refine lv_iload_n Z.hx Z.hb dX2_doubles_64 rfl (lv_at hl 1 rfl) ?_
          exact z_iret Z hr hL (⟨_, N, _, f, rfl, hM_1, hF_1, rfl, by omega, by rw [if_pos (by simpa using c6)]; exact hS.th _, fun _ => by rw [hjc, ← ha9]⟩) (Nat.le_of_ble_eq_true rfl) (Nat.le_of_ble_eq_true rfl) dX2_doubles_65
        · exact absurd (by rw [hY2]; exact nI_lt (by omega) (by omega)) c31
      | succ n ih =>
        intro y a hy hy2 ha9 hy3 hy4 locs hL ls hl
        have hyl : y ≤ sY σ := by split at hy <;> omega
        have hst : sDbl σ j g y (n + 1) = (if sDblAt σ j g (nI y) then 1 else 0) + sDbl σ j g (y + 1) n := rfl
        refine lv_iload Z.hx Z.hb dX2_doubles_21 (lv_at hl 0 rfl) ?_
        refine lv_aload_n Z.hx Z.hb dX2_doubles_23 rfl (lv_at hl 2 rfl) ?_
        refine gf_X2_78 Z hM_1.ob (v := .int (sT σ)) rfl dX2_doubles_24 ?_
        refine lv_sipush (v := 360) Z.hx Z.hb dX2_doubles_27 (by decide) ?_
        refine lv_idiv Z.hx Z.hb dX2_doubles_30 (by decide) ?_
        refine lv_icmp_gt (tgt := 64) Z.hx Z.hb dX2_doubles_31 (by decide) (fun c31 => ?_) (fun c31 => ?_)
        · exact absurd (by rw [hY2] at c31; exact c31) (nI_nlt hyl (by omega))
        · skip
          refine lv_iload_n Z.hx Z.hb dX2_doubles_34 rfl (lv_at hl 1 rfl) ?_
          refine lv_aload_n Z.hx Z.hb dX2_doubles_35 rfl (lv_at hl 2 rfl) ?_
          refine lv_iload_n Z.hx Z.hb dX2_doubles_36 rfl (lv_at hl 3 rfl) ?_
          refine lv_iload Z.hx Z.hb dX2_doubles_37 (lv_at hl 0 rfl) ?_
          refine lv_iload_n Z.hx Z.hb dX2_doubles_39 rfl (lv_at hl 4 rfl) ?_
          refine lv_aload_n Z.hx Z.hb dX2_doubles_40 rfl (lv_at hl 2 rfl) ?_
          refine gf_X2_78 Z hM_1.ob (v := .int (sT σ)) rfl dX2_doubles_41 ?_
          -- LinkResolverModel.waysTo
          refine z_pcallV (rest := [.int (nI a)]) (As := [.int (nI j), .int (nI y), .int g, .int (sT σ)]) Z (m_waysTo G l H_1 o A (va_up (sV σ N th) 0 (kTG σ (nI j) g)) f hM_1 N hN hN1 (sP σ) hnP rfl j hjl (nI y) g (sT σ)) gw_X2_113 gd_X2_113 rfl hM_1.ob rfl hl.1 (Nat.le_of_ble_eq_true rfl) rfl dX2_doubles_44 ⟨⟨Nat.le_of_ble_eq_true rfl, Nat.le_of_ble_eq_true rfl⟩, Nat.le_of_ble_eq_true rfl, Nat.le_of_ble_eq_true rfl⟩ hL (fun locs hL => ?_)
          refine lv_iconst (v := 1) Z.hx Z.hb dX2_doubles_47 (by decide) ?_
          refine lv_icmp_le (tgt := 55) Z.hx Z.hb dX2_doubles_48 (by decide) (fun c48 => ?_) (fun c48 => ?_)
          · skip
            refine lv_iconst (v := 0) Z.hx Z.hb dX2_doubles_55 (by decide) ?_
            refine lv_iadd Z.hx Z.hb dX2_doubles_56 ?_
            refine lv_istore_n (lv' := [(3, .int ((nI a) + 0)), (4, .int (nI y)), (0, .ref o), (1, .int (nI j)), (2, .int g)]) Z.hx Z.hb dX2_doubles_57 rfl hl (by decide) rfl (fun ls hl => ?_)
            refine lv_iinc (v := (nI y) + 1) (lv' := [(4, .int ((nI y) + 1)), (3, .int ((nI a) + 0)), (0, .ref o), (1, .int (nI j)), (2, .int g)]) Z.hx Z.hb dX2_doubles_58 hl (k := 1) rfl rfl (by decide) rfl (fun ls hl => ?_)
            refine lv_goto (tgt := 21) Z.hx Z.hb dX2_doubles_61 (by decide) ?_
            have hz9 : sDblAt σ j g (nI y) = false := by
              exact (sDbl_at hnP (nI y)).mp (by rw [← mCnt_s hS hnP hjl]; exact c48)
            rw [hst, hz9] at ha9
            exact ih (y + 1) a (by omega) (by omega) (by rw [← ha9]; simp only [if_true, if_false, Bool.false_eq_true]; omega) (by omega) (by omega) _ hL ls (lv_sub (z_loc (l' := [(4, .int (nI (y + 1))), (3, .int (nI a)), (0, .ref o), (1, .int (nI j)), (2, .int g)]) hl (by rw [nI_succ, Int32.add_zero])) [0, 1, 2, 3, 4] rfl)
          · skip
            refine lv_iconst (v := 1) Z.hx Z.hb dX2_doubles_51 (by decide) ?_
            refine lv_goto (tgt := 56) Z.hx Z.hb dX2_doubles_52 (by decide) ?_
            refine lv_iadd Z.hx Z.hb dX2_doubles_56 ?_
            refine lv_istore_n (lv' := [(3, .int ((nI a) + 1)), (4, .int (nI y)), (0, .ref o), (1, .int (nI j)), (2, .int g)]) Z.hx Z.hb dX2_doubles_57 rfl hl (by decide) rfl (fun ls hl => ?_)
            refine lv_iinc (v := (nI y) + 1) (lv' := [(4, .int ((nI y) + 1)), (3, .int ((nI a) + 1)), (0, .ref o), (1, .int (nI j)), (2, .int g)]) Z.hx Z.hb dX2_doubles_58 hl (k := 1) rfl rfl (by decide) rfl (fun ls hl => ?_)
            refine lv_goto (tgt := 21) Z.hx Z.hb dX2_doubles_61 (by decide) ?_
            have hz9 : sDblAt σ j g (nI y) = true := by
              exact Bool.not_eq_false _ |>.mp (fun z => c48 (by have z2 := (sDbl_at hnP (nI y)).mpr z; rw [← mCnt_s hS hnP hjl] at z2; exact z2))
            rw [hst, hz9] at ha9
            exact ih (y + 1) (a + 1) (by omega) (by omega) (by rw [← ha9]; simp only [if_true, if_false, Bool.false_eq_true]; omega) (by omega) (by omega) _ hL ls (lv_sub (z_loc (l' := [(4, .int (nI (y + 1))), (3, .int (nI (a + 1))), (0, .ref o), (1, .int (nI j)), (2, .int g)]) hl (by rw [nI_succ, nI_succ])) [0, 1, 2, 3, 4] rfl)
    exact up (sYrs σ j) (sF σ j) 0 (by unfold sYrs; split <;> omega) (by unfold sYrs; omega) (by omega) (by omega) (Nat.le_refl _) _ hL ls (lv_sub (z_loc (l' := [(4, .int (nI (sF σ j))), (3, .int (nI 0)), (0, .ref o), (1, .int (nI j)), (2, .int g)]) hl (by rw [h4]; rfl)) [0, 1, 2, 3, 4] rfl)
  · skip
    have c6 : (decide (kTG σ t g = 0)) = false := zb_0.mp c6
    skip
    refine lv_iconst (v := 0) Z.hx Z.hb dX2_doubles_9 (by decide) ?_
    exact z_iret Z hr hL (⟨_, N, _, f, rfl, hM_1, hF_1, rfl, by omega, by rw [if_neg (by simpa using c6)]; exact hS.th _, fun h9 => absurd h9 (by simpa using c6)⟩) (Nat.le_of_ble_eq_true rfl) (Nat.le_of_ble_eq_true rfl) dX2_doubles_10
theorem zLast_congr {w w' : Nat → Bool} : ∀ {n : Nat}, (∀ k, k < n → w k = w' k) → zLast w n = zLast w' n
  | 0, _ => rfl
  | n + 1, h => by
    show (if w n then nI n else zLast w n) = if w' n then nI n else zLast w' n
    rw [zLast_congr (fun k hk => h k (Nat.lt_succ_of_lt hk)), h n (Nat.lt_succ_self n)]
set_option maxHeartbeats 4000000 in
set_option maxRecDepth 100000 in
theorem m_wayAt (G : zG) (l : Launch) (H : Heap) (o : Nat) (A : Nat → Nat) (f : Nat → Nat → Int32) (ha : mAd G o A) (σ : zS) (N : Nat) (th : Int32) (hM : mRep G H o A (sV σ N th) f) (hS : mSim σ N (sV σ N th) f) (hW : sWf σ) (hNl : N < 4096) (i t y g d : Int32) : zM G l yX2_wayAt cX2_wayAt 12 (Option.some Jvm.ClassFile.FieldType.int) 6 0 0 [.ref o, .int i, .int t, .int y, .int g, .int d] H (mPost G H o A N σ σ (kAt σ i t y g d) (zLast (sAtOk σ i t.toNatClampNeg y g d) (sP σ))) := by
  have hN : N ≤ 4096 := Nat.le_of_lt hNl
  have hN1 : sV σ N th 11 = nI N := rfl
  have hN20 : sN σ ≤ 20 := hW.2.1
  have hnP : sP σ ≤ 10 := hW.2.2.1
  refine zM.of (by decide +kernel) (Nat.le_of_ble_eq_true rfl) ?_
  intro p0 e0 s0 m0 args0 below0 meth0 c0 Z hr hH hn ls hl
  have Z : zC G p0 s0 m0 args0 meth0 c0 RX2 cX2_wayAt 12 := Z
  have hl : lv_has ls 12 [(0, .ref o), (1, .int i), (2, .int t), (3, .int y), (4, .int g), (5, .int d)] := hl
  have hL : zL G [] := zL.nil
  refine lv_aload_n Z.hx Z.hb dX2_wayAt_0 rfl (lv_at hl 0 rfl) ?_
  refine lv_iload_n Z.hx Z.hb dX2_wayAt_1 rfl (lv_at hl 3 rfl) ?_
  refine lv_iload Z.hx Z.hb dX2_wayAt_2 (lv_at hl 4 rfl) ?_
  refine lv_iload Z.hx Z.hb dX2_wayAt_4 (lv_at hl 5 rfl) ?_
  -- LinkResolverModel.isAsked
  refine z_pcallV (rest := []) (As := [.int y, .int g, .int d]) Z (m_isAsked G l H o A (sV σ N th) f hM y g d) gw_X2_104 gd_X2_104 rfl hM.ob rfl hl.1 (Nat.le_of_ble_eq_true rfl) rfl dX2_wayAt_6 ⟨⟨Nat.le_of_ble_eq_true rfl, Nat.le_of_ble_eq_true rfl⟩, Nat.le_of_ble_eq_true rfl, Nat.le_of_ble_eq_true rfl⟩ hL (fun locs hL => ?_)
  refine lv_istore (lv' := [(6, .int (zb (mBt y 0 55 && mBt g 0 3 && mBt d 0 (sT σ)))), (0, .ref o), (1, .int i), (2, .int t), (3, .int y), (4, .int g), (5, .int d)]) Z.hx Z.hb dX2_wayAt_9 hl (by decide) rfl (fun ls hl => ?_)
  refine lv_iload Z.hx Z.hb dX2_wayAt_11 (lv_at hl 0 rfl) ?_
  refine lv_if_eq (tgt := 46) Z.hx Z.hb dX2_wayAt_13 (by decide) (fun c13 => ?_) (fun c13 => ?_)
  · skip
    have c13 : (mBt y 0 55 && mBt g 0 3 && mBt d 0 (sT σ)) = false := zb_0.mp c13
    refine lv_iconst (v := 0) Z.hx Z.hb dX2_wayAt_46 (by decide) ?_
    refine lv_istore (lv' := [(7, .int 0), (6, .int (zb (mBt y 0 55 && mBt g 0 3 && mBt d 0 (sT σ)))), (0, .ref o), (1, .int i), (2, .int t), (3, .int y), (4, .int g), (5, .int d)]) Z.hx Z.hb dX2_wayAt_47 hl (by decide) rfl (fun ls hl => ?_)
    refine lv_aload_n Z.hx Z.hb dX2_wayAt_49 rfl (lv_at hl 2 rfl) ?_
    refine lv_iload Z.hx Z.hb dX2_wayAt_50 (lv_at hl 1 rfl) ?_
    refine lv_if_ne (tgt := 59) Z.hx Z.hb dX2_wayAt_52 (by decide) (fun c52 => ?_) (fun c52 => ?_)
    · skip
      have c52 : (mBt y 0 55 && mBt g 0 3 && mBt d 0 (sT σ)) = true := zb_n.mp c52
      exact absurd (c13.symm.trans c52) (by decide)
    · skip
      have c52 : (mBt y 0 55 && mBt g 0 3 && mBt d 0 (sT σ)) = false := zb_0.mp c52
      refine lv_iconst (v := 1) Z.hx Z.hb dX2_wayAt_55 (by decide) ?_
      refine lv_goto (tgt := 69) Z.hx Z.hb dX2_wayAt_56 (by decide) ?_
      -- LinkResolverModel.holds
      refine z_gcallV (rest := []) (As := [.int 1]) Z (m_holdsN G l H o A (sV σ N th) f hM ha 1 (by decide)) gw_X2_64 gd_X2_64 rfl hM.ob rfl hl.1 (Nat.le_of_ble_eq_true rfl) rfl dX2_wayAt_69 ⟨⟨Nat.le_of_ble_eq_true rfl, Nat.le_of_ble_eq_true rfl⟩, Nat.le_of_ble_eq_true rfl, Nat.le_of_ble_eq_true rfl⟩ hL (fun H_1 locs hL hP_ => ?_)
      obtain ⟨hM_1, hF_1⟩ := hP_
      refine lv_if_ne (tgt := 77) Z.hx Z.hb dX2_wayAt_72 (by decide) (fun c72 => ?_) (fun c72 => ?_)
      · exact absurd (by decide) c72
      · skip
        refine lv_iconst (v := 0) Z.hx Z.hb dX2_wayAt_75 (by decide) ?_
        exact z_iret Z hr hL (mPost.no hM_1 hF_1 hS (by simp [kAt, kIf, sAsk, c13, c52, c72]) (by decide)) (Nat.le_of_ble_eq_true rfl) (Nat.le_of_ble_eq_true rfl) dX2_wayAt_76
  · skip
    have c13 : (mBt y 0 55 && mBt g 0 3 && mBt d 0 (sT σ)) = true := zb_n.mp c13
    refine lv_aload_n Z.hx Z.hb dX2_wayAt_16 rfl (lv_at hl 1 rfl) ?_
    refine lv_iload_n Z.hx Z.hb dX2_wayAt_17 rfl (lv_at hl 3 rfl) ?_
    -- LinkResolverModel.isTitle
    refine z_pcallV (rest := []) (As := [.int t]) Z (m_isTitle G l H o A (sV σ N th) f hM t) gw_X2_68 gd_X2_68 rfl hM.ob rfl hl.1 (Nat.le_of_ble_eq_true rfl) rfl dX2_wayAt_18 ⟨⟨Nat.le_of_ble_eq_true rfl, Nat.le_of_ble_eq_true rfl⟩, Nat.le_of_ble_eq_true rfl, Nat.le_of_ble_eq_true rfl⟩ hL (fun locs hL => ?_)
    refine lv_if_eq (tgt := 46) Z.hx Z.hb dX2_wayAt_21 (by decide) (fun c21 => ?_) (fun c21 => ?_)
    · skip
      have c21 : (mIs t (nI (sN σ))) = false := zb_0.mp c21
      refine lv_iconst (v := 0) Z.hx Z.hb dX2_wayAt_46 (by decide) ?_
      refine lv_istore (lv' := [(7, .int 0), (6, .int (zb (mBt y 0 55 && mBt g 0 3 && mBt d 0 (sT σ)))), (0, .ref o), (1, .int i), (2, .int t), (3, .int y), (4, .int g), (5, .int d)]) Z.hx Z.hb dX2_wayAt_47 hl (by decide) rfl (fun ls hl => ?_)
      refine lv_aload_n Z.hx Z.hb dX2_wayAt_49 rfl (lv_at hl 2 rfl) ?_
      refine lv_iload Z.hx Z.hb dX2_wayAt_50 (lv_at hl 1 rfl) ?_
      refine lv_if_ne (tgt := 59) Z.hx Z.hb dX2_wayAt_52 (by decide) (fun c52 => ?_) (fun c52 => ?_)
      · skip
        have c52 : (mBt y 0 55 && mBt g 0 3 && mBt d 0 (sT σ)) = true := zb_n.mp c52
        refine lv_iload Z.hx Z.hb dX2_wayAt_59 (lv_at hl 0 rfl) ?_
        refine lv_if_eq (tgt := 68) Z.hx Z.hb dX2_wayAt_61 (by decide) (fun c61 => ?_) (fun c61 => ?_)
        · skip
          refine lv_iconst (v := 2) Z.hx Z.hb dX2_wayAt_68 (by decide) ?_
          -- LinkResolverModel.holds
          refine z_gcallV (rest := []) (As := [.int 2]) Z (m_holdsN G l H o A (sV σ N th) f hM ha 2 (by decide)) gw_X2_64 gd_X2_64 rfl hM.ob rfl hl.1 (Nat.le_of_ble_eq_true rfl) rfl dX2_wayAt_69 ⟨⟨Nat.le_of_ble_eq_true rfl, Nat.le_of_ble_eq_true rfl⟩, Nat.le_of_ble_eq_true rfl, Nat.le_of_ble_eq_true rfl⟩ hL (fun H_2 locs hL hP_ => ?_)
          obtain ⟨hM_2, hF_2⟩ := hP_
          refine lv_if_ne (tgt := 77) Z.hx Z.hb dX2_wayAt_72 (by decide) (fun c72 => ?_) (fun c72 => ?_)
          · exact absurd (by decide) c72
          · skip
            refine lv_iconst (v := 0) Z.hx Z.hb dX2_wayAt_75 (by decide) ?_
            exact z_iret Z hr hL (mPost.no hM_2 hF_2 hS (by simp [kAt, kIf, sAsk, c13, c21, c52, c61, c72]) (by decide)) (Nat.le_of_ble_eq_true rfl) (Nat.le_of_ble_eq_true rfl) dX2_wayAt_76
        · exact absurd (by decide) c61
      · skip
        have c52 : (mBt y 0 55 && mBt g 0 3 && mBt d 0 (sT σ)) = false := zb_0.mp c52
        exact absurd (c13.symm.trans c52) (by decide)
    · skip
      have c21 : (mIs t (nI (sN σ))) = true := zb_n.mp c21
      obtain ⟨jt, hjt, rfl⟩ := mIs_nI (by omega) c21
      have hjti := c21
      have hjtc : (nI jt).toNatClampNeg = jt := nI_clamp (by omega)
      have hjtl : jt < 20 := by omega
      refine lv_iload_n Z.hx Z.hb dX2_wayAt_24 rfl (lv_at hl 2 rfl) ?_
      refine lv_if_lt (tgt := 46) Z.hx Z.hb dX2_wayAt_25 (by decide) (fun c25 => ?_) (fun c25 => ?_)
      · skip
        refine lv_iconst (v := 0) Z.hx Z.hb dX2_wayAt_46 (by decide) ?_
        refine lv_istore (lv' := [(7, .int 0), (6, .int (zb (mBt y 0 55 && mBt g 0 3 && mBt d 0 (sT σ)))), (0, .ref o), (1, .int i), (2, .int (nI jt)), (3, .int y), (4, .int g), (5, .int d)]) Z.hx Z.hb dX2_wayAt_47 hl (by decide) rfl (fun ls hl => ?_)
        refine lv_aload_n Z.hx Z.hb dX2_wayAt_49 rfl (lv_at hl 2 rfl) ?_
        refine lv_iload Z.hx Z.hb dX2_wayAt_50 (lv_at hl 1 rfl) ?_
        refine lv_if_ne (tgt := 59) Z.hx Z.hb dX2_wayAt_52 (by decide) (fun c52 => ?_) (fun c52 => ?_)
        · skip
          have c52 : (mBt y 0 55 && mBt g 0 3 && mBt d 0 (sT σ)) = true := zb_n.mp c52
          refine lv_iload Z.hx Z.hb dX2_wayAt_59 (lv_at hl 0 rfl) ?_
          refine lv_if_eq (tgt := 68) Z.hx Z.hb dX2_wayAt_61 (by decide) (fun c61 => ?_) (fun c61 => ?_)
          · skip
            refine lv_iconst (v := 2) Z.hx Z.hb dX2_wayAt_68 (by decide) ?_
            -- LinkResolverModel.holds
            refine z_gcallV (rest := []) (As := [.int 2]) Z (m_holdsN G l H o A (sV σ N th) f hM ha 2 (by decide)) gw_X2_64 gd_X2_64 rfl hM.ob rfl hl.1 (Nat.le_of_ble_eq_true rfl) rfl dX2_wayAt_69 ⟨⟨Nat.le_of_ble_eq_true rfl, Nat.le_of_ble_eq_true rfl⟩, Nat.le_of_ble_eq_true rfl, Nat.le_of_ble_eq_true rfl⟩ hL (fun H_3 locs hL hP_ => ?_)
            obtain ⟨hM_3, hF_3⟩ := hP_
            refine lv_if_ne (tgt := 77) Z.hx Z.hb dX2_wayAt_72 (by decide) (fun c72 => ?_) (fun c72 => ?_)
            · exact absurd (by decide) c72
            · skip
              refine lv_iconst (v := 0) Z.hx Z.hb dX2_wayAt_75 (by decide) ?_
              have hi9 : mIs i (nI (sCnt σ jt y g d)) = false := by
                rw [← mCnt_s hS hnP (by omega)]
                simp [mIs, c25]
              exact z_iret Z hr hL (mPost.no hM_3 hF_3 hS (by simp [kAt, kIf, sAsk, hi9, hjti, hjtc, c13, c52, c61, c72]) (by decide)) (Nat.le_of_ble_eq_true rfl) (Nat.le_of_ble_eq_true rfl) dX2_wayAt_76
          · exact absurd (by decide) c61
        · skip
          have c52 : (mBt y 0 55 && mBt g 0 3 && mBt d 0 (sT σ)) = false := zb_0.mp c52
          exact absurd (c13.symm.trans c52) (by decide)
      · skip
        refine lv_iload_n Z.hx Z.hb dX2_wayAt_28 rfl (lv_at hl 2 rfl) ?_
        refine lv_aload_n Z.hx Z.hb dX2_wayAt_29 rfl (lv_at hl 1 rfl) ?_
        refine lv_iload_n Z.hx Z.hb dX2_wayAt_30 rfl (lv_at hl 3 rfl) ?_
        refine lv_iload_n Z.hx Z.hb dX2_wayAt_31 rfl (lv_at hl 4 rfl) ?_
        refine lv_iload Z.hx Z.hb dX2_wayAt_32 (lv_at hl 5 rfl) ?_
        refine lv_iload Z.hx Z.hb dX2_wayAt_34 (lv_at hl 6 rfl) ?_
        -- LinkResolverModel.waysTo
        refine z_pcallV (rest := [.int i]) (As := [.int (nI jt), .int y, .int g, .int d]) Z (m_waysTo G l H o A (sV σ N th) f hM N hN hN1 (sP σ) hnP rfl jt (by omega) y g d) gw_X2_113 gd_X2_113 rfl hM.ob rfl hl.1 (Nat.le_of_ble_eq_true rfl) rfl dX2_wayAt_36 ⟨⟨Nat.le_of_ble_eq_true rfl, Nat.le_of_ble_eq_true rfl⟩, Nat.le_of_ble_eq_true rfl, Nat.le_of_ble_eq_true rfl⟩ hL (fun locs hL => ?_)
        refine lv_icmp_ge (tgt := 46) Z.hx Z.hb dX2_wayAt_39 (by decide) (fun c39 => ?_) (fun c39 => ?_)
        · skip
          refine lv_iconst (v := 0) Z.hx Z.hb dX2_wayAt_46 (by decide) ?_
          refine lv_istore (lv' := [(7, .int 0), (6, .int (zb (mBt y 0 55 && mBt g 0 3 && mBt d 0 (sT σ)))), (0, .ref o), (1, .int i), (2, .int (nI jt)), (3, .int y), (4, .int g), (5, .int d)]) Z.hx Z.hb dX2_wayAt_47 hl (by decide) rfl (fun ls hl => ?_)
          refine lv_aload_n Z.hx Z.hb dX2_wayAt_49 rfl (lv_at hl 2 rfl) ?_
          refine lv_iload Z.hx Z.hb dX2_wayAt_50 (lv_at hl 1 rfl) ?_
          refine lv_if_ne (tgt := 59) Z.hx Z.hb dX2_wayAt_52 (by decide) (fun c52 => ?_) (fun c52 => ?_)
          · skip
            have c52 : (mBt y 0 55 && mBt g 0 3 && mBt d 0 (sT σ)) = true := zb_n.mp c52
            refine lv_iload Z.hx Z.hb dX2_wayAt_59 (lv_at hl 0 rfl) ?_
            refine lv_if_eq (tgt := 68) Z.hx Z.hb dX2_wayAt_61 (by decide) (fun c61 => ?_) (fun c61 => ?_)
            · skip
              refine lv_iconst (v := 2) Z.hx Z.hb dX2_wayAt_68 (by decide) ?_
              -- LinkResolverModel.holds
              refine z_gcallV (rest := []) (As := [.int 2]) Z (m_holdsN G l H o A (sV σ N th) f hM ha 2 (by decide)) gw_X2_64 gd_X2_64 rfl hM.ob rfl hl.1 (Nat.le_of_ble_eq_true rfl) rfl dX2_wayAt_69 ⟨⟨Nat.le_of_ble_eq_true rfl, Nat.le_of_ble_eq_true rfl⟩, Nat.le_of_ble_eq_true rfl, Nat.le_of_ble_eq_true rfl⟩ hL (fun H_4 locs hL hP_ => ?_)
              obtain ⟨hM_4, hF_4⟩ := hP_
              refine lv_if_ne (tgt := 77) Z.hx Z.hb dX2_wayAt_72 (by decide) (fun c72 => ?_) (fun c72 => ?_)
              · exact absurd (by decide) c72
              · skip
                refine lv_iconst (v := 0) Z.hx Z.hb dX2_wayAt_75 (by decide) ?_
                have hi9 : mIs i (nI (sCnt σ jt y g d)) = false := by
                  rw [← mCnt_s hS hnP (by omega)]
                  simp [mIs, c25, c39]
                exact z_iret Z hr hL (mPost.no hM_4 hF_4 hS (by simp [kAt, kIf, sAsk, hi9, hjti, hjtc, c13, c52, c61, c72]) (by decide)) (Nat.le_of_ble_eq_true rfl) (Nat.le_of_ble_eq_true rfl) dX2_wayAt_76
            · exact absurd (by decide) c61
          · skip
            have c52 : (mBt y 0 55 && mBt g 0 3 && mBt d 0 (sT σ)) = false := zb_0.mp c52
            exact absurd (c13.symm.trans c52) (by decide)
        · skip
          refine lv_iconst (v := 1) Z.hx Z.hb dX2_wayAt_42 (by decide) ?_
          refine lv_goto (tgt := 47) Z.hx Z.hb dX2_wayAt_43 (by decide) ?_
          refine lv_istore (lv' := [(7, .int 1), (6, .int (zb (mBt y 0 55 && mBt g 0 3 && mBt d 0 (sT σ)))), (0, .ref o), (1, .int i), (2, .int (nI jt)), (3, .int y), (4, .int g), (5, .int d)]) Z.hx Z.hb dX2_wayAt_47 hl (by decide) rfl (fun ls hl => ?_)
          refine lv_aload_n Z.hx Z.hb dX2_wayAt_49 rfl (lv_at hl 2 rfl) ?_
          refine lv_iload Z.hx Z.hb dX2_wayAt_50 (lv_at hl 1 rfl) ?_
          refine lv_if_ne (tgt := 59) Z.hx Z.hb dX2_wayAt_52 (by decide) (fun c52 => ?_) (fun c52 => ?_)
          · skip
            have c52 : (mBt y 0 55 && mBt g 0 3 && mBt d 0 (sT σ)) = true := zb_n.mp c52
            refine lv_iload Z.hx Z.hb dX2_wayAt_59 (lv_at hl 0 rfl) ?_
            refine lv_if_eq (tgt := 68) Z.hx Z.hb dX2_wayAt_61 (by decide) (fun c61 => ?_) (fun c61 => ?_)
            · exact absurd c61 (by decide)
            · skip
              refine lv_iconst (v := 0) Z.hx Z.hb dX2_wayAt_64 (by decide) ?_
              refine lv_goto (tgt := 69) Z.hx Z.hb dX2_wayAt_65 (by decide) ?_
              -- LinkResolverModel.holds
              refine z_gcallV (rest := []) (As := [.int 0]) Z (m_holds0 G l H o A (sV σ N th) f hM ha) gw_X2_64 gd_X2_64 rfl hM.ob rfl hl.1 (Nat.le_of_ble_eq_true rfl) rfl dX2_wayAt_69 ⟨⟨Nat.le_of_ble_eq_true rfl, Nat.le_of_ble_eq_true rfl⟩, Nat.le_of_ble_eq_true rfl, Nat.le_of_ble_eq_true rfl⟩ hL (fun H_5 locs hL hP_ => ?_)
              obtain ⟨hM_5, hF_5⟩ := hP_
              refine lv_if_ne (tgt := 77) Z.hx Z.hb dX2_wayAt_72 (by decide) (fun c72 => ?_) (fun c72 => ?_)
              · skip
                refine lv_iconst (v := (-1)) Z.hx Z.hb dX2_wayAt_77 (by decide) ?_
                refine lv_istore (lv' := [(8, .int (-1)), (7, .int 1), (6, .int (zb (mBt y 0 55 && mBt g 0 3 && mBt d 0 (sT σ)))), (0, .ref o), (1, .int i), (2, .int (nI jt)), (3, .int y), (4, .int g), (5, .int d)]) Z.hx Z.hb dX2_wayAt_78 hl (by decide) rfl (fun ls hl => ?_)
                refine lv_iconst (v := 0) Z.hx Z.hb dX2_wayAt_80 (by decide) ?_
                refine lv_istore (lv' := [(9, .int 0), (8, .int (-1)), (7, .int 1), (6, .int (zb (mBt y 0 55 && mBt g 0 3 && mBt d 0 (sT σ)))), (0, .ref o), (1, .int i), (2, .int (nI jt)), (3, .int y), (4, .int g), (5, .int d)]) Z.hx Z.hb dX2_wayAt_81 hl (by decide) rfl (fun ls hl => ?_)
                have hval : zLast (fun p => mWay f N p jt y g d && decide (nI (zCnt (fun q => !decide (nI q = nI p) && mAh f q p jt && mWay f N q jt y g d) (sP σ)) = i)) (sP σ) = zLast (sAtOk σ i (nI jt).toNatClampNeg y g d) (sP σ) := by
                  rw [hjtc]
                  refine zLast_congr (fun p hp => ?_)
                  show (mWay f N p jt y g d && decide (nI (zCnt _ (sP σ)) = i)) = (sWay σ p jt y g d && decide (nI (sRank σ p jt y g d) = i))
                  rw [mWay_s hS hp (by omega) (by omega), show zCnt (fun q => !decide (nI q = nI p) && mAh f q p jt && mWay f N q jt y g d) (sP σ) = sRank σ p jt y g d from zCnt_congr (fun q hq => by rw [mAh_s hS hq hp hnP (by omega), mWay_s hS hq (by omega) (by omega)])]
                have outer : ∀ n k : Nat, k + n = (sP σ) → ∀ (locs : List Loc), zL G locs → ∀ ls : Array Slot, lv_has ls 12 [(9, .int (nI k)), (8, .int (zLast (fun p => mWay f N p jt y g d && decide (nI (zCnt (fun q => !decide (nI q = nI p) && mAh f q p jt && mWay f N q jt y g d) (sP σ)) = i)) k)), (0, .ref o), (1, .int i), (2, .int (nI jt)), (3, .int y), (4, .int g), (5, .int d)] → W p0 l e0 (zr 6 0 0) s0 m0 args0 below0 meth0 c0 H_5 locs 0 0 (MQ below0 (zQ (mPost G H o A N σ σ (kAt σ i (nI jt) y g d) (zLast (sAtOk σ i (nI jt).toNatClampNeg y g d) (sP σ)))) args0 s0 0 0 (zA G)) (F0 m0 83 ls []) := by
                  intro n
                  induction n with
                  | zero =>
                    intro k hkn locs hL ls hl
                    have hke : k = (sP σ) := hkn
                    subst hke
                    refine lv_iload Z.hx Z.hb dX2_wayAt_83 (lv_at hl 0 rfl) ?_
                    refine lv_aload_n Z.hx Z.hb dX2_wayAt_85 rfl (lv_at hl 2 rfl) ?_
                    refine gf_X2_57 Z hM_5.ob (v := .int (nI (sP σ))) rfl dX2_wayAt_86 ?_
                    refine lv_icmp_ge (tgt := 211) Z.hx Z.hb dX2_wayAt_89 (by decide) (fun c89 => ?_) (fun c89 => ?_)
                    · skip
                      refine lv_iload Z.hx Z.hb dX2_wayAt_211 (lv_at hl 1 rfl) ?_
                      have hi9 : mIs i (nI (sCnt σ jt y g d)) = true := by
                        rw [← mCnt_s hS hnP (by omega)]
                        simp [mIs, c25, c39]
                      exact z_iret Z hr hL (mPost.yes hM_5 hF_5 hS (by simp [kAt, kIf, sAsk, hi9, hjti, hjtc, c13, c52, c61, c72, c89]) hval) (Nat.le_of_ble_eq_true rfl) (Nat.le_of_ble_eq_true rfl) dX2_wayAt_213
                    · exact absurd (Int32.le_refl _) c89
                  | succ n ihk =>
                    intro k hkn locs hL ls hl
                    have hkb : k < (sP σ) := by omega
                    refine lv_iload Z.hx Z.hb dX2_wayAt_83 (lv_at hl 0 rfl) ?_
                    refine lv_aload_n Z.hx Z.hb dX2_wayAt_85 rfl (lv_at hl 2 rfl) ?_
                    refine gf_X2_57 Z hM_5.ob (v := .int (nI (sP σ))) rfl dX2_wayAt_86 ?_
                    refine lv_icmp_ge (tgt := 211) Z.hx Z.hb dX2_wayAt_89 (by decide) (fun c89 => ?_) (fun c89 => ?_)
                    · exact absurd c89 (nI_ge hkb (by omega))
                    · skip
                      refine lv_iconst (v := 0) Z.hx Z.hb dX2_wayAt_92 (by decide) ?_
                      refine lv_istore (lv' := [(10, .int 0), (9, .int (nI k)), (8, .int (zLast (fun p => mWay f N p jt y g d && decide (nI (zCnt (fun q => !decide (nI q = nI p) && mAh f q p jt && mWay f N q jt y g d) (sP σ)) = i)) k)), (0, .ref o), (1, .int i), (2, .int (nI jt)), (3, .int y), (4, .int g), (5, .int d)]) Z.hx Z.hb dX2_wayAt_93 hl (by decide) rfl (fun ls hl => ?_)
                      refine lv_iconst (v := 0) Z.hx Z.hb dX2_wayAt_95 (by decide) ?_
                      refine lv_istore (lv' := [(11, .int 0), (10, .int 0), (9, .int (nI k)), (8, .int (zLast (fun p => mWay f N p jt y g d && decide (nI (zCnt (fun q => !decide (nI q = nI p) && mAh f q p jt && mWay f N q jt y g d) (sP σ)) = i)) k)), (0, .ref o), (1, .int i), (2, .int (nI jt)), (3, .int y), (4, .int g), (5, .int d)]) Z.hx Z.hb dX2_wayAt_96 hl (by decide) rfl (fun ls hl => ?_)
                      have inner : ∀ n2 q : Nat, q + n2 = (sP σ) → ∀ (locs : List Loc), zL G locs → ∀ ls : Array Slot, lv_has ls 12 [(11, .int (nI q)), (10, .int (nI (zCnt (fun q => !decide (nI q = nI k) && mAh f q k jt && mWay f N q jt y g d) q))), (9, .int (nI k)), (8, .int (zLast (fun p => mWay f N p jt y g d && decide (nI (zCnt (fun q => !decide (nI q = nI p) && mAh f q p jt && mWay f N q jt y g d) (sP σ)) = i)) k)), (0, .ref o), (1, .int i), (2, .int (nI jt)), (3, .int y), (4, .int g), (5, .int d)] → W p0 l e0 (zr 6 0 0) s0 m0 args0 below0 meth0 c0 H_5 locs 0 0 (MQ below0 (zQ (mPost G H o A N σ σ (kAt σ i (nI jt) y g d) (zLast (sAtOk σ i (nI jt).toNatClampNeg y g d) (sP σ)))) args0 s0 0 0 (zA G)) (F0 m0 98 ls []) := by
                        intro n2
                        induction n2 with
                        | zero =>
                          intro q hqn locs hL ls hl
                          have hqe : q = (sP σ) := hqn
                          subst hqe
                          refine lv_iload Z.hx Z.hb dX2_wayAt_98 (lv_at hl 0 rfl) ?_
                          refine lv_aload_n Z.hx Z.hb dX2_wayAt_100 rfl (lv_at hl 4 rfl) ?_
                          refine gf_X2_57 Z hM_5.ob (v := .int (nI (sP σ))) rfl dX2_wayAt_101 ?_
                          refine lv_icmp_ge (tgt := 166) Z.hx Z.hb dX2_wayAt_104 (by decide) (fun c104 => ?_) (fun c104 => ?_)
                          · skip
                            refine lv_iload Z.hx Z.hb dX2_wayAt_166 (lv_at hl 1 rfl) ?_
                            refine lv_iload_n Z.hx Z.hb dX2_wayAt_168 rfl (lv_at hl 5 rfl) ?_
                            refine lv_icmp_ne (tgt := 201) Z.hx Z.hb dX2_wayAt_169 (by decide) (fun c169 => ?_) (fun c169 => ?_)
                            · skip
                              refine lv_iload Z.hx Z.hb dX2_wayAt_201 (lv_at hl 3 rfl) ?_
                              refine lv_istore (lv' := [(8, .int (zLast (fun p => mWay f N p jt y g d && decide (nI (zCnt (fun q => !decide (nI q = nI p) && mAh f q p jt && mWay f N q jt y g d) (sP σ)) = i)) k)), (11, .int (nI (sP σ))), (10, .int (nI (zCnt (fun q => !decide (nI q = nI k) && mAh f q k jt && mWay f N q jt y g d) (sP σ)))), (9, .int (nI k)), (0, .ref o), (1, .int i), (2, .int (nI jt)), (3, .int y), (4, .int g), (5, .int d)]) Z.hx Z.hb dX2_wayAt_203 hl (by decide) rfl (fun ls hl => ?_)
                              refine lv_iinc (v := (nI k) + 1) (lv' := [(9, .int ((nI k) + 1)), (8, .int (zLast (fun p => mWay f N p jt y g d && decide (nI (zCnt (fun q => !decide (nI q = nI p) && mAh f q p jt && mWay f N q jt y g d) (sP σ)) = i)) k)), (11, .int (nI (sP σ))), (10, .int (nI (zCnt (fun q => !decide (nI q = nI k) && mAh f q k jt && mWay f N q jt y g d) (sP σ)))), (0, .ref o), (1, .int i), (2, .int (nI jt)), (3, .int y), (4, .int g), (5, .int d)]) Z.hx Z.hb dX2_wayAt_205 hl (k := 3) rfl rfl (by decide) rfl (fun ls hl => ?_)
                              refine lv_goto (tgt := 83) Z.hx Z.hb dX2_wayAt_208 (by decide) ?_
                              have hz9 : (fun p => mWay f N p jt y g d && decide (nI (zCnt (fun q => !decide (nI q = nI p) && mAh f q p jt && mWay f N q jt y g d) (sP σ)) = i)) k = false := by
                                show ((mLet f k g && mCov f N k jt y d) && decide _) = false
                                rw [decide_eq_false c169, Bool.and_false]
                              have hz8 : zLast (fun p => mWay f N p jt y g d && decide (nI (zCnt (fun q => !decide (nI q = nI p) && mAh f q p jt && mWay f N q jt y g d) (sP σ)) = i)) (k + 1) = zLast (fun p => mWay f N p jt y g d && decide (nI (zCnt (fun q => !decide (nI q = nI p) && mAh f q p jt && mWay f N q jt y g d) (sP σ)) = i)) k := by
                                show (if (fun p => mWay f N p jt y g d && decide (nI (zCnt (fun q => !decide (nI q = nI p) && mAh f q p jt && mWay f N q jt y g d) (sP σ)) = i)) k = true then nI k else zLast (fun p => mWay f N p jt y g d && decide (nI (zCnt (fun q => !decide (nI q = nI p) && mAh f q p jt && mWay f N q jt y g d) (sP σ)) = i)) k) = _
                                rw [hz9]; rfl
                              exact ihk (k + 1) (by omega) _ hL ls (lv_sub (z_loc (l' := [(9, .int (nI (k + 1))), (8, .int (zLast (fun p => mWay f N p jt y g d && decide (nI (zCnt (fun q => !decide (nI q = nI p) && mAh f q p jt && mWay f N q jt y g d) (sP σ)) = i)) (k + 1))), (11, .int (nI (sP σ))), (10, .int (nI (zCnt (fun q => !decide (nI q = nI k) && mAh f q k jt && mWay f N q jt y g d) (sP σ)))), (0, .ref o), (1, .int i), (2, .int (nI jt)), (3, .int y), (4, .int g), (5, .int d)]) hl (by rw [hz8, nI_succ])) [0, 1, 4, 5, 6, 7, 8, 9] rfl)
                            · skip
                              refine lv_aload_n Z.hx Z.hb dX2_wayAt_172 rfl (lv_at hl 4 rfl) ?_
                              refine lv_iload Z.hx Z.hb dX2_wayAt_173 (lv_at hl 2 rfl) ?_
                              refine lv_iload Z.hx Z.hb dX2_wayAt_175 (lv_at hl 8 rfl) ?_
                              -- LinkResolverModel.lets
                              refine z_pcallV (rest := []) (As := [.int (nI k), .int g]) Z (m_lets G l H_5 o A (va_up (sV σ N th) 0 0) f hM_5 k (by omega) g) gw_X2_107 gd_X2_107 rfl hM_5.ob rfl hl.1 (Nat.le_of_ble_eq_true rfl) rfl dX2_wayAt_177 ⟨⟨Nat.le_of_ble_eq_true rfl, Nat.le_of_ble_eq_true rfl⟩, Nat.le_of_ble_eq_true rfl, Nat.le_of_ble_eq_true rfl⟩ hL (fun locs hL => ?_)
                              refine lv_if_eq (tgt := 201) Z.hx Z.hb dX2_wayAt_180 (by decide) (fun c180 => ?_) (fun c180 => ?_)
                              · skip
                                have c180 : (mLet f k g) = false := zb_0.mp c180
                                refine lv_iload Z.hx Z.hb dX2_wayAt_201 (lv_at hl 3 rfl) ?_
                                refine lv_istore (lv' := [(8, .int (zLast (fun p => mWay f N p jt y g d && decide (nI (zCnt (fun q => !decide (nI q = nI p) && mAh f q p jt && mWay f N q jt y g d) (sP σ)) = i)) k)), (11, .int (nI (sP σ))), (10, .int (nI (zCnt (fun q => !decide (nI q = nI k) && mAh f q k jt && mWay f N q jt y g d) (sP σ)))), (9, .int (nI k)), (0, .ref o), (1, .int i), (2, .int (nI jt)), (3, .int y), (4, .int g), (5, .int d)]) Z.hx Z.hb dX2_wayAt_203 hl (by decide) rfl (fun ls hl => ?_)
                                refine lv_iinc (v := (nI k) + 1) (lv' := [(9, .int ((nI k) + 1)), (8, .int (zLast (fun p => mWay f N p jt y g d && decide (nI (zCnt (fun q => !decide (nI q = nI p) && mAh f q p jt && mWay f N q jt y g d) (sP σ)) = i)) k)), (11, .int (nI (sP σ))), (10, .int (nI (zCnt (fun q => !decide (nI q = nI k) && mAh f q k jt && mWay f N q jt y g d) (sP σ)))), (0, .ref o), (1, .int i), (2, .int (nI jt)), (3, .int y), (4, .int g), (5, .int d)]) Z.hx Z.hb dX2_wayAt_205 hl (k := 3) rfl rfl (by decide) rfl (fun ls hl => ?_)
                                refine lv_goto (tgt := 83) Z.hx Z.hb dX2_wayAt_208 (by decide) ?_
                                have hz9 : (fun p => mWay f N p jt y g d && decide (nI (zCnt (fun q => !decide (nI q = nI p) && mAh f q p jt && mWay f N q jt y g d) (sP σ)) = i)) k = false := by
                                  show ((mLet f k g && mCov f N k jt y d) && decide _) = false
                                  rw [c180]; rfl
                                have hz8 : zLast (fun p => mWay f N p jt y g d && decide (nI (zCnt (fun q => !decide (nI q = nI p) && mAh f q p jt && mWay f N q jt y g d) (sP σ)) = i)) (k + 1) = zLast (fun p => mWay f N p jt y g d && decide (nI (zCnt (fun q => !decide (nI q = nI p) && mAh f q p jt && mWay f N q jt y g d) (sP σ)) = i)) k := by
                                  show (if (fun p => mWay f N p jt y g d && decide (nI (zCnt (fun q => !decide (nI q = nI p) && mAh f q p jt && mWay f N q jt y g d) (sP σ)) = i)) k = true then nI k else zLast (fun p => mWay f N p jt y g d && decide (nI (zCnt (fun q => !decide (nI q = nI p) && mAh f q p jt && mWay f N q jt y g d) (sP σ)) = i)) k) = _
                                  rw [hz9]; rfl
                                exact ihk (k + 1) (by omega) _ hL ls (lv_sub (z_loc (l' := [(9, .int (nI (k + 1))), (8, .int (zLast (fun p => mWay f N p jt y g d && decide (nI (zCnt (fun q => !decide (nI q = nI p) && mAh f q p jt && mWay f N q jt y g d) (sP σ)) = i)) (k + 1))), (11, .int (nI (sP σ))), (10, .int (nI (zCnt (fun q => !decide (nI q = nI k) && mAh f q k jt && mWay f N q jt y g d) (sP σ)))), (0, .ref o), (1, .int i), (2, .int (nI jt)), (3, .int y), (4, .int g), (5, .int d)]) hl (by rw [hz8, nI_succ])) [0, 1, 4, 5, 6, 7, 8, 9] rfl)
                              · skip
                                have c180 : (mLet f k g) = true := zb_n.mp c180
                                refine lv_aload_n Z.hx Z.hb dX2_wayAt_183 rfl (lv_at hl 4 rfl) ?_
                                refine lv_iload Z.hx Z.hb dX2_wayAt_184 (lv_at hl 2 rfl) ?_
                                refine lv_iload_n Z.hx Z.hb dX2_wayAt_186 rfl (lv_at hl 6 rfl) ?_
                                refine lv_iload_n Z.hx Z.hb dX2_wayAt_187 rfl (lv_at hl 7 rfl) ?_
                                refine lv_iload Z.hx Z.hb dX2_wayAt_188 (lv_at hl 9 rfl) ?_
                                -- LinkResolverModel.isCovered
                                refine z_pcallV (rest := []) (As := [.int (nI k), .int (nI jt), .int y, .int d]) Z (m_isCovered G l H_5 o A (va_up (sV σ N th) 0 0) f hM_5 N hN hN1 k jt (by omega) (by omega) y d) gw_X2_110 gd_X2_110 rfl hM_5.ob rfl hl.1 (Nat.le_of_ble_eq_true rfl) rfl dX2_wayAt_190 ⟨⟨Nat.le_of_ble_eq_true rfl, Nat.le_of_ble_eq_true rfl⟩, Nat.le_of_ble_eq_true rfl, Nat.le_of_ble_eq_true rfl⟩ hL (fun locs hL => ?_)
                                refine lv_if_eq (tgt := 201) Z.hx Z.hb dX2_wayAt_193 (by decide) (fun c193 => ?_) (fun c193 => ?_)
                                · skip
                                  have c193 : (mCov f N k jt y d) = false := zb_0.mp c193
                                  refine lv_iload Z.hx Z.hb dX2_wayAt_201 (lv_at hl 3 rfl) ?_
                                  refine lv_istore (lv' := [(8, .int (zLast (fun p => mWay f N p jt y g d && decide (nI (zCnt (fun q => !decide (nI q = nI p) && mAh f q p jt && mWay f N q jt y g d) (sP σ)) = i)) k)), (11, .int (nI (sP σ))), (10, .int (nI (zCnt (fun q => !decide (nI q = nI k) && mAh f q k jt && mWay f N q jt y g d) (sP σ)))), (9, .int (nI k)), (0, .ref o), (1, .int i), (2, .int (nI jt)), (3, .int y), (4, .int g), (5, .int d)]) Z.hx Z.hb dX2_wayAt_203 hl (by decide) rfl (fun ls hl => ?_)
                                  refine lv_iinc (v := (nI k) + 1) (lv' := [(9, .int ((nI k) + 1)), (8, .int (zLast (fun p => mWay f N p jt y g d && decide (nI (zCnt (fun q => !decide (nI q = nI p) && mAh f q p jt && mWay f N q jt y g d) (sP σ)) = i)) k)), (11, .int (nI (sP σ))), (10, .int (nI (zCnt (fun q => !decide (nI q = nI k) && mAh f q k jt && mWay f N q jt y g d) (sP σ)))), (0, .ref o), (1, .int i), (2, .int (nI jt)), (3, .int y), (4, .int g), (5, .int d)]) Z.hx Z.hb dX2_wayAt_205 hl (k := 3) rfl rfl (by decide) rfl (fun ls hl => ?_)
                                  refine lv_goto (tgt := 83) Z.hx Z.hb dX2_wayAt_208 (by decide) ?_
                                  have hz9 : (fun p => mWay f N p jt y g d && decide (nI (zCnt (fun q => !decide (nI q = nI p) && mAh f q p jt && mWay f N q jt y g d) (sP σ)) = i)) k = false := by
                                    show ((mLet f k g && mCov f N k jt y d) && decide _) = false
                                    rw [c180, c193]; rfl
                                  have hz8 : zLast (fun p => mWay f N p jt y g d && decide (nI (zCnt (fun q => !decide (nI q = nI p) && mAh f q p jt && mWay f N q jt y g d) (sP σ)) = i)) (k + 1) = zLast (fun p => mWay f N p jt y g d && decide (nI (zCnt (fun q => !decide (nI q = nI p) && mAh f q p jt && mWay f N q jt y g d) (sP σ)) = i)) k := by
                                    show (if (fun p => mWay f N p jt y g d && decide (nI (zCnt (fun q => !decide (nI q = nI p) && mAh f q p jt && mWay f N q jt y g d) (sP σ)) = i)) k = true then nI k else zLast (fun p => mWay f N p jt y g d && decide (nI (zCnt (fun q => !decide (nI q = nI p) && mAh f q p jt && mWay f N q jt y g d) (sP σ)) = i)) k) = _
                                    rw [hz9]; rfl
                                  exact ihk (k + 1) (by omega) _ hL ls (lv_sub (z_loc (l' := [(9, .int (nI (k + 1))), (8, .int (zLast (fun p => mWay f N p jt y g d && decide (nI (zCnt (fun q => !decide (nI q = nI p) && mAh f q p jt && mWay f N q jt y g d) (sP σ)) = i)) (k + 1))), (11, .int (nI (sP σ))), (10, .int (nI (zCnt (fun q => !decide (nI q = nI k) && mAh f q k jt && mWay f N q jt y g d) (sP σ)))), (0, .ref o), (1, .int i), (2, .int (nI jt)), (3, .int y), (4, .int g), (5, .int d)]) hl (by rw [hz8, nI_succ])) [0, 1, 4, 5, 6, 7, 8, 9] rfl)
                                · skip
                                  have c193 : (mCov f N k jt y d) = true := zb_n.mp c193
                                  refine lv_iload Z.hx Z.hb dX2_wayAt_196 (lv_at hl 2 rfl) ?_
                                  refine lv_goto (tgt := 203) Z.hx Z.hb dX2_wayAt_198 (by decide) ?_
                                  refine lv_istore (lv' := [(8, .int (nI k)), (11, .int (nI (sP σ))), (10, .int (nI (zCnt (fun q => !decide (nI q = nI k) && mAh f q k jt && mWay f N q jt y g d) (sP σ)))), (9, .int (nI k)), (0, .ref o), (1, .int i), (2, .int (nI jt)), (3, .int y), (4, .int g), (5, .int d)]) Z.hx Z.hb dX2_wayAt_203 hl (by decide) rfl (fun ls hl => ?_)
                                  refine lv_iinc (v := (nI k) + 1) (lv' := [(9, .int ((nI k) + 1)), (8, .int (nI k)), (11, .int (nI (sP σ))), (10, .int (nI (zCnt (fun q => !decide (nI q = nI k) && mAh f q k jt && mWay f N q jt y g d) (sP σ)))), (0, .ref o), (1, .int i), (2, .int (nI jt)), (3, .int y), (4, .int g), (5, .int d)]) Z.hx Z.hb dX2_wayAt_205 hl (k := 3) rfl rfl (by decide) rfl (fun ls hl => ?_)
                                  refine lv_goto (tgt := 83) Z.hx Z.hb dX2_wayAt_208 (by decide) ?_
                                  have hz9 : (fun p => mWay f N p jt y g d && decide (nI (zCnt (fun q => !decide (nI q = nI p) && mAh f q p jt && mWay f N q jt y g d) (sP σ)) = i)) k = true := by
                                    show ((mLet f k g && mCov f N k jt y d) && decide _) = true
                                    rw [c180, c193, decide_eq_true c169]; rfl
                                  have hz8 : zLast (fun p => mWay f N p jt y g d && decide (nI (zCnt (fun q => !decide (nI q = nI p) && mAh f q p jt && mWay f N q jt y g d) (sP σ)) = i)) (k + 1) = nI k := by
                                    show (if (fun p => mWay f N p jt y g d && decide (nI (zCnt (fun q => !decide (nI q = nI p) && mAh f q p jt && mWay f N q jt y g d) (sP σ)) = i)) k = true then nI k else zLast (fun p => mWay f N p jt y g d && decide (nI (zCnt (fun q => !decide (nI q = nI p) && mAh f q p jt && mWay f N q jt y g d) (sP σ)) = i)) k) = _
                                    rw [hz9]; rfl
                                  exact ihk (k + 1) (by omega) _ hL ls (lv_sub (z_loc (l' := [(9, .int (nI (k + 1))), (8, .int (zLast (fun p => mWay f N p jt y g d && decide (nI (zCnt (fun q => !decide (nI q = nI p) && mAh f q p jt && mWay f N q jt y g d) (sP σ)) = i)) (k + 1))), (11, .int (nI (sP σ))), (10, .int (nI (zCnt (fun q => !decide (nI q = nI k) && mAh f q k jt && mWay f N q jt y g d) (sP σ)))), (0, .ref o), (1, .int i), (2, .int (nI jt)), (3, .int y), (4, .int g), (5, .int d)]) hl (by rw [hz8, nI_succ])) [0, 1, 4, 5, 6, 7, 8, 9] rfl)
                          · exact absurd (Int32.le_refl _) c104
                        | succ n2 ihq =>
                          intro q hqn locs hL ls hl
                          have hqb : q < (sP σ) := by omega
                          refine lv_iload Z.hx Z.hb dX2_wayAt_98 (lv_at hl 0 rfl) ?_
                          refine lv_aload_n Z.hx Z.hb dX2_wayAt_100 rfl (lv_at hl 4 rfl) ?_
                          refine gf_X2_57 Z hM_5.ob (v := .int (nI (sP σ))) rfl dX2_wayAt_101 ?_
                          refine lv_icmp_ge (tgt := 166) Z.hx Z.hb dX2_wayAt_104 (by decide) (fun c104 => ?_) (fun c104 => ?_)
                          · exact absurd c104 (nI_ge hqb (by omega))
                          · skip
                            refine lv_iload Z.hx Z.hb dX2_wayAt_107 (lv_at hl 1 rfl) ?_
                            refine lv_iload Z.hx Z.hb dX2_wayAt_109 (lv_at hl 0 rfl) ?_
                            refine lv_iload Z.hx Z.hb dX2_wayAt_111 (lv_at hl 2 rfl) ?_
                            refine lv_icmp_eq (tgt := 156) Z.hx Z.hb dX2_wayAt_113 (by decide) (fun c113 => ?_) (fun c113 => ?_)
                            · skip
                              refine lv_iconst (v := 0) Z.hx Z.hb dX2_wayAt_156 (by decide) ?_
                              refine lv_iadd Z.hx Z.hb dX2_wayAt_157 ?_
                              refine lv_istore (lv' := [(10, .int ((nI (zCnt (fun q => !decide (nI q = nI k) && mAh f q k jt && mWay f N q jt y g d) q)) + 0)), (11, .int (nI q)), (9, .int (nI k)), (8, .int (zLast (fun p => mWay f N p jt y g d && decide (nI (zCnt (fun q => !decide (nI q = nI p) && mAh f q p jt && mWay f N q jt y g d) (sP σ)) = i)) k)), (0, .ref o), (1, .int i), (2, .int (nI jt)), (3, .int y), (4, .int g), (5, .int d)]) Z.hx Z.hb dX2_wayAt_158 hl (by decide) rfl (fun ls hl => ?_)
                              refine lv_iinc (v := (nI q) + 1) (lv' := [(11, .int ((nI q) + 1)), (10, .int ((nI (zCnt (fun q => !decide (nI q = nI k) && mAh f q k jt && mWay f N q jt y g d) q)) + 0)), (9, .int (nI k)), (8, .int (zLast (fun p => mWay f N p jt y g d && decide (nI (zCnt (fun q => !decide (nI q = nI p) && mAh f q p jt && mWay f N q jt y g d) (sP σ)) = i)) k)), (0, .ref o), (1, .int i), (2, .int (nI jt)), (3, .int y), (4, .int g), (5, .int d)]) Z.hx Z.hb dX2_wayAt_160 hl (k := 1) rfl rfl (by decide) rfl (fun ls hl => ?_)
                              refine lv_goto (tgt := 98) Z.hx Z.hb dX2_wayAt_163 (by decide) ?_
                              exact ihq (q + 1) (by omega) _ hL ls (lv_sub (z_loc (l' := [(11, .int (nI (q + 1))), (10, .int (nI (zCnt (fun q => !decide (nI q = nI k) && mAh f q k jt && mWay f N q jt y g d) (q + 1)))), (9, .int (nI k)), (8, .int (zLast (fun p => mWay f N p jt y g d && decide (nI (zCnt (fun q => !decide (nI q = nI p) && mAh f q p jt && mWay f N q jt y g d) (sP σ)) = i)) k)), (0, .ref o), (1, .int i), (2, .int (nI jt)), (3, .int y), (4, .int g), (5, .int d)]) hl (by rw [zCnt_f (w := (fun q => !decide (nI q = nI k) && mAh f q k jt && mWay f N q jt y g d)) (by simp [mWay, c113]), nI_succ])) [0, 1, 2, 3, 4, 5, 6, 7, 8, 9] rfl)
                            · skip
                              refine lv_aload_n Z.hx Z.hb dX2_wayAt_116 rfl (lv_at hl 4 rfl) ?_
                              refine lv_iload Z.hx Z.hb dX2_wayAt_117 (lv_at hl 0 rfl) ?_
                              refine lv_iload Z.hx Z.hb dX2_wayAt_119 (lv_at hl 2 rfl) ?_
                              refine lv_iload_n Z.hx Z.hb dX2_wayAt_121 rfl (lv_at hl 6 rfl) ?_
                              -- LinkResolverModel.isAhead
                              refine z_pcallV (rest := [.int (nI (zCnt (fun q => !decide (nI q = nI k) && mAh f q k jt && mWay f N q jt y g d) q))]) (As := [.int (nI q), .int (nI k), .int (nI jt)]) Z (m_isAhead G l H_5 o A (va_up (sV σ N th) 0 0) f hM_5 q k jt (by omega) (by omega) (by omega)) gw_X2_117 gd_X2_117 rfl hM_5.ob rfl hl.1 (Nat.le_of_ble_eq_true rfl) rfl dX2_wayAt_122 ⟨⟨Nat.le_of_ble_eq_true rfl, Nat.le_of_ble_eq_true rfl⟩, Nat.le_of_ble_eq_true rfl, Nat.le_of_ble_eq_true rfl⟩ hL (fun locs hL => ?_)
                              refine lv_if_eq (tgt := 156) Z.hx Z.hb dX2_wayAt_125 (by decide) (fun c125 => ?_) (fun c125 => ?_)
                              · skip
                                have c125 : (mAh f q k jt) = false := zb_0.mp c125
                                refine lv_iconst (v := 0) Z.hx Z.hb dX2_wayAt_156 (by decide) ?_
                                refine lv_iadd Z.hx Z.hb dX2_wayAt_157 ?_
                                refine lv_istore (lv' := [(10, .int ((nI (zCnt (fun q => !decide (nI q = nI k) && mAh f q k jt && mWay f N q jt y g d) q)) + 0)), (11, .int (nI q)), (9, .int (nI k)), (8, .int (zLast (fun p => mWay f N p jt y g d && decide (nI (zCnt (fun q => !decide (nI q = nI p) && mAh f q p jt && mWay f N q jt y g d) (sP σ)) = i)) k)), (0, .ref o), (1, .int i), (2, .int (nI jt)), (3, .int y), (4, .int g), (5, .int d)]) Z.hx Z.hb dX2_wayAt_158 hl (by decide) rfl (fun ls hl => ?_)
                                refine lv_iinc (v := (nI q) + 1) (lv' := [(11, .int ((nI q) + 1)), (10, .int ((nI (zCnt (fun q => !decide (nI q = nI k) && mAh f q k jt && mWay f N q jt y g d) q)) + 0)), (9, .int (nI k)), (8, .int (zLast (fun p => mWay f N p jt y g d && decide (nI (zCnt (fun q => !decide (nI q = nI p) && mAh f q p jt && mWay f N q jt y g d) (sP σ)) = i)) k)), (0, .ref o), (1, .int i), (2, .int (nI jt)), (3, .int y), (4, .int g), (5, .int d)]) Z.hx Z.hb dX2_wayAt_160 hl (k := 1) rfl rfl (by decide) rfl (fun ls hl => ?_)
                                refine lv_goto (tgt := 98) Z.hx Z.hb dX2_wayAt_163 (by decide) ?_
                                exact ihq (q + 1) (by omega) _ hL ls (lv_sub (z_loc (l' := [(11, .int (nI (q + 1))), (10, .int (nI (zCnt (fun q => !decide (nI q = nI k) && mAh f q k jt && mWay f N q jt y g d) (q + 1)))), (9, .int (nI k)), (8, .int (zLast (fun p => mWay f N p jt y g d && decide (nI (zCnt (fun q => !decide (nI q = nI p) && mAh f q p jt && mWay f N q jt y g d) (sP σ)) = i)) k)), (0, .ref o), (1, .int i), (2, .int (nI jt)), (3, .int y), (4, .int g), (5, .int d)]) hl (by rw [zCnt_f (w := (fun q => !decide (nI q = nI k) && mAh f q k jt && mWay f N q jt y g d)) (by simp [mWay, c113, c125]), nI_succ])) [0, 1, 2, 3, 4, 5, 6, 7, 8, 9] rfl)
                              · skip
                                have c125 : (mAh f q k jt) = true := zb_n.mp c125
                                refine lv_aload_n Z.hx Z.hb dX2_wayAt_128 rfl (lv_at hl 4 rfl) ?_
                                refine lv_iload Z.hx Z.hb dX2_wayAt_129 (lv_at hl 0 rfl) ?_
                                refine lv_iload Z.hx Z.hb dX2_wayAt_131 (lv_at hl 8 rfl) ?_
                                -- LinkResolverModel.lets
                                refine z_pcallV (rest := [.int (nI (zCnt (fun q => !decide (nI q = nI k) && mAh f q k jt && mWay f N q jt y g d) q))]) (As := [.int (nI q), .int g]) Z (m_lets G l H_5 o A (va_up (sV σ N th) 0 0) f hM_5 q (by omega) g) gw_X2_107 gd_X2_107 rfl hM_5.ob rfl hl.1 (Nat.le_of_ble_eq_true rfl) rfl dX2_wayAt_133 ⟨⟨Nat.le_of_ble_eq_true rfl, Nat.le_of_ble_eq_true rfl⟩, Nat.le_of_ble_eq_true rfl, Nat.le_of_ble_eq_true rfl⟩ hL (fun locs hL => ?_)
                                refine lv_if_eq (tgt := 156) Z.hx Z.hb dX2_wayAt_136 (by decide) (fun c136 => ?_) (fun c136 => ?_)
                                · skip
                                  have c136 : (mLet f q g) = false := zb_0.mp c136
                                  refine lv_iconst (v := 0) Z.hx Z.hb dX2_wayAt_156 (by decide) ?_
                                  refine lv_iadd Z.hx Z.hb dX2_wayAt_157 ?_
                                  refine lv_istore (lv' := [(10, .int ((nI (zCnt (fun q => !decide (nI q = nI k) && mAh f q k jt && mWay f N q jt y g d) q)) + 0)), (11, .int (nI q)), (9, .int (nI k)), (8, .int (zLast (fun p => mWay f N p jt y g d && decide (nI (zCnt (fun q => !decide (nI q = nI p) && mAh f q p jt && mWay f N q jt y g d) (sP σ)) = i)) k)), (0, .ref o), (1, .int i), (2, .int (nI jt)), (3, .int y), (4, .int g), (5, .int d)]) Z.hx Z.hb dX2_wayAt_158 hl (by decide) rfl (fun ls hl => ?_)
                                  refine lv_iinc (v := (nI q) + 1) (lv' := [(11, .int ((nI q) + 1)), (10, .int ((nI (zCnt (fun q => !decide (nI q = nI k) && mAh f q k jt && mWay f N q jt y g d) q)) + 0)), (9, .int (nI k)), (8, .int (zLast (fun p => mWay f N p jt y g d && decide (nI (zCnt (fun q => !decide (nI q = nI p) && mAh f q p jt && mWay f N q jt y g d) (sP σ)) = i)) k)), (0, .ref o), (1, .int i), (2, .int (nI jt)), (3, .int y), (4, .int g), (5, .int d)]) Z.hx Z.hb dX2_wayAt_160 hl (k := 1) rfl rfl (by decide) rfl (fun ls hl => ?_)
                                  refine lv_goto (tgt := 98) Z.hx Z.hb dX2_wayAt_163 (by decide) ?_
                                  exact ihq (q + 1) (by omega) _ hL ls (lv_sub (z_loc (l' := [(11, .int (nI (q + 1))), (10, .int (nI (zCnt (fun q => !decide (nI q = nI k) && mAh f q k jt && mWay f N q jt y g d) (q + 1)))), (9, .int (nI k)), (8, .int (zLast (fun p => mWay f N p jt y g d && decide (nI (zCnt (fun q => !decide (nI q = nI p) && mAh f q p jt && mWay f N q jt y g d) (sP σ)) = i)) k)), (0, .ref o), (1, .int i), (2, .int (nI jt)), (3, .int y), (4, .int g), (5, .int d)]) hl (by rw [zCnt_f (w := (fun q => !decide (nI q = nI k) && mAh f q k jt && mWay f N q jt y g d)) (by simp [mWay, c113, c125, c136]), nI_succ])) [0, 1, 2, 3, 4, 5, 6, 7, 8, 9] rfl)
                                · skip
                                  have c136 : (mLet f q g) = true := zb_n.mp c136
                                  refine lv_aload_n Z.hx Z.hb dX2_wayAt_139 rfl (lv_at hl 4 rfl) ?_
                                  refine lv_iload Z.hx Z.hb dX2_wayAt_140 (lv_at hl 0 rfl) ?_
                                  refine lv_iload_n Z.hx Z.hb dX2_wayAt_142 rfl (lv_at hl 6 rfl) ?_
                                  refine lv_iload_n Z.hx Z.hb dX2_wayAt_143 rfl (lv_at hl 7 rfl) ?_
                                  refine lv_iload Z.hx Z.hb dX2_wayAt_144 (lv_at hl 9 rfl) ?_
                                  -- LinkResolverModel.isCovered
                                  refine z_pcallV (rest := [.int (nI (zCnt (fun q => !decide (nI q = nI k) && mAh f q k jt && mWay f N q jt y g d) q))]) (As := [.int (nI q), .int (nI jt), .int y, .int d]) Z (m_isCovered G l H_5 o A (va_up (sV σ N th) 0 0) f hM_5 N hN hN1 q jt (by omega) (by omega) y d) gw_X2_110 gd_X2_110 rfl hM_5.ob rfl hl.1 (Nat.le_of_ble_eq_true rfl) rfl dX2_wayAt_146 ⟨⟨Nat.le_of_ble_eq_true rfl, Nat.le_of_ble_eq_true rfl⟩, Nat.le_of_ble_eq_true rfl, Nat.le_of_ble_eq_true rfl⟩ hL (fun locs hL => ?_)
                                  refine lv_if_eq (tgt := 156) Z.hx Z.hb dX2_wayAt_149 (by decide) (fun c149 => ?_) (fun c149 => ?_)
                                  · skip
                                    have c149 : (mCov f N q jt y d) = false := zb_0.mp c149
                                    refine lv_iconst (v := 0) Z.hx Z.hb dX2_wayAt_156 (by decide) ?_
                                    refine lv_iadd Z.hx Z.hb dX2_wayAt_157 ?_
                                    refine lv_istore (lv' := [(10, .int ((nI (zCnt (fun q => !decide (nI q = nI k) && mAh f q k jt && mWay f N q jt y g d) q)) + 0)), (11, .int (nI q)), (9, .int (nI k)), (8, .int (zLast (fun p => mWay f N p jt y g d && decide (nI (zCnt (fun q => !decide (nI q = nI p) && mAh f q p jt && mWay f N q jt y g d) (sP σ)) = i)) k)), (0, .ref o), (1, .int i), (2, .int (nI jt)), (3, .int y), (4, .int g), (5, .int d)]) Z.hx Z.hb dX2_wayAt_158 hl (by decide) rfl (fun ls hl => ?_)
                                    refine lv_iinc (v := (nI q) + 1) (lv' := [(11, .int ((nI q) + 1)), (10, .int ((nI (zCnt (fun q => !decide (nI q = nI k) && mAh f q k jt && mWay f N q jt y g d) q)) + 0)), (9, .int (nI k)), (8, .int (zLast (fun p => mWay f N p jt y g d && decide (nI (zCnt (fun q => !decide (nI q = nI p) && mAh f q p jt && mWay f N q jt y g d) (sP σ)) = i)) k)), (0, .ref o), (1, .int i), (2, .int (nI jt)), (3, .int y), (4, .int g), (5, .int d)]) Z.hx Z.hb dX2_wayAt_160 hl (k := 1) rfl rfl (by decide) rfl (fun ls hl => ?_)
                                    refine lv_goto (tgt := 98) Z.hx Z.hb dX2_wayAt_163 (by decide) ?_
                                    exact ihq (q + 1) (by omega) _ hL ls (lv_sub (z_loc (l' := [(11, .int (nI (q + 1))), (10, .int (nI (zCnt (fun q => !decide (nI q = nI k) && mAh f q k jt && mWay f N q jt y g d) (q + 1)))), (9, .int (nI k)), (8, .int (zLast (fun p => mWay f N p jt y g d && decide (nI (zCnt (fun q => !decide (nI q = nI p) && mAh f q p jt && mWay f N q jt y g d) (sP σ)) = i)) k)), (0, .ref o), (1, .int i), (2, .int (nI jt)), (3, .int y), (4, .int g), (5, .int d)]) hl (by rw [zCnt_f (w := (fun q => !decide (nI q = nI k) && mAh f q k jt && mWay f N q jt y g d)) (by simp [mWay, c113, c125, c136, c149]), nI_succ])) [0, 1, 2, 3, 4, 5, 6, 7, 8, 9] rfl)
                                  · skip
                                    have c149 : (mCov f N q jt y d) = true := zb_n.mp c149
                                    refine lv_iconst (v := 1) Z.hx Z.hb dX2_wayAt_152 (by decide) ?_
                                    refine lv_goto (tgt := 157) Z.hx Z.hb dX2_wayAt_153 (by decide) ?_
                                    refine lv_iadd Z.hx Z.hb dX2_wayAt_157 ?_
                                    refine lv_istore (lv' := [(10, .int ((nI (zCnt (fun q => !decide (nI q = nI k) && mAh f q k jt && mWay f N q jt y g d) q)) + 1)), (11, .int (nI q)), (9, .int (nI k)), (8, .int (zLast (fun p => mWay f N p jt y g d && decide (nI (zCnt (fun q => !decide (nI q = nI p) && mAh f q p jt && mWay f N q jt y g d) (sP σ)) = i)) k)), (0, .ref o), (1, .int i), (2, .int (nI jt)), (3, .int y), (4, .int g), (5, .int d)]) Z.hx Z.hb dX2_wayAt_158 hl (by decide) rfl (fun ls hl => ?_)
                                    refine lv_iinc (v := (nI q) + 1) (lv' := [(11, .int ((nI q) + 1)), (10, .int ((nI (zCnt (fun q => !decide (nI q = nI k) && mAh f q k jt && mWay f N q jt y g d) q)) + 1)), (9, .int (nI k)), (8, .int (zLast (fun p => mWay f N p jt y g d && decide (nI (zCnt (fun q => !decide (nI q = nI p) && mAh f q p jt && mWay f N q jt y g d) (sP σ)) = i)) k)), (0, .ref o), (1, .int i), (2, .int (nI jt)), (3, .int y), (4, .int g), (5, .int d)]) Z.hx Z.hb dX2_wayAt_160 hl (k := 1) rfl rfl (by decide) rfl (fun ls hl => ?_)
                                    refine lv_goto (tgt := 98) Z.hx Z.hb dX2_wayAt_163 (by decide) ?_
                                    exact ihq (q + 1) (by omega) _ hL ls (lv_sub (z_loc (l' := [(11, .int (nI (q + 1))), (10, .int (nI (zCnt (fun q => !decide (nI q = nI k) && mAh f q k jt && mWay f N q jt y g d) (q + 1)))), (9, .int (nI k)), (8, .int (zLast (fun p => mWay f N p jt y g d && decide (nI (zCnt (fun q => !decide (nI q = nI p) && mAh f q p jt && mWay f N q jt y g d) (sP σ)) = i)) k)), (0, .ref o), (1, .int i), (2, .int (nI jt)), (3, .int y), (4, .int g), (5, .int d)]) hl (by rw [zCnt_t (w := (fun q => !decide (nI q = nI k) && mAh f q k jt && mWay f N q jt y g d)) (by simp [mWay, c113, c125, c136, c149]), nI_succ])) [0, 1, 2, 3, 4, 5, 6, 7, 8, 9] rfl)
                      exact inner (sP σ) 0 (by omega) _ hL ls (lv_sub (z_loc (l' := [(11, .int (nI 0)), (10, .int (nI (zCnt (fun q => !decide (nI q = nI k) && mAh f q k jt && mWay f N q jt y g d) 0))), (9, .int (nI k)), (8, .int (zLast (fun p => mWay f N p jt y g d && decide (nI (zCnt (fun q => !decide (nI q = nI p) && mAh f q p jt && mWay f N q jt y g d) (sP σ)) = i)) k)), (0, .ref o), (1, .int i), (2, .int (nI jt)), (3, .int y), (4, .int g), (5, .int d)]) hl (by rfl)) [0, 1, 2, 3, 4, 5, 6, 7, 8, 9] rfl)
                exact outer (sP σ) 0 (by omega) _ hL ls (lv_sub (z_loc (l' := [(9, .int (nI 0)), (8, .int (zLast (fun p => mWay f N p jt y g d && decide (nI (zCnt (fun q => !decide (nI q = nI p) && mAh f q p jt && mWay f N q jt y g d) (sP σ)) = i)) 0)), (7, .int 1), (6, .int (zb (mBt y 0 55 && mBt g 0 3 && mBt d 0 (sT σ)))), (0, .ref o), (1, .int i), (2, .int (nI jt)), (3, .int y), (4, .int g), (5, .int d)]) hl (by rfl)) [0, 1, 4, 5, 6, 7, 8, 9] rfl)
              · exact absurd c72 (by decide)
          · skip
            have c52 : (mBt y 0 55 && mBt g 0 3 && mBt d 0 (sT σ)) = false := zb_0.mp c52
            exact absurd (c13.symm.trans c52) (by decide)
theorem zAll_no {w : Nat → Bool} {m : Nat} (h : zAll w m = false) : ∀ {n : Nat}, m ≤ n → zAll w n = false
  | 0, hn => by
    have e : m = 0 := by omega
    subst e
    exact h
  | n + 1, hn => by
    rcases Nat.lt_or_ge n m with g | g
    · have e : m = n + 1 := by omega
      subst e
      exact h
    · show (zAll w n && w n) = false
      rw [zAll_no h g]
      rfl
theorem zOr_congr {w w' : Nat → Bool} {g g' : Nat → Int32} : ∀ {n : Nat}, (∀ k, k < n → w k = w' k ∧ g k = g' k) → zOr w g n = zOr w' g' n
  | 0, _ => rfl
  | n + 1, h => by
    show (zOr w g n ||| (if w n then g n else 0)) = (zOr w' g' n ||| (if w' n then g' n else 0))
    rw [zOr_congr (fun k hk => h k (Nat.lt_succ_of_lt hk)), (h n (Nat.lt_succ_self n)).1, (h n (Nat.lt_succ_self n)).2]
set_option maxHeartbeats 4000000 in
set_option maxRecDepth 100000 in
theorem m_isNeedless (G : zG) (l : Launch) (H : Heap) (o : Nat) (A : Nat → Nat) (f : Nat → Nat → Int32) (ha : mAd G o A) (σ : zS) (N : Nat) (th : Int32) (hM : mRep G H o A (sV σ N th) f) (hS : mSim σ N (sV σ N th) f) (hW : sWf σ) (hNl : N < 4096) (p : Int32) : zM G l yX2_isNeedless cX2_isNeedless 6 (Option.some Jvm.ClassFile.FieldType.boolean) 7 0 0 [.ref o, .int p] H (mPost G H o A N σ σ (kPk σ p) (zb (sNeedM σ p.toNatClampNeg))) := by
  have hN : N ≤ 4096 := Nat.le_of_lt hNl
  have hN1 : sV σ N th 11 = nI N := rfl
  have hN20 : sN σ ≤ 20 := hW.2.1
  have hnP : sP σ ≤ 10 := hW.2.2.1
  refine zM.of (by decide +kernel) (Nat.le_of_ble_eq_true rfl) ?_
  intro p0 e0 s0 m0 args0 below0 meth0 c0 Z hr hH hn ls hl
  have Z : zC G p0 s0 m0 args0 meth0 c0 RX2 cX2_isNeedless 6 := Z
  have hl : lv_has ls 6 [(0, .ref o), (1, .int p)] := hl
  have hL : zL G [] := zL.nil
  refine lv_aload_n Z.hx Z.hb dX2_isNeedless_0 rfl (lv_at hl 0 rfl) ?_
  refine lv_aload_n Z.hx Z.hb dX2_isNeedless_1 rfl (lv_at hl 0 rfl) ?_
  refine lv_iload_n Z.hx Z.hb dX2_isNeedless_2 rfl (lv_at hl 1 rfl) ?_
  -- LinkResolverModel.isPackage
  refine z_pcallV (rest := [.ref o]) (As := [.int p]) Z (m_isPackage G l H o A (sV σ N th) f hM p) gw_X2_81 gd_X2_81 rfl hM.ob rfl hl.1 (Nat.le_of_ble_eq_true rfl) rfl dX2_isNeedless_3 ⟨⟨Nat.le_of_ble_eq_true rfl, Nat.le_of_ble_eq_true rfl⟩, Nat.le_of_ble_eq_true rfl, Nat.le_of_ble_eq_true rfl⟩ hL (fun locs hL => ?_)
  refine lv_if_eq (tgt := 13) Z.hx Z.hb dX2_isNeedless_6 (by decide) (fun c6 => ?_) (fun c6 => ?_)
  · skip
    have c6 : (mIs p (nI (sP σ))) = false := zb_0.mp c6
    refine lv_iconst (v := 1) Z.hx Z.hb dX2_isNeedless_13 (by decide) ?_
    -- LinkResolverModel.holds
    refine z_gcallV (rest := []) (As := [.int 1]) Z (m_holdsN G l H o A (sV σ N th) f hM ha 1 (by decide)) gw_X2_64 gd_X2_64 rfl hM.ob rfl hl.1 (Nat.le_of_ble_eq_true rfl) rfl dX2_isNeedless_14 ⟨⟨Nat.le_of_ble_eq_true rfl, Nat.le_of_ble_eq_true rfl⟩, Nat.le_of_ble_eq_true rfl, Nat.le_of_ble_eq_true rfl⟩ hL (fun H_1 locs hL hP_ => ?_)
    obtain ⟨hM_1, hF_1⟩ := hP_
    refine lv_if_ne (tgt := 22) Z.hx Z.hb dX2_isNeedless_17 (by decide) (fun c17 => ?_) (fun c17 => ?_)
    · exact absurd (by decide) c17
    · skip
      refine lv_iconst (v := 0) Z.hx Z.hb dX2_isNeedless_20 (by decide) ?_
      exact z_zret Z hr hL (by decide) (mPost.no hM_1 hF_1 hS (by simp [kPk, kIf, c6]) (by decide)) (Nat.le_of_ble_eq_true rfl) (Nat.le_of_ble_eq_true rfl) dX2_isNeedless_21
  · skip
    have c6 : (mIs p (nI (sP σ))) = true := zb_n.mp c6
    obtain ⟨jp, hjp, rfl⟩ := mIs_nI (by omega) c6
    have hjpi := c6
    have hjpc : (nI jp).toNatClampNeg = jp := nI_clamp (by omega)
    have hjpl : jp < 10 := by omega
    refine lv_iconst (v := 0) Z.hx Z.hb dX2_isNeedless_9 (by decide) ?_
    refine lv_goto (tgt := 14) Z.hx Z.hb dX2_isNeedless_10 (by decide) ?_
    -- LinkResolverModel.holds
    refine z_gcallV (rest := []) (As := [.int 0]) Z (m_holds0 G l H o A (sV σ N th) f hM ha) gw_X2_64 gd_X2_64 rfl hM.ob rfl hl.1 (Nat.le_of_ble_eq_true rfl) rfl dX2_isNeedless_14 ⟨⟨Nat.le_of_ble_eq_true rfl, Nat.le_of_ble_eq_true rfl⟩, Nat.le_of_ble_eq_true rfl, Nat.le_of_ble_eq_true rfl⟩ hL (fun H_2 locs hL hP_ => ?_)
    obtain ⟨hM_2, hF_2⟩ := hP_
    refine lv_if_ne (tgt := 22) Z.hx Z.hb dX2_isNeedless_17 (by decide) (fun c17 => ?_) (fun c17 => ?_)
    · skip
      refine lv_iconst (v := 1) Z.hx Z.hb dX2_isNeedless_22 (by decide) ?_
      refine lv_istore_n (lv' := [(2, .int 1), (0, .ref o), (1, .int (nI jp))]) Z.hx Z.hb dX2_isNeedless_23 rfl hl (by decide) rfl (fun ls hl => ?_)
      refine lv_iconst (v := 0) Z.hx Z.hb dX2_isNeedless_24 (by decide) ?_
      refine lv_istore_n (lv' := [(3, .int 0), (2, .int 1), (0, .ref o), (1, .int (nI jp))]) Z.hx Z.hb dX2_isNeedless_25 rfl hl (by decide) rfl (fun ls hl => ?_)
      obtain ⟨hY1, hY2⟩ := hW.y
      have outer : ∀ n k : Nat, k + n = (sN σ) → ∀ (locs : List Loc), zL G locs → ∀ ls : Array Slot, lv_has ls 6 [(3, .int (nI k)), (2, .int (zb (zAll (fun t => zAll (fun n => sOkY σ jp t (nI (sF σ t + n))) (sYrs σ t)) k))), (0, .ref o), (1, .int (nI jp))] → W p0 l e0 (zr 7 0 0) s0 m0 args0 below0 meth0 c0 H_2 locs 0 0 (MQ below0 (zQ (mPost G H o A N σ σ (kPk σ (nI jp)) (zb (sNeedM σ (nI jp).toNatClampNeg)))) args0 s0 0 0 (zA G)) (F0 m0 26 ls []) := by
        intro n
        induction n with
        | zero =>
          intro k hkn locs hL ls hl
          have hke : k = (sN σ) := hkn
          subst hke
          refine lv_iload_n Z.hx Z.hb dX2_isNeedless_26 rfl (lv_at hl 0 rfl) ?_
          refine lv_aload_n Z.hx Z.hb dX2_isNeedless_27 rfl (lv_at hl 2 rfl) ?_
          refine gf_X2_54 Z hM_2.ob (v := .int (nI (sN σ))) rfl dX2_isNeedless_28 ?_
          refine lv_icmp_ge (tgt := 147) Z.hx Z.hb dX2_isNeedless_31 (by decide) (fun c31 => ?_) (fun c31 => ?_)
          · skip
            refine lv_iload_n Z.hx Z.hb dX2_isNeedless_147 rfl (lv_at hl 1 rfl) ?_
            exact z_zret Z hr hL (zb_01) (mPost.yes hM_2 hF_2 hS (by simp [kPk, kIf, hjpi, hjpc]) (by rw [hjpc]; rfl)) (Nat.le_of_ble_eq_true rfl) (Nat.le_of_ble_eq_true rfl) dX2_isNeedless_148
          · exact absurd (Int32.le_refl _) c31
        | succ n ihk =>
          intro k hkn locs hL ls hl
          have hkb : k < (sN σ) := by omega
          refine lv_iload_n Z.hx Z.hb dX2_isNeedless_26 rfl (lv_at hl 0 rfl) ?_
          refine lv_aload_n Z.hx Z.hb dX2_isNeedless_27 rfl (lv_at hl 2 rfl) ?_
          refine gf_X2_54 Z hM_2.ob (v := .int (nI (sN σ))) rfl dX2_isNeedless_28 ?_
          refine lv_icmp_ge (tgt := 147) Z.hx Z.hb dX2_isNeedless_31 (by decide) (fun c31 => ?_) (fun c31 => ?_)
          · exact absurd c31 (nI_ge hkb (by omega))
          · skip
            refine lv_iload_n Z.hx Z.hb dX2_isNeedless_34 rfl (lv_at hl 1 rfl) ?_
            refine lv_if_eq (tgt := 147) Z.hx Z.hb dX2_isNeedless_35 (by decide) (fun c35 => ?_) (fun c35 => ?_)
            · skip
              have c35 : (zAll (fun t => zAll (fun n => sOkY σ jp t (nI (sF σ t + n))) (sYrs σ t)) k) = false := zb_0.mp c35
              refine lv_iload_n Z.hx Z.hb dX2_isNeedless_147 rfl (lv_at hl 1 rfl) ?_
              exact z_zret Z hr hL (zb_01) (mPost.yes hM_2 hF_2 hS (by simp [kPk, kIf, hjpi, hjpc]) (by rw [hjpc]; exact congrArg zb (c35.trans (zAll_no c35 (Nat.le_of_lt hkb)).symm))) (Nat.le_of_ble_eq_true rfl) (Nat.le_of_ble_eq_true rfl) dX2_isNeedless_148
            · skip
              have c35 : (zAll (fun t => zAll (fun n => sOkY σ jp t (nI (sF σ t + n))) (sYrs σ t)) k) = true := zb_n.mp c35
              refine lv_aload_n Z.hx Z.hb dX2_isNeedless_38 rfl (lv_at hl 2 rfl) ?_
              refine gf_X2_7 Z hM_2.ob (v := .ref (A 4)) rfl dX2_isNeedless_39 ?_
              refine lv_iload_n Z.hx Z.hb dX2_isNeedless_42 rfl (lv_at hl 0 rfl) ?_
              refine z_ialdN Z hM_2.a4 (k := k) (by omega) (by decide) dX2_isNeedless_43 ?_
              refine lv_istore (lv' := [(4, .int (f 4 k)), (3, .int (nI k)), (2, .int (zb (zAll (fun t => zAll (fun n => sOkY σ jp t (nI (sF σ t + n))) (sYrs σ t)) k))), (0, .ref o), (1, .int (nI jp))]) Z.hx Z.hb dX2_isNeedless_44 hl (by decide) rfl (fun ls hl => ?_)
              obtain ⟨hG1, hG2⟩ := hW.f hkb
              have h4k : f 4 k = nI (sF σ k) := (hS.2.1 k hkb).1.trans hG2
              have hys : sYrs σ k = sY σ + 1 - sF σ k := rfl
              have inner : ∀ n2 m : Nat, m + n2 = (sYrs σ k) → ∀ (locs : List Loc), zL G locs → ∀ ls : Array Slot, lv_has ls 6 [(4, .int (nI (sF σ k + m))), (2, .int (zb (zAll (fun n => sOkY σ jp k (nI (sF σ k + n))) m))), (3, .int (nI k)), (0, .ref o), (1, .int (nI jp))] → W p0 l e0 (zr 7 0 0) s0 m0 args0 below0 meth0 c0 H_2 locs 0 0 (MQ below0 (zQ (mPost G H o A N σ σ (kPk σ (nI jp)) (zb (sNeedM σ (nI jp).toNatClampNeg)))) args0 s0 0 0 (zA G)) (F0 m0 46 ls []) := by
                intro n2
                induction n2 with
                | zero =>
                  intro m hmn locs hL ls hl
                  have hme : m = (sYrs σ k) := hmn
                  subst hme
                  refine lv_iload Z.hx Z.hb dX2_isNeedless_46 (lv_at hl 0 rfl) ?_
                  refine lv_aload_n Z.hx Z.hb dX2_isNeedless_48 rfl (lv_at hl 3 rfl) ?_
                  refine gf_X2_78 Z hM_2.ob (v := .int (sT σ)) rfl dX2_isNeedless_49 ?_
                  refine lv_sipush (v := 360) Z.hx Z.hb dX2_isNeedless_52 (by decide) ?_
                  refine lv_idiv Z.hx Z.hb dX2_isNeedless_55 (by decide) ?_
                  refine lv_icmp_gt (tgt := 141) Z.hx Z.hb dX2_isNeedless_56 (by decide) (fun c56 => ?_) (fun c56 => ?_)
                  · skip
                    refine lv_iinc (v := (nI k) + 1) (lv' := [(3, .int ((nI k) + 1)), (4, .int (nI (sF σ k + (sYrs σ k)))), (2, .int (zb (zAll (fun n => sOkY σ jp k (nI (sF σ k + n))) (sYrs σ k)))), (0, .ref o), (1, .int (nI jp))]) Z.hx Z.hb dX2_isNeedless_141 hl (k := 2) rfl rfl (by decide) rfl (fun ls hl => ?_)
                    refine lv_goto (tgt := 26) Z.hx Z.hb dX2_isNeedless_144 (by decide) ?_
                    exact ihk (k + 1) (by omega) _ hL ls (lv_sub (z_loc (l' := [(3, .int (nI (k + 1))), (4, .int (nI (sF σ k + (sYrs σ k)))), (2, .int (zb (zAll (fun t => zAll (fun n => sOkY σ jp t (nI (sF σ t + n))) (sYrs σ t)) (k + 1)))), (0, .ref o), (1, .int (nI jp))]) hl (by rw [show zAll (fun t => zAll (fun n => sOkY σ jp t (nI (sF σ t + n))) (sYrs σ t)) (k + 1) = zAll (fun n => sOkY σ jp k (nI (sF σ k + n))) (sYrs σ k) from by show (zAll (fun t => zAll (fun n => sOkY σ jp t (nI (sF σ t + n))) (sYrs σ t)) k && zAll (fun n => sOkY σ jp k (nI (sF σ k + n))) (sYrs σ k)) = _; rw [c35]; rfl, nI_succ])) [0, 2, 3, 4] rfl)
                  · exact absurd (by rw [hY2]; exact nI_lt (by omega) (by omega)) c56
                | succ n2 ihm =>
                  intro m hmn locs hL ls hl
                  have hmb : m < (sYrs σ k) := by omega
                  refine lv_iload Z.hx Z.hb dX2_isNeedless_46 (lv_at hl 0 rfl) ?_
                  refine lv_aload_n Z.hx Z.hb dX2_isNeedless_48 rfl (lv_at hl 3 rfl) ?_
                  refine gf_X2_78 Z hM_2.ob (v := .int (sT σ)) rfl dX2_isNeedless_49 ?_
                  refine lv_sipush (v := 360) Z.hx Z.hb dX2_isNeedless_52 (by decide) ?_
                  refine lv_idiv Z.hx Z.hb dX2_isNeedless_55 (by decide) ?_
                  refine lv_icmp_gt (tgt := 141) Z.hx Z.hb dX2_isNeedless_56 (by decide) (fun c56 => ?_) (fun c56 => ?_)
                  · exact absurd c56 (by rw [hY2]; exact nI_nlt (by omega) (by omega))
                  · skip
                    refine lv_iload_n Z.hx Z.hb dX2_isNeedless_59 rfl (lv_at hl 1 rfl) ?_
                    refine lv_if_eq (tgt := 141) Z.hx Z.hb dX2_isNeedless_60 (by decide) (fun c60 => ?_) (fun c60 => ?_)
                    · skip
                      have c60 : (zAll (fun n => sOkY σ jp k (nI (sF σ k + n))) m) = false := zb_0.mp c60
                      refine lv_iinc (v := (nI k) + 1) (lv' := [(3, .int ((nI k) + 1)), (4, .int (nI (sF σ k + m))), (2, .int (zb (zAll (fun n => sOkY σ jp k (nI (sF σ k + n))) m))), (0, .ref o), (1, .int (nI jp))]) Z.hx Z.hb dX2_isNeedless_141 hl (k := 2) rfl rfl (by decide) rfl (fun ls hl => ?_)
                      refine lv_goto (tgt := 26) Z.hx Z.hb dX2_isNeedless_144 (by decide) ?_
                      exact ihk (k + 1) (by omega) _ hL ls (lv_sub (z_loc (l' := [(3, .int (nI (k + 1))), (4, .int (nI (sF σ k + m))), (2, .int (zb (zAll (fun t => zAll (fun n => sOkY σ jp t (nI (sF σ t + n))) (sYrs σ t)) (k + 1)))), (0, .ref o), (1, .int (nI jp))]) hl (by rw [show zAll (fun t => zAll (fun n => sOkY σ jp t (nI (sF σ t + n))) (sYrs σ t)) (k + 1) = zAll (fun n => sOkY σ jp k (nI (sF σ k + n))) m from by show (zAll (fun t => zAll (fun n => sOkY σ jp t (nI (sF σ t + n))) (sYrs σ t)) k && zAll (fun n => sOkY σ jp k (nI (sF σ k + n))) (sYrs σ k)) = _; rw [zAll_no c60 (Nat.le_of_lt hmb), c60, Bool.and_false], nI_succ])) [0, 2, 3, 4] rfl)
                    · skip
                      have c60 : (zAll (fun n => sOkY σ jp k (nI (sF σ k + n))) m) = true := zb_n.mp c60
                      refine lv_aload_n Z.hx Z.hb dX2_isNeedless_63 rfl (lv_at hl 3 rfl) ?_
                      refine lv_iload_n Z.hx Z.hb dX2_isNeedless_64 rfl (lv_at hl 4 rfl) ?_
                      refine lv_iload_n Z.hx Z.hb dX2_isNeedless_65 rfl (lv_at hl 2 rfl) ?_
                      refine lv_iload Z.hx Z.hb dX2_isNeedless_66 (lv_at hl 0 rfl) ?_
                      refine lv_aload_n Z.hx Z.hb dX2_isNeedless_68 rfl (lv_at hl 3 rfl) ?_
                      refine gf_X2_78 Z hM_2.ob (v := .int (sT σ)) rfl dX2_isNeedless_69 ?_
                      refine lv_aload_n Z.hx Z.hb dX2_isNeedless_72 rfl (lv_at hl 3 rfl) ?_
                      refine gf_X2_78 Z hM_2.ob (v := .int (sT σ)) rfl dX2_isNeedless_73 ?_
                      -- LinkResolverModel.has
                      refine z_pcallV (rest := []) (As := [.int (nI jp), .int (nI k), .int (nI (sF σ k + m)), .int (sT σ), .int (sT σ)]) Z (m_has G l H_2 o A (va_up (sV σ N th) 0 0) f hM_2 N hN hN1 jp k (by omega) (by omega) (nI (sF σ k + m)) (sT σ) (sT σ)) gw_X2_96 gd_X2_96 rfl hM_2.ob rfl hl.1 (Nat.le_of_ble_eq_true rfl) rfl dX2_isNeedless_76 ⟨⟨Nat.le_of_ble_eq_true rfl, Nat.le_of_ble_eq_true rfl⟩, Nat.le_of_ble_eq_true rfl, Nat.le_of_ble_eq_true rfl⟩ hL (fun locs hL => ?_)
                      refine lv_if_eq (tgt := 101) Z.hx Z.hb dX2_isNeedless_79 (by decide) (fun c79 => ?_) (fun c79 => ?_)
                      · skip
                        have c79 : (mHas f N jp k (nI (sF σ k + m)) (sT σ) (sT σ)) = false := zb_0.mp c79
                        refine lv_iconst (v := 0) Z.hx Z.hb dX2_isNeedless_101 (by decide) ?_
                        refine lv_istore (lv' := [(5, .int 0), (4, .int (nI (sF σ k + m))), (2, .int (zb (zAll (fun n => sOkY σ jp k (nI (sF σ k + n))) m))), (3, .int (nI k)), (0, .ref o), (1, .int (nI jp))]) Z.hx Z.hb dX2_isNeedless_102 hl (by decide) rfl (fun ls hl => ?_)
                        refine lv_iload Z.hx Z.hb dX2_isNeedless_104 (lv_at hl 0 rfl) ?_
                        refine lv_if_eq (tgt := 129) Z.hx Z.hb dX2_isNeedless_106 (by decide) (fun c106 => ?_) (fun c106 => ?_)
                        · skip
                          refine lv_iconst (v := 1) Z.hx Z.hb dX2_isNeedless_129 (by decide) ?_
                          refine lv_goto (tgt := 134) Z.hx Z.hb dX2_isNeedless_130 (by decide) ?_
                          refine lv_istore_n (lv' := [(2, .int 1), (5, .int 0), (4, .int (nI (sF σ k + m))), (3, .int (nI k)), (0, .ref o), (1, .int (nI jp))]) Z.hx Z.hb dX2_isNeedless_134 rfl hl (by decide) rfl (fun ls hl => ?_)
                          refine lv_iinc (v := (nI (sF σ k + m)) + 1) (lv' := [(4, .int ((nI (sF σ k + m)) + 1)), (2, .int 1), (5, .int 0), (3, .int (nI k)), (0, .ref o), (1, .int (nI jp))]) Z.hx Z.hb dX2_isNeedless_135 hl (k := 2) rfl rfl (by decide) rfl (fun ls hl => ?_)
                          refine lv_goto (tgt := 46) Z.hx Z.hb dX2_isNeedless_138 (by decide) ?_
                          have hz9 : (fun n => sOkY σ jp k (nI (sF σ k + n))) m = true := by
                            show (!(sHas σ jp k (nI (sF σ k + m)) (sT σ) (sT σ) && !sKept σ jp k (nI (sF σ k + m)) (sT σ)) || decide _) = true
                            have c79 := (mHas_s hS (by omega) (by omega) _ _ _).symm.trans c79
                            rw [c79]; rfl
                          have hz8 : zAll (fun n => sOkY σ jp k (nI (sF σ k + n))) (m + 1) = true := by
                            show (zAll (fun n => sOkY σ jp k (nI (sF σ k + n))) m && (fun n => sOkY σ jp k (nI (sF σ k + n))) m) = true
                            rw [c60, hz9]; rfl
                          exact ihm (m + 1) (by omega) _ hL ls (lv_sub (z_loc (l' := [(4, .int (nI (sF σ k + (m + 1)))), (2, .int (zb (zAll (fun n => sOkY σ jp k (nI (sF σ k + n))) (m + 1)))), (5, .int 0), (3, .int (nI k)), (0, .ref o), (1, .int (nI jp))]) hl (by rw [hz8, show sF σ k + (m + 1) = (sF σ k + m) + 1 from rfl, nI_succ]; rfl)) [0, 1, 3, 4, 5] rfl)
                        · exact absurd (by decide) c106
                      · skip
                        have c79 : (mHas f N jp k (nI (sF σ k + m)) (sT σ) (sT σ)) = true := zb_n.mp c79
                        refine lv_aload_n Z.hx Z.hb dX2_isNeedless_82 rfl (lv_at hl 3 rfl) ?_
                        refine lv_iload_n Z.hx Z.hb dX2_isNeedless_83 rfl (lv_at hl 4 rfl) ?_
                        refine lv_iload_n Z.hx Z.hb dX2_isNeedless_84 rfl (lv_at hl 2 rfl) ?_
                        refine lv_iload Z.hx Z.hb dX2_isNeedless_85 (lv_at hl 0 rfl) ?_
                        refine lv_aload_n Z.hx Z.hb dX2_isNeedless_87 rfl (lv_at hl 3 rfl) ?_
                        refine gf_X2_78 Z hM_2.ob (v := .int (sT σ)) rfl dX2_isNeedless_88 ?_
                        -- LinkResolverModel.isKept
                        refine z_pcallV (rest := []) (As := [.int (nI jp), .int (nI k), .int (nI (sF σ k + m)), .int (sT σ)]) Z (m_isKept G l H_2 o A (va_up (sV σ N th) 0 0) f hM_2 N hN hN1 jp k (by omega) (by omega) (nI (sF σ k + m)) (sT σ)) gw_X2_100 gd_X2_100 rfl hM_2.ob rfl hl.1 (Nat.le_of_ble_eq_true rfl) rfl dX2_isNeedless_91 ⟨⟨Nat.le_of_ble_eq_true rfl, Nat.le_of_ble_eq_true rfl⟩, Nat.le_of_ble_eq_true rfl, Nat.le_of_ble_eq_true rfl⟩ hL (fun locs hL => ?_)
                        refine lv_if_ne (tgt := 101) Z.hx Z.hb dX2_isNeedless_94 (by decide) (fun c94 => ?_) (fun c94 => ?_)
                        · skip
                          have c94 : (mKept f N jp k (nI (sF σ k + m)) (sT σ)) = true := zb_n.mp c94
                          refine lv_iconst (v := 0) Z.hx Z.hb dX2_isNeedless_101 (by decide) ?_
                          refine lv_istore (lv' := [(5, .int 0), (4, .int (nI (sF σ k + m))), (2, .int (zb (zAll (fun n => sOkY σ jp k (nI (sF σ k + n))) m))), (3, .int (nI k)), (0, .ref o), (1, .int (nI jp))]) Z.hx Z.hb dX2_isNeedless_102 hl (by decide) rfl (fun ls hl => ?_)
                          refine lv_iload Z.hx Z.hb dX2_isNeedless_104 (lv_at hl 0 rfl) ?_
                          refine lv_if_eq (tgt := 129) Z.hx Z.hb dX2_isNeedless_106 (by decide) (fun c106 => ?_) (fun c106 => ?_)
                          · skip
                            refine lv_iconst (v := 1) Z.hx Z.hb dX2_isNeedless_129 (by decide) ?_
                            refine lv_goto (tgt := 134) Z.hx Z.hb dX2_isNeedless_130 (by decide) ?_
                            refine lv_istore_n (lv' := [(2, .int 1), (5, .int 0), (4, .int (nI (sF σ k + m))), (3, .int (nI k)), (0, .ref o), (1, .int (nI jp))]) Z.hx Z.hb dX2_isNeedless_134 rfl hl (by decide) rfl (fun ls hl => ?_)
                            refine lv_iinc (v := (nI (sF σ k + m)) + 1) (lv' := [(4, .int ((nI (sF σ k + m)) + 1)), (2, .int 1), (5, .int 0), (3, .int (nI k)), (0, .ref o), (1, .int (nI jp))]) Z.hx Z.hb dX2_isNeedless_135 hl (k := 2) rfl rfl (by decide) rfl (fun ls hl => ?_)
                            refine lv_goto (tgt := 46) Z.hx Z.hb dX2_isNeedless_138 (by decide) ?_
                            have hz9 : (fun n => sOkY σ jp k (nI (sF σ k + n))) m = true := by
                              show (!(sHas σ jp k (nI (sF σ k + m)) (sT σ) (sT σ) && !sKept σ jp k (nI (sF σ k + m)) (sT σ)) || decide _) = true
                              have c79 := (mHas_s hS (by omega) (by omega) _ _ _).symm.trans c79
                              have c94 := (mKept_s hS hjp (by omega) (by omega) _ _).symm.trans c94
                              rw [c79, c94]; rfl
                            have hz8 : zAll (fun n => sOkY σ jp k (nI (sF σ k + n))) (m + 1) = true := by
                              show (zAll (fun n => sOkY σ jp k (nI (sF σ k + n))) m && (fun n => sOkY σ jp k (nI (sF σ k + n))) m) = true
                              rw [c60, hz9]; rfl
                            exact ihm (m + 1) (by omega) _ hL ls (lv_sub (z_loc (l' := [(4, .int (nI (sF σ k + (m + 1)))), (2, .int (zb (zAll (fun n => sOkY σ jp k (nI (sF σ k + n))) (m + 1)))), (5, .int 0), (3, .int (nI k)), (0, .ref o), (1, .int (nI jp))]) hl (by rw [hz8, show sF σ k + (m + 1) = (sF σ k + m) + 1 from rfl, nI_succ]; rfl)) [0, 1, 3, 4, 5] rfl)
                          · exact absurd (by decide) c106
                        · skip
                          have c94 : (mKept f N jp k (nI (sF σ k + m)) (sT σ)) = false := zb_0.mp c94
                          refine lv_iconst (v := 1) Z.hx Z.hb dX2_isNeedless_97 (by decide) ?_
                          refine lv_goto (tgt := 102) Z.hx Z.hb dX2_isNeedless_98 (by decide) ?_
                          refine lv_istore (lv' := [(5, .int 1), (4, .int (nI (sF σ k + m))), (2, .int (zb (zAll (fun n => sOkY σ jp k (nI (sF σ k + n))) m))), (3, .int (nI k)), (0, .ref o), (1, .int (nI jp))]) Z.hx Z.hb dX2_isNeedless_102 hl (by decide) rfl (fun ls hl => ?_)
                          refine lv_iload Z.hx Z.hb dX2_isNeedless_104 (lv_at hl 0 rfl) ?_
                          refine lv_if_eq (tgt := 129) Z.hx Z.hb dX2_isNeedless_106 (by decide) (fun c106 => ?_) (fun c106 => ?_)
                          · exact absurd c106 (by decide)
                          · skip
                            refine lv_aload_n Z.hx Z.hb dX2_isNeedless_109 rfl (lv_at hl 4 rfl) ?_
                            refine gf_X2_22 Z hM_2.ob (v := .ref (A 8)) rfl dX2_isNeedless_110 ?_
                            refine lv_iload_n Z.hx Z.hb dX2_isNeedless_113 rfl (lv_at hl 5 rfl) ?_
                            refine z_ialdN Z hM_2.a8 (k := jp) (by omega) (by decide) dX2_isNeedless_114 ?_
                            refine lv_aload_n Z.hx Z.hb dX2_isNeedless_115 rfl (lv_at hl 4 rfl) ?_
                            refine lv_iload_n Z.hx Z.hb dX2_isNeedless_116 rfl (lv_at hl 5 rfl) ?_
                            refine lv_iload_n Z.hx Z.hb dX2_isNeedless_117 rfl (lv_at hl 3 rfl) ?_
                            refine lv_iload Z.hx Z.hb dX2_isNeedless_118 (lv_at hl 1 rfl) ?_
                            -- LinkResolverModel.othersFor
                            refine z_pcallV (rest := [.int (f 8 jp)]) (As := [.int (nI jp), .int (nI k), .int (nI (sF σ k + m))]) Z (m_othersFor G l H_2 o A (va_up (sV σ N th) 0 0) f hM_2 N hN hN1 (sP σ) hnP rfl jp k (by omega) (nI (sF σ k + m))) gw_X2_123 gd_X2_123 rfl hM_2.ob rfl hl.1 (Nat.le_of_ble_eq_true rfl) rfl dX2_isNeedless_120 ⟨⟨Nat.le_of_ble_eq_true rfl, Nat.le_of_ble_eq_true rfl⟩, Nat.le_of_ble_eq_true rfl, Nat.le_of_ble_eq_true rfl⟩ hL (fun locs hL => ?_)
                            refine lv_iconst (v := (-1)) Z.hx Z.hb dX2_isNeedless_123 (by decide) ?_
                            refine lv_ixor Z.hx Z.hb dX2_isNeedless_124 ?_
                            refine lv_iand Z.hx Z.hb dX2_isNeedless_125 ?_
                            refine lv_if_ne (tgt := 133) Z.hx Z.hb dX2_isNeedless_126 (by decide) (fun c126 => ?_) (fun c126 => ?_)
                            · skip
                              refine lv_iconst (v := 0) Z.hx Z.hb dX2_isNeedless_133 (by decide) ?_
                              refine lv_istore_n (lv' := [(2, .int 0), (5, .int 1), (4, .int (nI (sF σ k + m))), (3, .int (nI k)), (0, .ref o), (1, .int (nI jp))]) Z.hx Z.hb dX2_isNeedless_134 rfl hl (by decide) rfl (fun ls hl => ?_)
                              refine lv_iinc (v := (nI (sF σ k + m)) + 1) (lv' := [(4, .int ((nI (sF σ k + m)) + 1)), (2, .int 0), (5, .int 1), (3, .int (nI k)), (0, .ref o), (1, .int (nI jp))]) Z.hx Z.hb dX2_isNeedless_135 hl (k := 2) rfl rfl (by decide) rfl (fun ls hl => ?_)
                              refine lv_goto (tgt := 46) Z.hx Z.hb dX2_isNeedless_138 (by decide) ?_
                              have hz9 : (fun n => sOkY σ jp k (nI (sF σ k + n))) m = false := by
                                show (!(sHas σ jp k (nI (sF σ k + m)) (sT σ) (sT σ) && !sKept σ jp k (nI (sF σ k + m)) (sT σ)) || decide _) = false
                                have c79 := (mHas_s hS (by omega) (by omega) _ _ _).symm.trans c79
                                have c94 := (mKept_s hS hjp (by omega) (by omega) _ _).symm.trans c94
                                rw [(hS.2.2.1 jp hjp).2.2.1, zOr_congr (w' := fun q => !decide (nI q = nI jp) && sCov σ q k (nI (sF σ k + m)) (sT σ)) (g' := sA σ 4) (fun q hq => ⟨by rw [mCov_s hS hq (by omega) (by omega)]; rfl, (hS.2.2.1 q hq).2.2.1⟩)] at c126
                                rw [c79, c94, decide_eq_false c126]; rfl
                              have hz8 : zAll (fun n => sOkY σ jp k (nI (sF σ k + n))) (m + 1) = false := by
                                show (zAll (fun n => sOkY σ jp k (nI (sF σ k + n))) m && (fun n => sOkY σ jp k (nI (sF σ k + n))) m) = false
                                rw [c60, hz9]; rfl
                              exact ihm (m + 1) (by omega) _ hL ls (lv_sub (z_loc (l' := [(4, .int (nI (sF σ k + (m + 1)))), (2, .int (zb (zAll (fun n => sOkY σ jp k (nI (sF σ k + n))) (m + 1)))), (5, .int 1), (3, .int (nI k)), (0, .ref o), (1, .int (nI jp))]) hl (by rw [hz8, show sF σ k + (m + 1) = (sF σ k + m) + 1 from rfl, nI_succ]; rfl)) [0, 1, 3, 4, 5] rfl)
                            · skip
                              refine lv_iconst (v := 1) Z.hx Z.hb dX2_isNeedless_129 (by decide) ?_
                              refine lv_goto (tgt := 134) Z.hx Z.hb dX2_isNeedless_130 (by decide) ?_
                              refine lv_istore_n (lv' := [(2, .int 1), (5, .int 1), (4, .int (nI (sF σ k + m))), (3, .int (nI k)), (0, .ref o), (1, .int (nI jp))]) Z.hx Z.hb dX2_isNeedless_134 rfl hl (by decide) rfl (fun ls hl => ?_)
                              refine lv_iinc (v := (nI (sF σ k + m)) + 1) (lv' := [(4, .int ((nI (sF σ k + m)) + 1)), (2, .int 1), (5, .int 1), (3, .int (nI k)), (0, .ref o), (1, .int (nI jp))]) Z.hx Z.hb dX2_isNeedless_135 hl (k := 2) rfl rfl (by decide) rfl (fun ls hl => ?_)
                              refine lv_goto (tgt := 46) Z.hx Z.hb dX2_isNeedless_138 (by decide) ?_
                              have hz9 : (fun n => sOkY σ jp k (nI (sF σ k + n))) m = true := by
                                show (!(sHas σ jp k (nI (sF σ k + m)) (sT σ) (sT σ) && !sKept σ jp k (nI (sF σ k + m)) (sT σ)) || decide _) = true
                                have c79 := (mHas_s hS (by omega) (by omega) _ _ _).symm.trans c79
                                have c94 := (mKept_s hS hjp (by omega) (by omega) _ _).symm.trans c94
                                rw [(hS.2.2.1 jp hjp).2.2.1, zOr_congr (w' := fun q => !decide (nI q = nI jp) && sCov σ q k (nI (sF σ k + m)) (sT σ)) (g' := sA σ 4) (fun q hq => ⟨by rw [mCov_s hS hq (by omega) (by omega)]; rfl, (hS.2.2.1 q hq).2.2.1⟩)] at c126
                                rw [c79, c94, decide_eq_true c126]; rfl
                              have hz8 : zAll (fun n => sOkY σ jp k (nI (sF σ k + n))) (m + 1) = true := by
                                show (zAll (fun n => sOkY σ jp k (nI (sF σ k + n))) m && (fun n => sOkY σ jp k (nI (sF σ k + n))) m) = true
                                rw [c60, hz9]; rfl
                              exact ihm (m + 1) (by omega) _ hL ls (lv_sub (z_loc (l' := [(4, .int (nI (sF σ k + (m + 1)))), (2, .int (zb (zAll (fun n => sOkY σ jp k (nI (sF σ k + n))) (m + 1)))), (5, .int 1), (3, .int (nI k)), (0, .ref o), (1, .int (nI jp))]) hl (by rw [hz8, show sF σ k + (m + 1) = (sF σ k + m) + 1 from rfl, nI_succ]; rfl)) [0, 1, 3, 4, 5] rfl)
              exact inner (sYrs σ k) 0 (by omega) _ hL ls (lv_sub (z_loc (l' := [(4, .int (nI (sF σ k + 0))), (3, .int (nI k)), (2, .int (zb (zAll (fun n => sOkY σ jp k (nI (sF σ k + n))) 0))), (0, .ref o), (1, .int (nI jp))]) hl (by rw [h4k, c35]; rfl)) [0, 2, 1, 3, 4] rfl)
      exact outer (sN σ) 0 (by omega) _ hL ls (lv_sub (z_loc (l' := [(3, .int (nI 0)), (2, .int (zb (zAll (fun t => zAll (fun n => sOkY σ jp t (nI (sF σ t + n))) (sYrs σ t)) 0))), (0, .ref o), (1, .int (nI jp))]) hl (by rfl)) [0, 1, 2, 3] rfl)
    · exact absurd c17 (by decide)
/-- the model half made: its fields fs, the arrays L (field, address) -/
def mIn (G : zG) (H0 H : Heap) (o : Nat) (fs : List Value) (L : List (Nat × Nat)) : Prop := zO G H o 5 fs ∧ H0.size ≤ H.size ∧ (∀ q : Nat, q < H0.size → q ≠ o → H[q]? = H0[q]?) ∧ o < H0.size ∧ (∀ z ∈ L, H0.size ≤ z.2 ∧ z.2 < H.size ∧ va_at G.1 zCl (z.2, .inl (G.2.1 (mK z.1), mN z.1, .inl (fun _ => 0))) H) ∧ (L.map Prod.snd).Nodup
theorem mIn.new {G : zG} {H0 H H1 : Heap} {o : Nat} {fs : List Value} {L : List (Nat × Nat)} (h : mIn G H0 H o fs L) (k : Nat) (ha : va_at G.1 zCl (H.size, .inl (G.2.1 (mK k), mN k, .inl (fun _ => 0))) H1) (hz : H1.size = H.size + 1) (hq : ∀ q : Nat, q < H.size → H1[q]? = H[q]?) : mIn G H0 H1 o fs ((k, H.size) :: L) := by
  obtain ⟨h1, h2, h3, h4, h5, h6⟩ := h
  refine ⟨h1.kept (hq _ h1.lt), by omega, fun q g1 g2 => (hq q (by omega)).trans (h3 q g1 g2), h4, fun z hz9 => ?_, ?_⟩
  · rcases List.mem_cons.mp hz9 with e | e
    · rw [e]
      exact ⟨h2, by show H.size < H1.size; omega, ha⟩
    · obtain ⟨g1, g2, g3⟩ := h5 z e
      exact ⟨g1, by omega, va_at.kept g3 (hq _ g2)⟩
  · rw [List.map_cons, List.nodup_cons]
    refine ⟨fun hm => ?_, h6⟩
    obtain ⟨z, e1, e2⟩ := List.mem_map.mp hm
    have := (h5 z e1).2.1
    have e2 : z.2 = H.size := e2
    omega
theorem mIn.put {G : zG} {H0 H H1 : Heap} {o : Nat} {fs fs' : List Value} {L : List (Nat × Nat)} (h : mIn G H0 H o fs L) (hO : zO G H1 o 5 fs') (hz : H1.size = H.size) (hq : ∀ q : Nat, q ≠ o → H1[q]? = H[q]?) : mIn G H0 H1 o fs' L := by
  obtain ⟨h1, h2, h3, h4, h5, h6⟩ := h
  refine ⟨hO, by omega, fun q g1 g2 => (hq q g2).trans (h3 q g1 g2), h4, fun z e => ?_, h6⟩
  obtain ⟨g1, g2, g3⟩ := h5 z e
  have e9 : z.2 ≠ o := by omega
  exact ⟨g1, by omega, va_at.kept g3 (hq _ e9)⟩
def mLk (L : List (Nat × Nat)) (k : Nat) : Nat := match L with
  | [] => 0
  | z :: r => if z.1 = k then z.2 else mLk r k
theorem mLk_mem {L : List (Nat × Nat)} {k : Nat} (h : k ∈ L.map Prod.fst) : (k, mLk L k) ∈ L := by
  induction L with
  | nil => cases h
  | cons z r ih =>
    show (k, if z.1 = k then z.2 else mLk r k) ∈ z :: r
    by_cases e : z.1 = k
    · rw [if_pos e]
      subst e
      exact List.mem_cons_self
    · rw [if_neg e]
      rw [List.map_cons] at h
      rcases List.mem_cons.mp h with g | g
      · exact absurd g.symm e
      · exact List.mem_cons_of_mem _ (ih g)
theorem mLk_inj {L : List (Nat × Nat)} (hn : (L.map Prod.snd).Nodup) : ∀ {a b : Nat × Nat}, a ∈ L → b ∈ L → a.2 = b.2 → a = b := by
  induction L with
  | nil => intro a b h; cases h
  | cons z r ih =>
    rw [List.map_cons, List.nodup_cons] at hn
    intro a b ha hb e
    rcases List.mem_cons.mp ha with g1 | g1 <;> rcases List.mem_cons.mp hb with g2 | g2
    · rw [g1, g2]
    · subst g1
      exact absurd (List.mem_map.mpr ⟨b, g2, e.symm⟩) hn.1
    · subst g2
      exact absurd (List.mem_map.mpr ⟨a, g1, e⟩) hn.1
    · exact ih hn.2 g1 g2 e
abbrev mKs : List Nat := [17, 16, 15, 14, 13, 12, 10, 9, 8, 7, 6, 5, 4]
theorem mKs_all : ∀ k, mIx k = true → k ∈ mKs := by
  intro k h
  simp only [mIx, Bool.and_eq_true, decide_eq_true_eq, Bool.not_eq_true', decide_eq_false_iff_not] at h
  simp only [mKs, List.mem_cons, List.not_mem_nil, or_false]
  omega
/-- a model just made -/
def mNew (G : zG) (H : Heap) (o : Nat) (H1 : Heap) : Prop := ∃ A : Nat → Nat, mRep G H1 o A (fun _ => 0) (fun _ _ => 0) ∧ mAd G o A ∧ H.size ≤ H1.size ∧ (∀ q : Nat, q < H.size → q ≠ o → H1[q]? = H[q]?) ∧ ∀ k, mIx k = true → H.size ≤ A k
theorem mIn.done {G : zG} {H0 H : Heap} {o : Nat} {L : List (Nat × Nat)} (h : mIn G H0 H o (mfs (mLk L) (fun _ => 0)) L) (hL : L.map Prod.fst = mKs) (ho : (zHB G).size ≤ o) (hb : (zHB G).size ≤ H0.size) : mNew G H0 o H := by
  obtain ⟨h1, h2, h3, h4, h5, h6⟩ := h
  have hm : ∀ k, mIx k = true → (k, mLk L k) ∈ L := fun k hk => mLk_mem (by rw [hL]; exact mKs_all k hk)
  refine ⟨mLk L, ⟨h1, fun k hk => (h5 _ (hm k hk)).2.2⟩, ⟨ho, fun k hk => ?_, fun i j hi hj e => ?_⟩, h2, h3, fun k hk => (h5 _ (hm k hk)).1⟩
  · have g := (h5 _ (hm k hk)).1
    have g : H0.size ≤ mLk L k := g
    exact ⟨by omega, by omega⟩
  · exact congrArg Prod.fst (mLk_inj h6 (hm i hi) (hm j hj) e)
set_option maxHeartbeats 4000000 in
set_option maxRecDepth 100000 in
theorem m_init (G : zG) (l : Launch) (H : Heap) (o : Nat) (hO : zO G H o 5 [.int 0, .int 0, .int 0, .int 0, .null, .null, .null, .null, .null, .null, .null, .int 0, .null, .null, .null, .null, .null, .null]) (ho : (zHB G).size ≤ o) (hb : (zHB G).size ≤ H.size) : zM G l yX2_init cX2_init 1 none 1 13 24876 [.ref o] H (fun r H1 => r = none ∧ mNew G H o H1) := by
  refine zM.of (by decide +kernel) (Nat.le_of_ble_eq_true rfl) ?_
  intro p0 e0 s0 m0 args0 below0 meth0 c0 Z hr hH hn ls hl
  have Z : zC G p0 s0 m0 args0 meth0 c0 RX2 cX2_init 1 := Z
  have hl : lv_has ls 1 [(0, .ref o)] := hl
  have hL : zL G [] := zL.nil
  have hin2 : meth0.name = "<init>" := hn rfl
  have hN_ : mIn G H H o [.int 0, .int 0, .int 0, .int 0, .null, .null, .null, .null, .null, .null, .null, .int 0, .null, .null, .null, .null, .null, .null] [] := ⟨hO, Nat.le_refl _, fun _ _ _ => rfl, hO.lt, fun _ h9 => absurd h9 List.not_mem_nil, List.nodup_nil⟩
  refine lv_aload_n Z.hx Z.hb dX2_init_0 rfl (lv_at hl 0 rfl) ?_
  refine z_obj Z q663 q59 q60 hl.1 dX2_init_1 (Nat.le_of_ble_eq_true rfl) (Nat.le_of_ble_eq_true rfl) ?_
  refine lv_aload_n Z.hx Z.hb dX2_init_4 rfl (lv_at hl 0 rfl) ?_
  refine lv_bipush (v := 20) Z.hx Z.hb dX2_init_5 (by decide) ?_
  refine z_newI Z q426 (n := 20) (N := 20) (by decide) (by decide) (Nat.le_of_ble_eq_true rfl) (Nat.le_of_ble_eq_true rfl) (Nat.le_of_ble_eq_true rfl) dX2_init_7 (fun H_1 ha_ hz_ hq_ => ?_)
  have hN_ := hN_.new 4 ha_ hz_ hq_
  refine pf_X2_7 Z hin2 hN_.1 (Nat.le_of_ble_eq_true rfl) hL ho dX2_init_9 (fun H_2 locs hL hO_ hz_ hq_ => ?_)
  have hN_ := hN_.put (fs' := [.int 0, .int 0, .int 0, .int 0, .ref H.size, .null, .null, .null, .null, .null, .null, .int 0, .null, .null, .null, .null, .null, .null]) hO_ hz_ hq_
  refine lv_aload_n Z.hx Z.hb dX2_init_12 rfl (lv_at hl 0 rfl) ?_
  refine lv_bipush (v := 20) Z.hx Z.hb dX2_init_13 (by decide) ?_
  refine z_newI Z q426 (n := 20) (N := 20) (by decide) (by decide) (Nat.le_of_ble_eq_true rfl) (Nat.le_of_ble_eq_true rfl) (Nat.le_of_ble_eq_true rfl) dX2_init_15 (fun H_3 ha_ hz_ hq_ => ?_)
  have hN_ := hN_.new 5 ha_ hz_ hq_
  refine pf_X2_13 Z hin2 hN_.1 (Nat.le_of_ble_eq_true rfl) hL ho dX2_init_17 (fun H_4 locs hL hO_ hz_ hq_ => ?_)
  have hN_ := hN_.put (fs' := [.int 0, .int 0, .int 0, .int 0, .ref H.size, .ref H_2.size, .null, .null, .null, .null, .null, .int 0, .null, .null, .null, .null, .null, .null]) hO_ hz_ hq_
  refine lv_aload_n Z.hx Z.hb dX2_init_20 rfl (lv_at hl 0 rfl) ?_
  refine lv_bipush (v := 10) Z.hx Z.hb dX2_init_21 (by decide) ?_
  refine z_newI Z q426 (n := 10) (N := 10) (by decide) (by decide) (Nat.le_of_ble_eq_true rfl) (Nat.le_of_ble_eq_true rfl) (Nat.le_of_ble_eq_true rfl) dX2_init_23 (fun H_5 ha_ hz_ hq_ => ?_)
  have hN_ := hN_.new 6 ha_ hz_ hq_
  refine pf_X2_16 Z hin2 hN_.1 (Nat.le_of_ble_eq_true rfl) hL ho dX2_init_25 (fun H_6 locs hL hO_ hz_ hq_ => ?_)
  have hN_ := hN_.put (fs' := [.int 0, .int 0, .int 0, .int 0, .ref H.size, .ref H_2.size, .ref H_4.size, .null, .null, .null, .null, .int 0, .null, .null, .null, .null, .null, .null]) hO_ hz_ hq_
  refine lv_aload_n Z.hx Z.hb dX2_init_28 rfl (lv_at hl 0 rfl) ?_
  refine lv_bipush (v := 10) Z.hx Z.hb dX2_init_29 (by decide) ?_
  refine z_newI Z q426 (n := 10) (N := 10) (by decide) (by decide) (Nat.le_of_ble_eq_true rfl) (Nat.le_of_ble_eq_true rfl) (Nat.le_of_ble_eq_true rfl) dX2_init_31 (fun H_7 ha_ hz_ hq_ => ?_)
  have hN_ := hN_.new 7 ha_ hz_ hq_
  refine pf_X2_19 Z hin2 hN_.1 (Nat.le_of_ble_eq_true rfl) hL ho dX2_init_33 (fun H_8 locs hL hO_ hz_ hq_ => ?_)
  have hN_ := hN_.put (fs' := [.int 0, .int 0, .int 0, .int 0, .ref H.size, .ref H_2.size, .ref H_4.size, .ref H_6.size, .null, .null, .null, .int 0, .null, .null, .null, .null, .null, .null]) hO_ hz_ hq_
  refine lv_aload_n Z.hx Z.hb dX2_init_36 rfl (lv_at hl 0 rfl) ?_
  refine lv_bipush (v := 10) Z.hx Z.hb dX2_init_37 (by decide) ?_
  refine z_newI Z q426 (n := 10) (N := 10) (by decide) (by decide) (Nat.le_of_ble_eq_true rfl) (Nat.le_of_ble_eq_true rfl) (Nat.le_of_ble_eq_true rfl) dX2_init_39 (fun H_9 ha_ hz_ hq_ => ?_)
  have hN_ := hN_.new 8 ha_ hz_ hq_
  refine pf_X2_22 Z hin2 hN_.1 (Nat.le_of_ble_eq_true rfl) hL ho dX2_init_41 (fun H_10 locs hL hO_ hz_ hq_ => ?_)
  have hN_ := hN_.put (fs' := [.int 0, .int 0, .int 0, .int 0, .ref H.size, .ref H_2.size, .ref H_4.size, .ref H_6.size, .ref H_8.size, .null, .null, .int 0, .null, .null, .null, .null, .null, .null]) hO_ hz_ hq_
  refine lv_aload_n Z.hx Z.hb dX2_init_44 rfl (lv_at hl 0 rfl) ?_
  refine lv_bipush (v := 10) Z.hx Z.hb dX2_init_45 (by decide) ?_
  refine z_newZ Z q719 (n := 10) (N := 10) (by decide) (by decide) (Nat.le_of_ble_eq_true rfl) (Nat.le_of_ble_eq_true rfl) (Nat.le_of_ble_eq_true rfl) dX2_init_47 (fun H_11 ha_ hz_ hq_ => ?_)
  have hN_ := hN_.new 9 ha_ hz_ hq_
  refine pf_X2_25 Z hin2 hN_.1 (Nat.le_of_ble_eq_true rfl) hL ho dX2_init_49 (fun H_12 locs hL hO_ hz_ hq_ => ?_)
  have hN_ := hN_.put (fs' := [.int 0, .int 0, .int 0, .int 0, .ref H.size, .ref H_2.size, .ref H_4.size, .ref H_6.size, .ref H_8.size, .ref H_10.size, .null, .int 0, .null, .null, .null, .null, .null, .null]) hO_ hz_ hq_
  refine lv_aload_n Z.hx Z.hb dX2_init_52 rfl (lv_at hl 0 rfl) ?_
  refine lv_sipush (v := 200) Z.hx Z.hb dX2_init_53 (by decide) ?_
  refine z_newI Z q426 (n := 200) (N := 200) (by decide) (by decide) (Nat.le_of_ble_eq_true rfl) (Nat.le_of_ble_eq_true rfl) (Nat.le_of_ble_eq_true rfl) dX2_init_56 (fun H_13 ha_ hz_ hq_ => ?_)
  have hN_ := hN_.new 10 ha_ hz_ hq_
  refine pf_X2_29 Z hin2 hN_.1 (Nat.le_of_ble_eq_true rfl) hL ho dX2_init_58 (fun H_14 locs hL hO_ hz_ hq_ => ?_)
  have hN_ := hN_.put (fs' := [.int 0, .int 0, .int 0, .int 0, .ref H.size, .ref H_2.size, .ref H_4.size, .ref H_6.size, .ref H_8.size, .ref H_10.size, .ref H_12.size, .int 0, .null, .null, .null, .null, .null, .null]) hO_ hz_ hq_
  refine lv_aload_n Z.hx Z.hb dX2_init_61 rfl (lv_at hl 0 rfl) ?_
  refine lv_sipush (v := 4096) Z.hx Z.hb dX2_init_62 (by decide) ?_
  refine z_newI Z q426 (n := 4096) (N := 4096) (by decide) (by decide) (Nat.le_of_ble_eq_true rfl) (Nat.le_of_ble_eq_true rfl) (Nat.le_of_ble_eq_true rfl) dX2_init_65 (fun H_15 ha_ hz_ hq_ => ?_)
  have hN_ := hN_.new 12 ha_ hz_ hq_
  refine pf_X2_32 Z hin2 hN_.1 (Nat.le_of_ble_eq_true rfl) hL ho dX2_init_67 (fun H_16 locs hL hO_ hz_ hq_ => ?_)
  have hN_ := hN_.put (fs' := [.int 0, .int 0, .int 0, .int 0, .ref H.size, .ref H_2.size, .ref H_4.size, .ref H_6.size, .ref H_8.size, .ref H_10.size, .ref H_12.size, .int 0, .ref H_14.size, .null, .null, .null, .null, .null]) hO_ hz_ hq_
  refine lv_aload_n Z.hx Z.hb dX2_init_70 rfl (lv_at hl 0 rfl) ?_
  refine lv_sipush (v := 4096) Z.hx Z.hb dX2_init_71 (by decide) ?_
  refine z_newI Z q426 (n := 4096) (N := 4096) (by decide) (by decide) (Nat.le_of_ble_eq_true rfl) (Nat.le_of_ble_eq_true rfl) (Nat.le_of_ble_eq_true rfl) dX2_init_74 (fun H_17 ha_ hz_ hq_ => ?_)
  have hN_ := hN_.new 13 ha_ hz_ hq_
  refine pf_X2_35 Z hin2 hN_.1 (Nat.le_of_ble_eq_true rfl) hL ho dX2_init_76 (fun H_18 locs hL hO_ hz_ hq_ => ?_)
  have hN_ := hN_.put (fs' := [.int 0, .int 0, .int 0, .int 0, .ref H.size, .ref H_2.size, .ref H_4.size, .ref H_6.size, .ref H_8.size, .ref H_10.size, .ref H_12.size, .int 0, .ref H_14.size, .ref H_16.size, .null, .null, .null, .null]) hO_ hz_ hq_
  refine lv_aload_n Z.hx Z.hb dX2_init_79 rfl (lv_at hl 0 rfl) ?_
  refine lv_sipush (v := 4096) Z.hx Z.hb dX2_init_80 (by decide) ?_
  refine z_newZ Z q719 (n := 4096) (N := 4096) (by decide) (by decide) (Nat.le_of_ble_eq_true rfl) (Nat.le_of_ble_eq_true rfl) (Nat.le_of_ble_eq_true rfl) dX2_init_83 (fun H_19 ha_ hz_ hq_ => ?_)
  have hN_ := hN_.new 14 ha_ hz_ hq_
  refine pf_X2_38 Z hin2 hN_.1 (Nat.le_of_ble_eq_true rfl) hL ho dX2_init_85 (fun H_20 locs hL hO_ hz_ hq_ => ?_)
  have hN_ := hN_.put (fs' := [.int 0, .int 0, .int 0, .int 0, .ref H.size, .ref H_2.size, .ref H_4.size, .ref H_6.size, .ref H_8.size, .ref H_10.size, .ref H_12.size, .int 0, .ref H_14.size, .ref H_16.size, .ref H_18.size, .null, .null, .null]) hO_ hz_ hq_
  refine lv_aload_n Z.hx Z.hb dX2_init_88 rfl (lv_at hl 0 rfl) ?_
  refine lv_sipush (v := 4096) Z.hx Z.hb dX2_init_89 (by decide) ?_
  refine z_newI Z q426 (n := 4096) (N := 4096) (by decide) (by decide) (Nat.le_of_ble_eq_true rfl) (Nat.le_of_ble_eq_true rfl) (Nat.le_of_ble_eq_true rfl) dX2_init_92 (fun H_21 ha_ hz_ hq_ => ?_)
  have hN_ := hN_.new 15 ha_ hz_ hq_
  refine pf_X2_41 Z hin2 hN_.1 (Nat.le_of_ble_eq_true rfl) hL ho dX2_init_94 (fun H_22 locs hL hO_ hz_ hq_ => ?_)
  have hN_ := hN_.put (fs' := [.int 0, .int 0, .int 0, .int 0, .ref H.size, .ref H_2.size, .ref H_4.size, .ref H_6.size, .ref H_8.size, .ref H_10.size, .ref H_12.size, .int 0, .ref H_14.size, .ref H_16.size, .ref H_18.size, .ref H_20.size, .null, .null]) hO_ hz_ hq_
  refine lv_aload_n Z.hx Z.hb dX2_init_97 rfl (lv_at hl 0 rfl) ?_
  refine lv_sipush (v := 4096) Z.hx Z.hb dX2_init_98 (by decide) ?_
  refine z_newI Z q426 (n := 4096) (N := 4096) (by decide) (by decide) (Nat.le_of_ble_eq_true rfl) (Nat.le_of_ble_eq_true rfl) (Nat.le_of_ble_eq_true rfl) dX2_init_101 (fun H_23 ha_ hz_ hq_ => ?_)
  have hN_ := hN_.new 16 ha_ hz_ hq_
  refine pf_X2_44 Z hin2 hN_.1 (Nat.le_of_ble_eq_true rfl) hL ho dX2_init_103 (fun H_24 locs hL hO_ hz_ hq_ => ?_)
  have hN_ := hN_.put (fs' := [.int 0, .int 0, .int 0, .int 0, .ref H.size, .ref H_2.size, .ref H_4.size, .ref H_6.size, .ref H_8.size, .ref H_10.size, .ref H_12.size, .int 0, .ref H_14.size, .ref H_16.size, .ref H_18.size, .ref H_20.size, .ref H_22.size, .null]) hO_ hz_ hq_
  refine lv_aload_n Z.hx Z.hb dX2_init_106 rfl (lv_at hl 0 rfl) ?_
  refine lv_sipush (v := 4096) Z.hx Z.hb dX2_init_107 (by decide) ?_
  refine z_newI Z q426 (n := 4096) (N := 4096) (by decide) (by decide) (Nat.le_of_ble_eq_true rfl) (Nat.le_of_ble_eq_true rfl) (Nat.le_of_ble_eq_true rfl) dX2_init_110 (fun H_25 ha_ hz_ hq_ => ?_)
  have hN_ := hN_.new 17 ha_ hz_ hq_
  refine pf_X2_47 Z hin2 hN_.1 (Nat.le_of_ble_eq_true rfl) hL ho dX2_init_112 (fun H_26 locs hL hO_ hz_ hq_ => ?_)
  have hN_ := hN_.put (fs' := [.int 0, .int 0, .int 0, .int 0, .ref H.size, .ref H_2.size, .ref H_4.size, .ref H_6.size, .ref H_8.size, .ref H_10.size, .ref H_12.size, .int 0, .ref H_14.size, .ref H_16.size, .ref H_18.size, .ref H_20.size, .ref H_22.size, .ref H_24.size]) hO_ hz_ hq_
  exact z_vret Z hr hL (⟨rfl, mIn.done (L := [(17, H_24.size), (16, H_22.size), (15, H_20.size), (14, H_18.size), (13, H_16.size), (12, H_14.size), (10, H_12.size), (9, H_10.size), (8, H_8.size), (7, H_6.size), (6, H_4.size), (5, H_2.size), (4, H.size)]) hN_ rfl ho hb⟩) (Nat.le_of_ble_eq_true rfl) (Nat.le_of_ble_eq_true rfl) dX2_init_115
