/-! the model: holds, notes -/
set_option maxHeartbeats 4000000 in
set_option maxRecDepth 100000 in
theorem m_holds0 (G : zG) (l : Launch) (H : Heap) (o : Nat) (A : Nat → Nat) (v : Nat → Int32) (f : Nat → Nat → Int32) (hM : mRep G H o A v f) (ha : mAd G o A) : zMg G l yX2_holds cX2_holds 2 (Option.some Jvm.ClassFile.FieldType.boolean) 0 0 0 [.ref o, .int 0] H (.int 1) (fun H1 => mRep G H1 o A (va_up v 0 0) f ∧ mFr o A H H1) := by
  refine zM.of (by decide +kernel) (Nat.le_of_ble_eq_true rfl) ?_
  intro p0 e0 s0 m0 args0 below0 meth0 c0 Z hr hH hn ls hl
  have Z : zC G p0 s0 m0 args0 meth0 c0 RX2 cX2_holds 2 := Z
  have hl : lv_has ls 2 [(0, .ref o), (1, .int 0)] := hl
  have hL : zL G [] := zL.nil
  refine lv_aload_n Z.hx Z.hb dX2_holds_0 rfl (lv_at hl 0 rfl) ?_
  refine lv_iload_n Z.hx Z.hb dX2_holds_1 rfl (lv_at hl 1 rfl) ?_
  refine pf_X2_50 Z hM.ob (Nat.le_of_ble_eq_true rfl) hL ha.1 dX2_holds_2 (fun H_1 locs hL hO_ hz_ hq_ => ?_)
  have hM_1 : mRep G H_1 o A (va_up v 0 0) f := hM.setV ha (v' := va_up v 0 0) hO_ hq_
  have hF_1 : mFr o A H H_1 := mFr.o hz_ hq_
  refine lv_iload_n Z.hx Z.hb dX2_holds_5 rfl (lv_at hl 1 rfl) ?_
  refine lv_if_ne (tgt := 13) Z.hx Z.hb dX2_holds_6 (by decide) (fun c6 => ?_) (fun c6 => ?_)
  · exact absurd (by decide) c6
  · skip
    refine lv_iconst (v := 1) Z.hx Z.hb dX2_holds_9 (by decide) ?_
    refine lv_goto (tgt := 14) Z.hx Z.hb dX2_holds_10 (by decide) ?_
    exact z_zret Z hr hL (by decide) (⟨rfl, hM_1, hF_1⟩) (Nat.le_of_ble_eq_true rfl) (Nat.le_of_ble_eq_true rfl) dX2_holds_14
set_option maxHeartbeats 4000000 in
set_option maxRecDepth 100000 in
theorem m_holdsN (G : zG) (l : Launch) (H : Heap) (o : Nat) (A : Nat → Nat) (v : Nat → Int32) (f : Nat → Nat → Int32) (hM : mRep G H o A v f) (ha : mAd G o A) (c : Int32) (hc : ¬ c = 0) : zMg G l yX2_holds cX2_holds 2 (Option.some Jvm.ClassFile.FieldType.boolean) 0 0 0 [.ref o, .int c] H (.int 0) (fun H1 => mRep G H1 o A (va_up v 0 c) f ∧ mFr o A H H1) := by
  refine zM.of (by decide +kernel) (Nat.le_of_ble_eq_true rfl) ?_
  intro p0 e0 s0 m0 args0 below0 meth0 c0 Z hr hH hn ls hl
  have Z : zC G p0 s0 m0 args0 meth0 c0 RX2 cX2_holds 2 := Z
  have hl : lv_has ls 2 [(0, .ref o), (1, .int c)] := hl
  have hL : zL G [] := zL.nil
  refine lv_aload_n Z.hx Z.hb dX2_holds_0 rfl (lv_at hl 0 rfl) ?_
  refine lv_iload_n Z.hx Z.hb dX2_holds_1 rfl (lv_at hl 1 rfl) ?_
  refine pf_X2_50 Z hM.ob (Nat.le_of_ble_eq_true rfl) hL ha.1 dX2_holds_2 (fun H_1 locs hL hO_ hz_ hq_ => ?_)
  have hM_1 : mRep G H_1 o A (va_up v 0 c) f := hM.setV ha (v' := va_up v 0 c) hO_ hq_
  have hF_1 : mFr o A H H_1 := mFr.o hz_ hq_
  refine lv_iload_n Z.hx Z.hb dX2_holds_5 rfl (lv_at hl 1 rfl) ?_
  refine lv_if_ne (tgt := 13) Z.hx Z.hb dX2_holds_6 (by decide) (fun c6 => ?_) (fun c6 => ?_)
  · skip
    refine lv_iconst (v := 0) Z.hx Z.hb dX2_holds_13 (by decide) ?_
    exact z_zret Z hr hL (by decide) (⟨rfl, hM_1, hF_1⟩) (Nat.le_of_ble_eq_true rfl) (Nat.le_of_ble_eq_true rfl) dX2_holds_14
  · exact absurd c6 hc
/-- where a change of today goes: over today's own, or behind the last -/
def mNk (f : Nat → Nat → Int32) (what d : Int32) (N : Nat) : Nat := match mCh f what d N with
  | none => N
  | some k => if f 13 k = d then k else N
def mNn (f : Nat → Nat → Int32) (what d : Int32) (N : Nat) : Nat := if mNk f what d N = N then N + 1 else N
theorem mNk_le (f : Nat → Nat → Int32) (what d : Int32) (N : Nat) : mNk f what d N ≤ N := by
  unfold mNk
  split
  next => exact Nat.le_refl _
  next k hk =>
    split
    · exact Nat.le_of_lt (mCh_lt hk).1
    · exact Nat.le_refl _
abbrev mNf (f : Nat → Nat → Int32) (k : Nat) (what d on fi la wa : Int32) : Nat → Nat → Int32 :=
  va_up (va_up (va_up (va_up (va_up (va_up f 12 (upd (f 12) k what)) 13 (upd (f 13) k d)) 14 (upd (f 14) k on)) 15 (upd (f 15) k fi)) 16 (upd (f 16) k la)) 17 (upd (f 17) k wa)
set_option maxHeartbeats 4000000 in
set_option maxRecDepth 100000 in
theorem m_notes (G : zG) (l : Launch) (H : Heap) (o : Nat) (A : Nat → Nat) (v : Nat → Int32) (f : Nat → Nat → Int32) (hM : mRep G H o A v f) (ha : mAd G o A) (N : Nat) (hNl : N < 4096) (hN : N ≤ 4096) (hN1 : v 11 = nI N) (what on fi la wa : Int32) (hon : on = 0 ∨ on = 1) : zMg G l yX2_notes cX2_notes 9 (Option.some Jvm.ClassFile.FieldType.boolean) 1 0 0 [.ref o, .int what, .int on, .int fi, .int la, .int wa] H (.int (zb (mOn f (mCh f what (v 1) N)))) (fun H1 => mRep G H1 o A (va_up v 11 (nI (mNn f what (v 1) N))) (mNf f (mNk f what (v 1) N) what (v 1) on fi la wa) ∧ mFr o A H H1) := by
  refine zM.of (by decide +kernel) (Nat.le_of_ble_eq_true rfl) ?_
  intro p0 e0 s0 m0 args0 below0 meth0 c0 Z hr hH hn ls hl
  have Z : zC G p0 s0 m0 args0 meth0 c0 RX2 cX2_notes 9 := Z
  have hl : lv_has ls 9 [(0, .ref o), (1, .int what), (2, .int on), (3, .int fi), (4, .int la), (5, .int wa)] := hl
  have hL : zL G [] := zL.nil
  have tail : ∀ (k : Nat) (w : Int32), mNk f what (v 1) N = k → k < 4096 → w = zb (mOn f (mCh f what (v 1) N)) → ∀ (locs : List Loc), zL G locs → ∀ ls : Array Slot, lv_has ls 9 [(8, .int (nI k)), (7, .int w), (0, .ref o), (1, .int what), (2, .int on), (3, .int fi), (4, .int la), (5, .int wa)] → W p0 l e0 (zr 1 0 0) s0 m0 args0 below0 meth0 c0 H locs 0 0 (MQ below0 (zQ (fun r H1 => r = some (.int (zb (mOn f (mCh f what (v 1) N)))) ∧ (mRep G H1 o A (va_up v 11 (nI (mNn f what (v 1) N))) (mNf f (mNk f what (v 1) N) what (v 1) on fi la wa) ∧ mFr o A H H1))) args0 s0 0 0 (zA G)) (F0 m0 65 ls []) := by
    intro k w hk hlt hw locs hL ls hl
    refine lv_aload_n Z.hx Z.hb dX2_notes_65 rfl (lv_at hl 2 rfl) ?_
    refine lv_dup Z.hx Z.hb dX2_notes_66 rfl ?_
    refine gf_X2_71 Z hM.ob (v := .int (v 11)) rfl dX2_notes_67 ?_
    refine lv_iload Z.hx Z.hb dX2_notes_70 (lv_at hl 0 rfl) ?_
    refine lv_aload_n Z.hx Z.hb dX2_notes_72 rfl (lv_at hl 2 rfl) ?_
    refine gf_X2_71 Z hM.ob (v := .int (v 11)) rfl dX2_notes_73 ?_
    refine lv_icmp_ne (tgt := 83) Z.hx Z.hb dX2_notes_76 (by decide) (fun c76 => ?_) (fun c76 => ?_)
    · skip
      refine lv_iconst (v := 0) Z.hx Z.hb dX2_notes_83 (by decide) ?_
      refine lv_iadd Z.hx Z.hb dX2_notes_84 ?_
      refine z_top (x' := nI (mNn f what (v 1) N)) (by rw [hN1, show mNn f what (v 1) N = N from if_neg (by rw [hk]; exact fun z => c76 (by rw [z, hN1]))]; exact Int32.add_zero _) ?_
      refine pf_X2_71 Z hM.ob (Nat.le_of_ble_eq_true rfl) hL ha.1 dX2_notes_85 (fun H_1 locs hL hO_ hz_ hq_ => ?_)
      have hM_1 : mRep G H_1 o A (va_up v 11 (nI (mNn f what (v 1) N))) f := hM.setV ha (v' := va_up v 11 (nI (mNn f what (v 1) N))) hO_ hq_
      have hF_1 : mFr o A H H_1 := mFr.o hz_ hq_
      refine lv_aload_n Z.hx Z.hb dX2_notes_88 rfl (lv_at hl 2 rfl) ?_
      refine gf_X2_32 Z hM_1.ob (v := .ref (A 12)) rfl dX2_notes_89 ?_
      refine lv_iload Z.hx Z.hb dX2_notes_92 (lv_at hl 0 rfl) ?_
      refine lv_iload_n Z.hx Z.hb dX2_notes_94 rfl (lv_at hl 3 rfl) ?_
      refine z_iastN Z hM_1.a12 (k := k) hlt (by decide) hL (ha.2.1 12 rfl).1 dX2_notes_95 (fun H_2 locs hL hA_ hz_ hq_ => ?_)
      have hM_2 : mRep G H_2 o A (va_up v 11 (nI (mNn f what (v 1) N))) (va_up f 12 (upd (f 12) k what)) := hM_1.setA ha 12 rfl hA_ hq_
      have hF_2 : mFr o A H H_2 := hF_1.trans (mFr.a 12 rfl hz_ hq_)
      refine lv_aload_n Z.hx Z.hb dX2_notes_96 rfl (lv_at hl 2 rfl) ?_
      refine gf_X2_35 Z hM_2.ob (v := .ref (A 13)) rfl dX2_notes_97 ?_
      refine lv_iload Z.hx Z.hb dX2_notes_100 (lv_at hl 0 rfl) ?_
      refine lv_aload_n Z.hx Z.hb dX2_notes_102 rfl (lv_at hl 2 rfl) ?_
      refine gf_X2_78 Z hM_2.ob (v := .int (v 1)) rfl dX2_notes_103 ?_
      refine z_iastN Z hM_2.a13 (k := k) hlt (by decide) hL (ha.2.1 13 rfl).1 dX2_notes_106 (fun H_3 locs hL hA_ hz_ hq_ => ?_)
      have hM_3 : mRep G H_3 o A (va_up v 11 (nI (mNn f what (v 1) N))) (va_up (va_up f 12 (upd (f 12) k what)) 13 (upd (f 13) k (v 1))) := hM_2.setA ha 13 rfl hA_ hq_
      have hF_3 : mFr o A H H_3 := hF_2.trans (mFr.a 13 rfl hz_ hq_)
      refine lv_aload_n Z.hx Z.hb dX2_notes_107 rfl (lv_at hl 2 rfl) ?_
      refine gf_X2_38 Z hM_3.ob (v := .ref (A 14)) rfl dX2_notes_108 ?_
      refine lv_iload Z.hx Z.hb dX2_notes_111 (lv_at hl 0 rfl) ?_
      refine lv_iload_n Z.hx Z.hb dX2_notes_113 rfl (lv_at hl 4 rfl) ?_
      refine z_zastN Z hM_3.a14 (k := k) hon hlt (by decide) hL (ha.2.1 14 rfl).1 dX2_notes_114 (fun H_4 locs hL hA_ hz_ hq_ => ?_)
      have hM_4 : mRep G H_4 o A (va_up v 11 (nI (mNn f what (v 1) N))) (va_up (va_up (va_up f 12 (upd (f 12) k what)) 13 (upd (f 13) k (v 1))) 14 (upd (f 14) k on)) := hM_3.setA ha 14 rfl hA_ hq_
      have hF_4 : mFr o A H H_4 := hF_3.trans (mFr.a 14 rfl hz_ hq_)
      refine lv_aload_n Z.hx Z.hb dX2_notes_115 rfl (lv_at hl 2 rfl) ?_
      refine gf_X2_41 Z hM_4.ob (v := .ref (A 15)) rfl dX2_notes_116 ?_
      refine lv_iload Z.hx Z.hb dX2_notes_119 (lv_at hl 0 rfl) ?_
      refine lv_iload_n Z.hx Z.hb dX2_notes_121 rfl (lv_at hl 5 rfl) ?_
      refine z_iastN Z hM_4.a15 (k := k) hlt (by decide) hL (ha.2.1 15 rfl).1 dX2_notes_122 (fun H_5 locs hL hA_ hz_ hq_ => ?_)
      have hM_5 : mRep G H_5 o A (va_up v 11 (nI (mNn f what (v 1) N))) (va_up (va_up (va_up (va_up f 12 (upd (f 12) k what)) 13 (upd (f 13) k (v 1))) 14 (upd (f 14) k on)) 15 (upd (f 15) k fi)) := hM_4.setA ha 15 rfl hA_ hq_
      have hF_5 : mFr o A H H_5 := hF_4.trans (mFr.a 15 rfl hz_ hq_)
      refine lv_aload_n Z.hx Z.hb dX2_notes_123 rfl (lv_at hl 2 rfl) ?_
      refine gf_X2_44 Z hM_5.ob (v := .ref (A 16)) rfl dX2_notes_124 ?_
      refine lv_iload Z.hx Z.hb dX2_notes_127 (lv_at hl 0 rfl) ?_
      refine lv_iload Z.hx Z.hb dX2_notes_129 (lv_at hl 6 rfl) ?_
      refine z_iastN Z hM_5.a16 (k := k) hlt (by decide) hL (ha.2.1 16 rfl).1 dX2_notes_131 (fun H_6 locs hL hA_ hz_ hq_ => ?_)
      have hM_6 : mRep G H_6 o A (va_up v 11 (nI (mNn f what (v 1) N))) (va_up (va_up (va_up (va_up (va_up f 12 (upd (f 12) k what)) 13 (upd (f 13) k (v 1))) 14 (upd (f 14) k on)) 15 (upd (f 15) k fi)) 16 (upd (f 16) k la)) := hM_5.setA ha 16 rfl hA_ hq_
      have hF_6 : mFr o A H H_6 := hF_5.trans (mFr.a 16 rfl hz_ hq_)
      refine lv_aload_n Z.hx Z.hb dX2_notes_132 rfl (lv_at hl 2 rfl) ?_
      refine gf_X2_47 Z hM_6.ob (v := .ref (A 17)) rfl dX2_notes_133 ?_
      refine lv_iload Z.hx Z.hb dX2_notes_136 (lv_at hl 0 rfl) ?_
      refine lv_iload Z.hx Z.hb dX2_notes_138 (lv_at hl 7 rfl) ?_
      refine z_iastN Z hM_6.a17 (k := k) hlt (by decide) hL (ha.2.1 17 rfl).1 dX2_notes_140 (fun H_7 locs hL hA_ hz_ hq_ => ?_)
      have hM_7 : mRep G H_7 o A (va_up v 11 (nI (mNn f what (v 1) N))) (va_up (va_up (va_up (va_up (va_up (va_up f 12 (upd (f 12) k what)) 13 (upd (f 13) k (v 1))) 14 (upd (f 14) k on)) 15 (upd (f 15) k fi)) 16 (upd (f 16) k la)) 17 (upd (f 17) k wa)) := hM_6.setA ha 17 rfl hA_ hq_
      have hF_7 : mFr o A H H_7 := hF_6.trans (mFr.a 17 rfl hz_ hq_)
      refine lv_iload Z.hx Z.hb dX2_notes_141 (lv_at hl 1 rfl) ?_
      exact z_zret Z hr hL (hw ▸ zb_01) (⟨by rw [hw], by rw [hk]; exact ⟨hM_7, hF_7⟩⟩) (Nat.le_of_ble_eq_true rfl) (Nat.le_of_ble_eq_true rfl) dX2_notes_143
    · skip
      refine lv_iconst (v := 1) Z.hx Z.hb dX2_notes_79 (by decide) ?_
      refine lv_goto (tgt := 84) Z.hx Z.hb dX2_notes_80 (by decide) ?_
      refine lv_iadd Z.hx Z.hb dX2_notes_84 ?_
      refine z_top (x' := nI (mNn f what (v 1) N)) (by rw [hN1, nI_1, show mNn f what (v 1) N = N + 1 from if_pos (by rw [hk]; exact (nI_eq (by omega) (by omega)).mp (c76.trans hN1))]) ?_
      refine pf_X2_71 Z hM.ob (Nat.le_of_ble_eq_true rfl) hL ha.1 dX2_notes_85 (fun H_8 locs hL hO_ hz_ hq_ => ?_)
      have hM_8 : mRep G H_8 o A (va_up v 11 (nI (mNn f what (v 1) N))) f := hM.setV ha (v' := va_up v 11 (nI (mNn f what (v 1) N))) hO_ hq_
      have hF_8 : mFr o A H H_8 := mFr.o hz_ hq_
      refine lv_aload_n Z.hx Z.hb dX2_notes_88 rfl (lv_at hl 2 rfl) ?_
      refine gf_X2_32 Z hM_8.ob (v := .ref (A 12)) rfl dX2_notes_89 ?_
      refine lv_iload Z.hx Z.hb dX2_notes_92 (lv_at hl 0 rfl) ?_
      refine lv_iload_n Z.hx Z.hb dX2_notes_94 rfl (lv_at hl 3 rfl) ?_
      refine z_iastN Z hM_8.a12 (k := k) hlt (by decide) hL (ha.2.1 12 rfl).1 dX2_notes_95 (fun H_9 locs hL hA_ hz_ hq_ => ?_)
      have hM_9 : mRep G H_9 o A (va_up v 11 (nI (mNn f what (v 1) N))) (va_up f 12 (upd (f 12) k what)) := hM_8.setA ha 12 rfl hA_ hq_
      have hF_9 : mFr o A H H_9 := hF_8.trans (mFr.a 12 rfl hz_ hq_)
      refine lv_aload_n Z.hx Z.hb dX2_notes_96 rfl (lv_at hl 2 rfl) ?_
      refine gf_X2_35 Z hM_9.ob (v := .ref (A 13)) rfl dX2_notes_97 ?_
      refine lv_iload Z.hx Z.hb dX2_notes_100 (lv_at hl 0 rfl) ?_
      refine lv_aload_n Z.hx Z.hb dX2_notes_102 rfl (lv_at hl 2 rfl) ?_
      refine gf_X2_78 Z hM_9.ob (v := .int (v 1)) rfl dX2_notes_103 ?_
      refine z_iastN Z hM_9.a13 (k := k) hlt (by decide) hL (ha.2.1 13 rfl).1 dX2_notes_106 (fun H_10 locs hL hA_ hz_ hq_ => ?_)
      have hM_10 : mRep G H_10 o A (va_up v 11 (nI (mNn f what (v 1) N))) (va_up (va_up f 12 (upd (f 12) k what)) 13 (upd (f 13) k (v 1))) := hM_9.setA ha 13 rfl hA_ hq_
      have hF_10 : mFr o A H H_10 := hF_9.trans (mFr.a 13 rfl hz_ hq_)
      refine lv_aload_n Z.hx Z.hb dX2_notes_107 rfl (lv_at hl 2 rfl) ?_
      refine gf_X2_38 Z hM_10.ob (v := .ref (A 14)) rfl dX2_notes_108 ?_
      refine lv_iload Z.hx Z.hb dX2_notes_111 (lv_at hl 0 rfl) ?_
      refine lv_iload_n Z.hx Z.hb dX2_notes_113 rfl (lv_at hl 4 rfl) ?_
      refine z_zastN Z hM_10.a14 (k := k) hon hlt (by decide) hL (ha.2.1 14 rfl).1 dX2_notes_114 (fun H_11 locs hL hA_ hz_ hq_ => ?_)
      have hM_11 : mRep G H_11 o A (va_up v 11 (nI (mNn f what (v 1) N))) (va_up (va_up (va_up f 12 (upd (f 12) k what)) 13 (upd (f 13) k (v 1))) 14 (upd (f 14) k on)) := hM_10.setA ha 14 rfl hA_ hq_
      have hF_11 : mFr o A H H_11 := hF_10.trans (mFr.a 14 rfl hz_ hq_)
      refine lv_aload_n Z.hx Z.hb dX2_notes_115 rfl (lv_at hl 2 rfl) ?_
      refine gf_X2_41 Z hM_11.ob (v := .ref (A 15)) rfl dX2_notes_116 ?_
      refine lv_iload Z.hx Z.hb dX2_notes_119 (lv_at hl 0 rfl) ?_
      refine lv_iload_n Z.hx Z.hb dX2_notes_121 rfl (lv_at hl 5 rfl) ?_
      refine z_iastN Z hM_11.a15 (k := k) hlt (by decide) hL (ha.2.1 15 rfl).1 dX2_notes_122 (fun H_12 locs hL hA_ hz_ hq_ => ?_)
      have hM_12 : mRep G H_12 o A (va_up v 11 (nI (mNn f what (v 1) N))) (va_up (va_up (va_up (va_up f 12 (upd (f 12) k what)) 13 (upd (f 13) k (v 1))) 14 (upd (f 14) k on)) 15 (upd (f 15) k fi)) := hM_11.setA ha 15 rfl hA_ hq_
      have hF_12 : mFr o A H H_12 := hF_11.trans (mFr.a 15 rfl hz_ hq_)
      refine lv_aload_n Z.hx Z.hb dX2_notes_123 rfl (lv_at hl 2 rfl) ?_
      refine gf_X2_44 Z hM_12.ob (v := .ref (A 16)) rfl dX2_notes_124 ?_
      refine lv_iload Z.hx Z.hb dX2_notes_127 (lv_at hl 0 rfl) ?_
      refine lv_iload Z.hx Z.hb dX2_notes_129 (lv_at hl 6 rfl) ?_
      refine z_iastN Z hM_12.a16 (k := k) hlt (by decide) hL (ha.2.1 16 rfl).1 dX2_notes_131 (fun H_13 locs hL hA_ hz_ hq_ => ?_)
      have hM_13 : mRep G H_13 o A (va_up v 11 (nI (mNn f what (v 1) N))) (va_up (va_up (va_up (va_up (va_up f 12 (upd (f 12) k what)) 13 (upd (f 13) k (v 1))) 14 (upd (f 14) k on)) 15 (upd (f 15) k fi)) 16 (upd (f 16) k la)) := hM_12.setA ha 16 rfl hA_ hq_
      have hF_13 : mFr o A H H_13 := hF_12.trans (mFr.a 16 rfl hz_ hq_)
      refine lv_aload_n Z.hx Z.hb dX2_notes_132 rfl (lv_at hl 2 rfl) ?_
      refine gf_X2_47 Z hM_13.ob (v := .ref (A 17)) rfl dX2_notes_133 ?_
      refine lv_iload Z.hx Z.hb dX2_notes_136 (lv_at hl 0 rfl) ?_
      refine lv_iload Z.hx Z.hb dX2_notes_138 (lv_at hl 7 rfl) ?_
      refine z_iastN Z hM_13.a17 (k := k) hlt (by decide) hL (ha.2.1 17 rfl).1 dX2_notes_140 (fun H_14 locs hL hA_ hz_ hq_ => ?_)
      have hM_14 : mRep G H_14 o A (va_up v 11 (nI (mNn f what (v 1) N))) (va_up (va_up (va_up (va_up (va_up (va_up f 12 (upd (f 12) k what)) 13 (upd (f 13) k (v 1))) 14 (upd (f 14) k on)) 15 (upd (f 15) k fi)) 16 (upd (f 16) k la)) 17 (upd (f 17) k wa)) := hM_13.setA ha 17 rfl hA_ hq_
      have hF_14 : mFr o A H H_14 := hF_13.trans (mFr.a 17 rfl hz_ hq_)
      refine lv_iload Z.hx Z.hb dX2_notes_141 (lv_at hl 1 rfl) ?_
      exact z_zret Z hr hL (hw ▸ zb_01) (⟨by rw [hw], by rw [hk]; exact ⟨hM_14, hF_14⟩⟩) (Nat.le_of_ble_eq_true rfl) (Nat.le_of_ble_eq_true rfl) dX2_notes_143
  obtain ⟨r9, hk⟩ : ∃ r9, mCh f what (v 1) N = r9 := ⟨_, rfl⟩
  cases r9 with
  | none =>
    refine lv_aload_n Z.hx Z.hb dX2_notes_0 rfl (lv_at hl 0 rfl) ?_
    refine lv_iload_n Z.hx Z.hb dX2_notes_1 rfl (lv_at hl 1 rfl) ?_
    refine lv_aload_n Z.hx Z.hb dX2_notes_2 rfl (lv_at hl 0 rfl) ?_
    refine gf_X2_78 Z hM.ob (v := .int (v 1)) rfl dX2_notes_3 ?_
    -- LinkResolverModel.changeOn
    refine z_pcallV (rest := []) (As := [.int what, .int (v 1)]) Z (m_changeOn G l H o A v f hM N hN hN1 what (v 1) _ hk) gw_X2_74 gd_X2_74 rfl hM.ob rfl hl.1 (Nat.le_of_ble_eq_true rfl) rfl dX2_notes_6 ⟨⟨Nat.le_of_ble_eq_true rfl, Nat.le_of_ble_eq_true rfl⟩, Nat.le_of_ble_eq_true rfl, Nat.le_of_ble_eq_true rfl⟩ hL (fun locs hL => ?_)
    refine lv_istore (lv' := [(6, .int (mChI none)), (0, .ref o), (1, .int what), (2, .int on), (3, .int fi), (4, .int la), (5, .int wa)]) Z.hx Z.hb dX2_notes_9 hl (by decide) rfl (fun ls hl => ?_)
    refine lv_iload Z.hx Z.hb dX2_notes_11 (lv_at hl 0 rfl) ?_
    refine lv_iconst (v := (-1)) Z.hx Z.hb dX2_notes_13 (by decide) ?_
    refine lv_icmp_eq (tgt := 31) Z.hx Z.hb dX2_notes_14 (by decide) (fun c14 => ?_) (fun c14 => ?_)
    · skip
      refine lv_iconst (v := 0) Z.hx Z.hb dX2_notes_31 (by decide) ?_
      refine lv_istore (lv' := [(7, .int 0), (6, .int (mChI none)), (0, .ref o), (1, .int what), (2, .int on), (3, .int fi), (4, .int la), (5, .int wa)]) Z.hx Z.hb dX2_notes_32 hl (by decide) rfl (fun ls hl => ?_)
      refine lv_iload Z.hx Z.hb dX2_notes_34 (lv_at hl 1 rfl) ?_
      refine lv_iconst (v := (-1)) Z.hx Z.hb dX2_notes_36 (by decide) ?_
      refine lv_icmp_eq (tgt := 59) Z.hx Z.hb dX2_notes_37 (by decide) (fun c37 => ?_) (fun c37 => ?_)
      · skip
        refine lv_aload_n Z.hx Z.hb dX2_notes_59 rfl (lv_at hl 2 rfl) ?_
        refine gf_X2_71 Z hM.ob (v := .int (v 11)) rfl dX2_notes_60 ?_
        refine lv_istore (lv' := [(8, .int (v 11)), (7, .int 0), (6, .int (mChI none)), (0, .ref o), (1, .int what), (2, .int on), (3, .int fi), (4, .int la), (5, .int wa)]) Z.hx Z.hb dX2_notes_63 hl (by decide) rfl (fun ls hl => ?_)
        exact tail N 0 (by unfold mNk; rw [hk]) (by omega) (by simp [zb, mOn, hk]) _ hL ls (lv_sub (z_loc (l' := [(8, .int (nI N)), (7, .int 0), (6, .int (mChI none)), (0, .ref o), (1, .int what), (2, .int on), (3, .int fi), (4, .int la), (5, .int wa)]) hl (by rw [hN1])) [0, 1, 3, 4, 5, 6, 7, 8] rfl)
      · exact absurd rfl c37
    · exact absurd rfl c14
  | some k =>
    have hkl := (mCh_lt hk).1
    refine lv_aload_n Z.hx Z.hb dX2_notes_0 rfl (lv_at hl 0 rfl) ?_
    refine lv_iload_n Z.hx Z.hb dX2_notes_1 rfl (lv_at hl 1 rfl) ?_
    refine lv_aload_n Z.hx Z.hb dX2_notes_2 rfl (lv_at hl 0 rfl) ?_
    refine gf_X2_78 Z hM.ob (v := .int (v 1)) rfl dX2_notes_3 ?_
    -- LinkResolverModel.changeOn
    refine z_pcallV (rest := []) (As := [.int what, .int (v 1)]) Z (m_changeOn G l H o A v f hM N hN hN1 what (v 1) _ hk) gw_X2_74 gd_X2_74 rfl hM.ob rfl hl.1 (Nat.le_of_ble_eq_true rfl) rfl dX2_notes_6 ⟨⟨Nat.le_of_ble_eq_true rfl, Nat.le_of_ble_eq_true rfl⟩, Nat.le_of_ble_eq_true rfl, Nat.le_of_ble_eq_true rfl⟩ hL (fun locs hL => ?_)
    refine lv_istore (lv' := [(6, .int (nI k)), (0, .ref o), (1, .int what), (2, .int on), (3, .int fi), (4, .int la), (5, .int wa)]) Z.hx Z.hb dX2_notes_9 hl (by decide) rfl (fun ls hl => ?_)
    refine lv_iload Z.hx Z.hb dX2_notes_11 (lv_at hl 0 rfl) ?_
    refine lv_iconst (v := (-1)) Z.hx Z.hb dX2_notes_13 (by decide) ?_
    refine lv_icmp_eq (tgt := 31) Z.hx Z.hb dX2_notes_14 (by decide) (fun c14 => ?_) (fun c14 => ?_)
    · exact absurd c14 (nI_m1 (by omega))
    · skip
      refine lv_aload_n Z.hx Z.hb dX2_notes_17 rfl (lv_at hl 1 rfl) ?_
      refine gf_X2_38 Z hM.ob (v := .ref (A 14)) rfl dX2_notes_18 ?_
      refine lv_iload Z.hx Z.hb dX2_notes_21 (lv_at hl 0 rfl) ?_
      refine z_zaldN Z hM.a14 (k := k) (by omega) (by decide) dX2_notes_23 ?_
      refine lv_if_eq (tgt := 31) Z.hx Z.hb dX2_notes_24 (by decide) (fun c24 => ?_) (fun c24 => ?_)
      · skip
        refine lv_iconst (v := 0) Z.hx Z.hb dX2_notes_31 (by decide) ?_
        refine lv_istore (lv' := [(7, .int 0), (6, .int (nI k)), (0, .ref o), (1, .int what), (2, .int on), (3, .int fi), (4, .int la), (5, .int wa)]) Z.hx Z.hb dX2_notes_32 hl (by decide) rfl (fun ls hl => ?_)
        refine lv_iload Z.hx Z.hb dX2_notes_34 (lv_at hl 1 rfl) ?_
        refine lv_iconst (v := (-1)) Z.hx Z.hb dX2_notes_36 (by decide) ?_
        refine lv_icmp_eq (tgt := 59) Z.hx Z.hb dX2_notes_37 (by decide) (fun c37 => ?_) (fun c37 => ?_)
        · exact absurd c37 (nI_m1 (by omega))
        · skip
          refine lv_aload_n Z.hx Z.hb dX2_notes_40 rfl (lv_at hl 2 rfl) ?_
          refine gf_X2_35 Z hM.ob (v := .ref (A 13)) rfl dX2_notes_41 ?_
          refine lv_iload Z.hx Z.hb dX2_notes_44 (lv_at hl 1 rfl) ?_
          refine z_ialdN Z hM.a13 (k := k) (by omega) (by decide) dX2_notes_46 ?_
          refine lv_aload_n Z.hx Z.hb dX2_notes_47 rfl (lv_at hl 2 rfl) ?_
          refine gf_X2_78 Z hM.ob (v := .int (v 1)) rfl dX2_notes_48 ?_
          refine lv_icmp_ne (tgt := 59) Z.hx Z.hb dX2_notes_51 (by decide) (fun c51 => ?_) (fun c51 => ?_)
          · skip
            refine lv_aload_n Z.hx Z.hb dX2_notes_59 rfl (lv_at hl 2 rfl) ?_
            refine gf_X2_71 Z hM.ob (v := .int (v 11)) rfl dX2_notes_60 ?_
            refine lv_istore (lv' := [(8, .int (v 11)), (7, .int 0), (6, .int (nI k)), (0, .ref o), (1, .int what), (2, .int on), (3, .int fi), (4, .int la), (5, .int wa)]) Z.hx Z.hb dX2_notes_63 hl (by decide) rfl (fun ls hl => ?_)
            exact tail N 0 (by unfold mNk; rw [hk]; exact if_neg c51) (by omega) (by simp [zb, mOn, hk, c24]) _ hL ls (lv_sub (z_loc (l' := [(8, .int (nI N)), (7, .int 0), (6, .int (nI k)), (0, .ref o), (1, .int what), (2, .int on), (3, .int fi), (4, .int la), (5, .int wa)]) hl (by rw [hN1])) [0, 1, 3, 4, 5, 6, 7, 8] rfl)
          · skip
            refine lv_iload Z.hx Z.hb dX2_notes_54 (lv_at hl 1 rfl) ?_
            refine lv_goto (tgt := 63) Z.hx Z.hb dX2_notes_56 (by decide) ?_
            refine lv_istore (lv' := [(8, .int (nI k)), (7, .int 0), (6, .int (nI k)), (0, .ref o), (1, .int what), (2, .int on), (3, .int fi), (4, .int la), (5, .int wa)]) Z.hx Z.hb dX2_notes_63 hl (by decide) rfl (fun ls hl => ?_)
            exact tail k 0 (by unfold mNk; rw [hk]; exact if_pos c51) (by omega) (by simp [zb, mOn, hk, c24]) _ hL ls (lv_sub (hl) [0, 1, 3, 4, 5, 6, 7, 8] rfl)
      · skip
        refine lv_iconst (v := 1) Z.hx Z.hb dX2_notes_27 (by decide) ?_
        refine lv_goto (tgt := 32) Z.hx Z.hb dX2_notes_28 (by decide) ?_
        refine lv_istore (lv' := [(7, .int 1), (6, .int (nI k)), (0, .ref o), (1, .int what), (2, .int on), (3, .int fi), (4, .int la), (5, .int wa)]) Z.hx Z.hb dX2_notes_32 hl (by decide) rfl (fun ls hl => ?_)
        refine lv_iload Z.hx Z.hb dX2_notes_34 (lv_at hl 1 rfl) ?_
        refine lv_iconst (v := (-1)) Z.hx Z.hb dX2_notes_36 (by decide) ?_
        refine lv_icmp_eq (tgt := 59) Z.hx Z.hb dX2_notes_37 (by decide) (fun c37 => ?_) (fun c37 => ?_)
        · exact absurd c37 (nI_m1 (by omega))
        · skip
          refine lv_aload_n Z.hx Z.hb dX2_notes_40 rfl (lv_at hl 2 rfl) ?_
          refine gf_X2_35 Z hM.ob (v := .ref (A 13)) rfl dX2_notes_41 ?_
          refine lv_iload Z.hx Z.hb dX2_notes_44 (lv_at hl 1 rfl) ?_
          refine z_ialdN Z hM.a13 (k := k) (by omega) (by decide) dX2_notes_46 ?_
          refine lv_aload_n Z.hx Z.hb dX2_notes_47 rfl (lv_at hl 2 rfl) ?_
          refine gf_X2_78 Z hM.ob (v := .int (v 1)) rfl dX2_notes_48 ?_
          refine lv_icmp_ne (tgt := 59) Z.hx Z.hb dX2_notes_51 (by decide) (fun c51 => ?_) (fun c51 => ?_)
          · skip
            refine lv_aload_n Z.hx Z.hb dX2_notes_59 rfl (lv_at hl 2 rfl) ?_
            refine gf_X2_71 Z hM.ob (v := .int (v 11)) rfl dX2_notes_60 ?_
            refine lv_istore (lv' := [(8, .int (v 11)), (7, .int 1), (6, .int (nI k)), (0, .ref o), (1, .int what), (2, .int on), (3, .int fi), (4, .int la), (5, .int wa)]) Z.hx Z.hb dX2_notes_63 hl (by decide) rfl (fun ls hl => ?_)
            exact tail N 1 (by unfold mNk; rw [hk]; exact if_neg c51) (by omega) (by simp [zb, mOn, hk, c24]) _ hL ls (lv_sub (z_loc (l' := [(8, .int (nI N)), (7, .int 1), (6, .int (nI k)), (0, .ref o), (1, .int what), (2, .int on), (3, .int fi), (4, .int la), (5, .int wa)]) hl (by rw [hN1])) [0, 1, 3, 4, 5, 6, 7, 8] rfl)
          · skip
            refine lv_iload Z.hx Z.hb dX2_notes_54 (lv_at hl 1 rfl) ?_
            refine lv_goto (tgt := 63) Z.hx Z.hb dX2_notes_56 (by decide) ?_
            refine lv_istore (lv' := [(8, .int (nI k)), (7, .int 1), (6, .int (nI k)), (0, .ref o), (1, .int what), (2, .int on), (3, .int fi), (4, .int la), (5, .int wa)]) Z.hx Z.hb dX2_notes_63 hl (by decide) rfl (fun ls hl => ?_)
            exact tail k 1 (by unfold mNk; rw [hk]; exact if_pos c51) (by omega) (by simp [zb, mOn, hk, c24]) _ hL ls (lv_sub (hl) [0, 1, 3, 4, 5, 6, 7, 8] rfl)
