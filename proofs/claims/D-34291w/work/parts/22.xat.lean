/-! ranks: the order of ways is total, so each place below their number has one way -/
theorem zCnt_le2 {w w' : Nat → Bool} : ∀ {n : Nat}, (∀ k, k < n → w k = true → w' k = true) → zCnt w n ≤ zCnt w' n
  | 0, _ => Nat.le_refl _
  | n + 1, h => by
    show zCnt w n + (if w n then 1 else 0) ≤ zCnt w' n + (if w' n then 1 else 0)
    have h1 := zCnt_le2 (n := n) (fun k hk => h k (Nat.lt_succ_of_lt hk))
    have h2 := h n (Nat.lt_succ_self n)
    cases c : w n with
    | false => simp; split <;> omega
    | true => rw [h2 c]; simp; exact h1
theorem zCnt_lt2 {w w' : Nat → Bool} {p : Nat} (hp : w p = false) (hp' : w' p = true) : ∀ {n : Nat}, p < n → (∀ k, k < n → w k = true → w' k = true) → zCnt w n < zCnt w' n
  | 0, h, _ => absurd h (Nat.not_lt_zero _)
  | n + 1, hn, h => by
    show zCnt w n + (if w n then 1 else 0) < zCnt w' n + (if w' n then 1 else 0)
    have h1 := zCnt_le2 (n := n) (fun k hk => h k (Nat.lt_succ_of_lt hk))
    rcases Nat.lt_or_ge p n with g | g
    · have h3 := zCnt_lt2 hp hp' g (fun k hk => h k (Nat.lt_succ_of_lt hk))
      have h2 := h n (Nat.lt_succ_self n)
      cases c : w n with
      | false => simp; split <;> omega
      | true => rw [h2 c]; simp; exact h3
    · have e : p = n := by omega
      subst e
      rw [hp, hp']
      simp
      omega
abbrev zRk (K : Nat → Nat) (w : Nat → Bool) (n p : Nat) : Nat := zCnt (fun q => decide (K q < K p) && w q) n
theorem zRk_lt {K : Nat → Nat} {w : Nat → Bool} {n p q : Nat} (hp : p < n) (hw : w p = true) (h : K p < K q) : zRk K w n p < zRk K w n q :=
  zCnt_lt2 (p := p) (by simp) (by simp [h, hw]) hp (fun k _ hk => by
    simp only [Bool.and_eq_true, decide_eq_true_eq] at hk ⊢
    exact ⟨by omega, hk.2⟩)
theorem zRk_le {K : Nat → Nat} {w : Nat → Bool} {n p q : Nat} (h : K p ≤ K q) : zRk K w n p ≤ zRk K w n q :=
  zCnt_le2 (fun k _ hk => by
    simp only [Bool.and_eq_true, decide_eq_true_eq] at hk ⊢
    exact ⟨by omega, hk.2⟩)
theorem zRk_b {K : Nat → Nat} {w : Nat → Bool} {n p : Nat} (hp : p < n) (hw : w p = true) : zRk K w n p < zCnt w n :=
  zCnt_lt2 (p := p) (by simp) hw hp (fun k _ hk => by
    simp only [Bool.and_eq_true, decide_eq_true_eq] at hk
    exact hk.2)
theorem zRk_s {K : Nat → Nat} {w : Nat → Bool} {M : Nat} (hK : ∀ p q, p < M → q < M → K p = K q → p = q) : ∀ {n : Nat}, n ≤ M → ∀ i : Nat, i < zCnt w n → ∃ p, p < n ∧ w p = true ∧ zRk K w n p = i
  | 0, _, _, h => absurd h (Nat.not_lt_zero _)
  | n + 1, hM, i, h => by
    have h : i < zCnt w n + (if w n then 1 else 0) := h
    have hs : ∀ p, zRk K w (n + 1) p = zRk K w n p + (if (decide (K n < K p) && w n) then 1 else 0) := fun _ => rfl
    cases c : w n with
    | false =>
      rw [c] at h
      obtain ⟨p, g1, g2, g3⟩ := zRk_s (w := w) hK (n := n) (by omega) i (by simpa using h)
      exact ⟨p, by omega, g2, by rw [hs, c, Bool.and_false]; simpa using g3⟩
    | true =>
      rw [c] at h
      have h : i < zCnt w n + 1 := by simpa using h
      have hr : zRk K w n n ≤ zCnt w n := zCnt_le2 (fun k _ hk => by
        simp only [Bool.and_eq_true] at hk
        exact hk.2)
      rcases Nat.lt_trichotomy i (zRk K w n n) with g | g | g
      · obtain ⟨p, g1, g2, g3⟩ := zRk_s (w := w) hK (n := n) (by omega) i (by omega)
        have hlt : K p < K n := by
          rcases Nat.lt_or_ge (K p) (K n) with z | z
          · exact z
          · have := zRk_le (K := K) (w := w) (n := n) z
            omega
        refine ⟨p, by omega, g2, ?_⟩
        rw [hs, decide_eq_false (by omega)]
        simpa using g3
      · refine ⟨n, by omega, c, ?_⟩
        rw [hs, decide_eq_false (by omega)]
        simpa using g.symm
      · obtain ⟨p, g1, g2, g3⟩ := zRk_s (w := w) hK (n := n) (by omega) (i - 1) (by omega)
        have hlt : K n < K p := by
          rcases Nat.lt_or_ge (K n) (K p) with z | z
          · exact z
          · have hne : K p ≠ K n := fun e => absurd (hK p n (by omega) (by omega) e) (by omega)
            have := zRk_lt (K := K) (w := w) (q := n) g1 g2 (by omega)
            omega
        refine ⟨p, by omega, g2, ?_⟩
        rw [hs, decide_eq_true hlt, c]
        simp
        omega
/-- a way's place in the order, as one number -/
def sKey (σ : zS) (t p : Nat) : Nat := (((if sBr σ p t then 1 else 0) * 2 ^ 32 + ((sA σ 2 p).toInt + 2 ^ 31).toNat) * 2 ^ 32 + ((sA σ 3 p).toInt + 2 ^ 31).toNat) * 2 ^ 32 + p
theorem zi32 (x : Int32) : ((x.toInt + 2 ^ 31).toNat : Int) = x.toInt + 2 ^ 31 ∧ (x.toInt + 2 ^ 31).toNat < 2 ^ 32 := by
  have h1 := Int32.le_toInt x
  have h2 := Int32.toInt_lt x
  omega
theorem sKey_inj {σ : zS} {t p q : Nat} (hp : p < 10) (hq : q < 10) (h : sKey σ t p = sKey σ t q) : p = q := by
  unfold sKey at h
  omega
theorem zlex {a a' b b' : Nat} (h : b < 2 ^ 32) (h' : b' < 2 ^ 32) : a * 2 ^ 32 + b < a' * 2 ^ 32 + b' ↔ a < a' ∨ (a = a' ∧ b < b') := by omega
theorem zlexE {a a' b b' : Nat} (h : b < 2 ^ 32) (h' : b' < 2 ^ 32) : a * 2 ^ 32 + b = a' * 2 ^ 32 + b' ↔ a = a' ∧ b = b' := by omega
theorem sKey_ah {σ : zS} {t p q : Nat} (hp : p < 10) (hq : q < 10) : (!decide (nI q = nI p) && sAh σ q p t) = decide (sKey σ t q < sKey σ t p) := by
  rcases Decidable.em (q = p) with hqp | hqp
  · rw [hqp, decide_eq_true rfl, decide_eq_false (Nat.lt_irrefl _)]
    rfl
  have e0 : nI q = nI p ↔ q = p := nI_eq (by omega) (by omega)
  have e0b : nI p ≤ nI q ↔ p ≤ q := nI_leI (by omega) (by omega)
  have a1 := zi32 (sA σ 2 q)
  have a2 := zi32 (sA σ 2 p)
  have a3 := zi32 (sA σ 3 q)
  have a4 := zi32 (sA σ 3 p)
  have i2 : sA σ 2 q = sA σ 2 p ↔ (sA σ 2 q).toInt = (sA σ 2 p).toInt := Int32.toInt_inj.symm
  have i3 : sA σ 3 q = sA σ 3 p ↔ (sA σ 3 q).toInt = (sA σ 3 p).toInt := Int32.toInt_inj.symm
  have l3 : sA σ 3 q < sA σ 3 p ↔ (sA σ 3 q).toInt < (sA σ 3 p).toInt := Int32.lt_iff_toInt_lt
  have l2 : sA σ 2 p ≤ sA σ 2 q ↔ (sA σ 2 p).toInt ≤ (sA σ 2 q).toInt := Int32.le_iff_toInt_le
  unfold sAh sKey
  rw [Bool.eq_iff_iff, decide_eq_true_iff (p := _ < _)]
  rw [zlex (b := q) (b' := p) (by omega) (by omega), zlex a3.2 a4.2, zlexE a3.2 a4.2, zlex a1.2 a2.2, zlexE a1.2 a2.2]
  have n1 := a1.1
  have n2 := a2.1
  have n3 := a3.1
  have n4 := a4.1
  clear a1 a2 a3 a4
  generalize ((sA σ 2 q).toInt + 2 ^ 31).toNat = m1 at *
  generalize ((sA σ 2 p).toInt + 2 ^ 31).toNat = m2 at *
  generalize ((sA σ 3 q).toInt + 2 ^ 31).toNat = m3 at *
  generalize ((sA σ 3 p).toInt + 2 ^ 31).toNat = m4 at *
  generalize (sA σ 2 q).toInt = c2 at *
  generalize (sA σ 2 p).toInt = c2' at *
  generalize (sA σ 3 q).toInt = c3 at *
  generalize (sA σ 3 p).toInt = c3' at *
  by_cases hb : sBr σ q t = sBr σ p t
  · rw [if_pos hb, hb]
    by_cases hc : sA σ 2 q = sA σ 2 p
    · rw [if_pos hc]
      have hc := i2.mp hc
      simp only [Bool.and_eq_true, Bool.or_eq_true, Bool.not_eq_true', decide_eq_true_eq, decide_eq_false_iff_not, e0, e0b, i3, l3]
      generalize (if sBr σ p t = true then 1 else 0) = b
      simp only [Nat.lt_irrefl, true_and, false_or]
      omega
    · rw [if_neg hc]
      have hc : ¬ c2 = c2' := fun z => hc (i2.mpr z)
      simp only [Bool.and_eq_true, Bool.not_eq_true', decide_eq_false_iff_not, e0, l2]
      have hqp : q ≠ p := fun e => hc (by have z : sA σ 2 q = sA σ 2 p := by rw [e]
                                          exact i2.mp z)
      generalize (if sBr σ p t = true then 1 else 0) = b
      simp only [Nat.lt_irrefl, true_and, false_or]
      omega
  · rw [if_neg hb]
    have hqp : q ≠ p := fun e => hb (by rw [e])
    simp only [Bool.and_eq_true, Bool.not_eq_true', decide_eq_false_iff_not, e0]
    cases h1 : sBr σ q t <;> cases h2 : sBr σ p t <;> simp [h1, h2] at hb ⊢ <;> omega
theorem sRank_k {σ : zS} {p t : Nat} (hP : sP σ ≤ 10) (hp : p < 10) (y g d : Int32) : sRank σ p t y g d = zRk (sKey σ t) (fun q => sWay σ q t y g d) (sP σ) p :=
  zCnt_congr (fun k hk => by rw [sKey_ah hp (by omega)])
/-- at most one way at a place -/
theorem sAt_uq {σ : zS} {i : Int32} {t : Nat} {y g d : Int32} (hP : sP σ ≤ 10) {a b : Nat} (ha : a < sP σ) (hb : b < sP σ) (h1 : sAtOk σ i t y g d a = true) (h2 : sAtOk σ i t y g d b = true) : a = b := by
  simp only [sAtOk, Bool.and_eq_true, decide_eq_true_eq] at h1 h2
  have e := h1.2.trans h2.2.symm
  rw [sRank_k hP (by omega), sRank_k hP (by omega)] at e
  have g1 := zRk_b (K := sKey σ t) (w := fun q => sWay σ q t y g d) ha h1.1
  have g2 := zRk_b (K := sKey σ t) (w := fun q => sWay σ q t y g d) hb h2.1
  have g3 := zCnt_le (fun q => sWay σ q t y g d) (sP σ)
  have e := (nI_eq (by omega) (by omega)).mp e
  rcases Nat.lt_trichotomy (sKey σ t a) (sKey σ t b) with z | z | z
  · have := zRk_lt (K := sKey σ t) (w := fun q => sWay σ q t y g d) ha h1.1 z
    omega
  · exact sKey_inj (by omega) (by omega) z
  · have := zRk_lt (K := sKey σ t) (w := fun q => sWay σ q t y g d) hb h2.1 z
    omega
theorem sAt_ex {σ : zS} {i : Int32} {t : Nat} {y g d : Int32} (hP : sP σ ≤ 10) (h : mIs i (nI (sCnt σ t y g d)) = true) : ∃ a, a < sP σ ∧ sAtOk σ i t y g d a = true := by
  have g3 := zCnt_le (fun q => sWay σ q t y g d) (sP σ)
  have g3 : sCnt σ t y g d ≤ sP σ := g3
  obtain ⟨k, hk, rfl⟩ := mIs_nI (by omega) h
  obtain ⟨p, h1, h2, h3⟩ := zRk_s (K := sKey σ t) (w := fun q => sWay σ q t y g d) (M := 10) (fun p q h1 h2 => sKey_inj h1 h2) hP k hk
  refine ⟨p, h1, ?_⟩
  simp only [sAtOk, Bool.and_eq_true, decide_eq_true_eq]
  exact ⟨h2, by rw [sRank_k hP (by omega), h3]⟩
theorem sAt_is {σ : zS} {i : Int32} {t : Nat} {y g d : Int32} (hP : sP σ ≤ 10) {a : Nat} (ha : a < sP σ) (h : sAtOk σ i t y g d a = true) : mIs i (nI (sCnt σ t y g d)) = true := by
  have g3 := zCnt_le (fun q => sWay σ q t y g d) (sP σ)
  have g3 : sCnt σ t y g d ≤ sP σ := g3
  simp only [sAtOk, Bool.and_eq_true, decide_eq_true_eq] at h
  have g1 := zRk_b (K := sKey σ t) (w := fun q => sWay σ q t y g d) ha h.1
  rw [← h.2, sRank_k hP (by omega)]
  exact nI_is g1 (by omega)
theorem zLast_at {w : Nat → Bool} {a : Nat} (h : w a = true) : ∀ {n : Nat}, a < n → (∀ b, b < n → w b = true → a = b) → zLast w n = nI a
  | 0, h0, _ => absurd h0 (Nat.not_lt_zero _)
  | n + 1, hn, hu => by
    show (if w n then nI n else zLast w n) = nI a
    cases c : w n with
    | true => rw [hu n (Nat.lt_succ_self n) c]; rfl
    | false =>
      have hne : a ≠ n := fun e => by rw [e, c] at h; exact absurd h (by decide)
      have e := zLast_at h (n := n) (by omega) (fun b hb => hu b (by omega))
      simpa using e
set_option maxHeartbeats 4000000 in
set_option maxRecDepth 100000 in
theorem x_wayAt (G : zG) (l : Launch) (hl0 : l.stackTraces = false) (H : Heap) (R : xRo) (σ : zS) (n o tl pl : Nat) (ts ps : List Nat) (hX : xOp G H R σ n o tl pl ts ps) (hn29 : n < 2 ^ 29) (hW : sWf σ) (i t y g d : Int32) : zXp G l yX1_wayAt cX1_wayAt 8 (Option.some Jvm.ClassFile.FieldType.int) 9 8 48 [.ref o, .int i, .int t, .int y, .int g, .int d] H (.int (zLast (sAtOk σ i t.toNatClampNeg y g d) (sP σ))) (kAt σ i t y g d = 0) (xE RJ6 RJ12 (kAt σ i t y g d)) := by
  obtain ⟨mt9, dt9, hOt⟩ := hX.tO
  obtain ⟨mp9, dp9, hOp⟩ := hX.pO
  have hO := hX.ob
  have htl : ts.length = sN σ := hX.2.2.2.1.2.1
  have hpl : ps.length = sP σ := hX.2.2.2.2.2.1
  have hN20 : sN σ ≤ 20 := hW.2.1
  have hP10 : sP σ ≤ 10 := hW.2.2.1
  refine zX.of (by decide +kernel) (Nat.le_of_ble_eq_true rfl) ?_
  intro p0 e0 s0 m0 args0 below0 meth0 c0 Z hr hxt hH ls hl
  have Z : zC G p0 s0 m0 args0 meth0 c0 RX1 cX1_wayAt 8 := Z
  have hl : lv_has ls 8 [(0, .ref o), (1, .int i), (2, .int t), (3, .int y), (4, .int g), (5, .int d)] := hl
  have hL : zL G [] := zL.nil
  rcases hc9 : mIs t (nI (sN σ)) with _ | _
  · skip
    refine lv_aload_n Z.hx Z.hb dX1_wayAt_0 rfl (lv_at hl 0 rfl) ?_
    refine lv_iload_n Z.hx Z.hb dX1_wayAt_1 rfl (lv_at hl 3 rfl) ?_
    refine lv_iload Z.hx Z.hb dX1_wayAt_2 (lv_at hl 4 rfl) ?_
    refine lv_iload Z.hx Z.hb dX1_wayAt_4 (lv_at hl 5 rfl) ?_
    -- LinkResolver.checkArticle
    refine z_xpcallV0 (rest := []) (As := [.int y, .int g, .int d]) Z (x_art G l hl0 H R σ n o tl pl ts ps hX hn29 hW y g d) gw_X1_117 gd_X1_117 rfl hO rfl hl.1 (Nat.le_of_ble_eq_true rfl) rfl dX1_wayAt_6 ⟨⟨Nat.le_of_ble_eq_true rfl, Nat.le_of_ble_eq_true rfl⟩, Nat.le_of_ble_eq_true rfl, Nat.le_of_ble_eq_true rfl⟩ hL (fun E_ ce_ q_ H_ locs hL hk_ hx_ h1_ h2_ h3_ => z_out Z hxt hL ⟨hk_, Or.inl ⟨hx_.1, by simp [kAt, kIf, hx_.2]⟩⟩ h1_ h2_ h3_ (Nat.le_of_ble_eq_true rfl) (Nat.le_of_ble_eq_true rfl)) (fun locs hL c6 => ?_)
    refine lv_aload_n Z.hx Z.hb dX1_wayAt_9 rfl (lv_at hl 0 rfl) ?_
    refine lv_iload_n Z.hx Z.hb dX1_wayAt_10 rfl (lv_at hl 2 rfl) ?_
    -- LinkResolver.title
    refine z_xpcallV (rest := []) (As := [.int t]) Z (x_title_no G l hl0 H R σ n o tl pl ts ps hX hn29 hW t hc9) gw_X1_50 gd_X1_50 rfl hO rfl hl.1 (Nat.le_of_ble_eq_true rfl) rfl dX1_wayAt_11 ⟨⟨Nat.le_of_ble_eq_true rfl, Nat.le_of_ble_eq_true rfl⟩, Nat.le_of_ble_eq_true rfl, Nat.le_of_ble_eq_true rfl⟩ hL (fun E_ ce_ q_ H_ locs hL hk_ hx_ h1_ h2_ h3_ => z_out Z hxt hL ⟨hk_, Or.inr ⟨hx_, by simp [kAt, kIf, hc9, c6]⟩⟩ h1_ h2_ h3_ (Nat.le_of_ble_eq_true rfl) (Nat.le_of_ble_eq_true rfl)) (fun locs hL c11 => ?_)
    exact c11.elim
  · obtain ⟨j, hj, rfl⟩ := mIs_nI (by omega) hc9
    have hjc : (nI j).toNatClampNeg = j := nI_clamp (by omega)
    obtain ⟨y9, hy9⟩ := hX.ty hj
    have hj20 : j < 20 := by omega
    refine lv_aload_n Z.hx Z.hb dX1_wayAt_0 rfl (lv_at hl 0 rfl) ?_
    refine lv_iload_n Z.hx Z.hb dX1_wayAt_1 rfl (lv_at hl 3 rfl) ?_
    refine lv_iload Z.hx Z.hb dX1_wayAt_2 (lv_at hl 4 rfl) ?_
    refine lv_iload Z.hx Z.hb dX1_wayAt_4 (lv_at hl 5 rfl) ?_
    -- LinkResolver.checkArticle
    refine z_xpcallV0 (rest := []) (As := [.int y, .int g, .int d]) Z (x_art G l hl0 H R σ n o tl pl ts ps hX hn29 hW y g d) gw_X1_117 gd_X1_117 rfl hO rfl hl.1 (Nat.le_of_ble_eq_true rfl) rfl dX1_wayAt_6 ⟨⟨Nat.le_of_ble_eq_true rfl, Nat.le_of_ble_eq_true rfl⟩, Nat.le_of_ble_eq_true rfl, Nat.le_of_ble_eq_true rfl⟩ hL (fun E_ ce_ q_ H_ locs hL hk_ hx_ h1_ h2_ h3_ => z_out Z hxt hL ⟨hk_, Or.inl ⟨hx_.1, by simp [kAt, kIf, hx_.2]⟩⟩ h1_ h2_ h3_ (Nat.le_of_ble_eq_true rfl) (Nat.le_of_ble_eq_true rfl)) (fun locs hL c6 => ?_)
    refine lv_aload_n Z.hx Z.hb dX1_wayAt_9 rfl (lv_at hl 0 rfl) ?_
    refine lv_iload_n Z.hx Z.hb dX1_wayAt_10 rfl (lv_at hl 2 rfl) ?_
    -- LinkResolver.title
    refine z_xpcallV (rest := []) (As := [.int (nI j)]) Z (x_title G l hl0 H R σ n o tl pl ts ps hX hn29 hW j y9 hy9) gw_X1_50 gd_X1_50 rfl hO rfl hl.1 (Nat.le_of_ble_eq_true rfl) rfl dX1_wayAt_11 ⟨⟨Nat.le_of_ble_eq_true rfl, Nat.le_of_ble_eq_true rfl⟩, Nat.le_of_ble_eq_true rfl, Nat.le_of_ble_eq_true rfl⟩ hL (fun E_ ce_ q_ H_ locs hL hk_ hx_ h1_ h2_ h3_ => hx_.elim) (fun locs hL c11 => ?_)
    refine lv_pop Z.hx Z.hb dX1_wayAt_14 rfl ?_
    refine lv_iconst (v := 0) Z.hx Z.hb dX1_wayAt_15 (by decide) ?_
    refine lv_istore (lv' := [(6, .int 0), (0, .ref o), (1, .int i), (2, .int (nI j)), (3, .int y), (4, .int g), (5, .int d)]) Z.hx Z.hb dX1_wayAt_16 hl (by decide) rfl (fun ls hl => ?_)
    have loop : ∀ n8 k : Nat, k + n8 = ps.length → ∀ (locs : List Loc), zL G locs → ∀ ls : Array Slot, lv_has ls 8 [(6, .int (nI k)), (0, .ref o), (1, .int i), (2, .int (nI j)), (3, .int y), (4, .int g), (5, .int d)] → (∀ q, q < k → sAtOk σ i j y g d q = false) → W p0 l e0 (zr 9 8 48) s0 m0 args0 below0 meth0 c0 H locs (0 + 3 + 1) (0 + 18 + 6) (vx_MQ below0 (zQ (fun r H1 => r = some (.int (zLast (sAtOk σ i (nI j).toNatClampNeg y g d) (sP σ))) ∧ H1 = H ∧ kAt σ i (nI j) y g d = 0)) (zXc (fun E H1 => zKeep H H1 ∧ xE RJ6 RJ12 (kAt σ i (nI j) y g d) E)) args0 s0 8 48 (zA G)) (F0 m0 18 ls []) := by
      intro n8
      induction n8 with
      | zero =>
        intro k hkn locs hL ls hl hk9
        have hke : k = ps.length := hkn
        subst hke
        refine lv_iload Z.hx Z.hb dX1_wayAt_18 (lv_at hl 0 rfl) ?_
        refine lv_aload_n Z.hx Z.hb dX1_wayAt_20 rfl (lv_at hl 1 rfl) ?_
        refine gf_X1_16 Z hO (v := .ref pl) rfl dX1_wayAt_21 ?_
        -- java/util/List.size
        refine z_pcallF (rest := [.int (nI ps.length)]) (As := []) Z (j_size G l H _ pl ps hX.2.2.2.2.1) gw_X1_28 Z.K.2.2.1.1 gd_L_size hOp rfl hl.1 (Nat.le_of_ble_eq_true rfl) rfl dX1_wayAt_24 ⟨⟨Nat.le_of_ble_eq_true rfl, Nat.le_of_ble_eq_true rfl⟩, Nat.le_of_ble_eq_true rfl, Nat.le_of_ble_eq_true rfl⟩ hL (fun locs hL => ?_)
        refine lv_icmp_ge (tgt := 87) Z.hx Z.hb dX1_wayAt_29 (by decide) (fun c29 => ?_) (fun c29 => ?_)
        · skip
          have hno9 : mIs i (nI (sCnt σ j y g d)) = false := by
            rcases hm9 : mIs i (nI (sCnt σ j y g d)) with _ | _
            · rfl
            · obtain ⟨a, h1, h2⟩ := sAt_ex hP10 hm9
              exact absurd (h2.symm.trans (hk9 a (by rw [hpl]; exact h1))) (by decide)
          exact x_throw Z hl0 hxt hw_12 (by decide +kernel) q332 q45 hL hl.1 dX1_wayAt_87 dX1_wayAt_90 dX1_wayAt_91 dX1_wayAt_94 (ci := 9) rfl (Nat.le_of_ble_eq_true rfl) (Nat.le_of_ble_eq_true rfl) (Nat.le_of_ble_eq_true rfl) (Nat.le_of_ble_eq_true rfl) (Nat.le_of_ble_eq_true rfl) (Nat.le_of_ble_eq_true rfl) (fun H_9 hk9 => ⟨hk9, Or.inr ⟨rfl, by unfold kAt; rw [c6, hc9, hjc, hno9]; rfl⟩⟩)
        · exact absurd (Int32.le_refl _) c29
      | succ n8 ihk =>
        intro k hkn locs hL ls hl hk9
        have hkb : k < ps.length := by omega
        refine lv_iload Z.hx Z.hb dX1_wayAt_18 (lv_at hl 0 rfl) ?_
        refine lv_aload_n Z.hx Z.hb dX1_wayAt_20 rfl (lv_at hl 1 rfl) ?_
        refine gf_X1_16 Z hO (v := .ref pl) rfl dX1_wayAt_21 ?_
        -- java/util/List.size
        refine z_pcallF (rest := [.int (nI k)]) (As := []) Z (j_size G l H _ pl ps hX.2.2.2.2.1) gw_X1_28 Z.K.2.2.1.1 gd_L_size hOp rfl hl.1 (Nat.le_of_ble_eq_true rfl) rfl dX1_wayAt_24 ⟨⟨Nat.le_of_ble_eq_true rfl, Nat.le_of_ble_eq_true rfl⟩, Nat.le_of_ble_eq_true rfl, Nat.le_of_ble_eq_true rfl⟩ hL (fun locs hL => ?_)
        refine lv_icmp_ge (tgt := 87) Z.hx Z.hb dX1_wayAt_29 (by decide) (fun c29 => ?_) (fun c29 => ?_)
        · exact absurd c29 (nI_ge hkb (by omega))
        · skip
          refine lv_aload_n Z.hx Z.hb dX1_wayAt_32 rfl (lv_at hl 1 rfl) ?_
          refine gf_X1_16 Z hO (v := .ref pl) rfl dX1_wayAt_33 ?_
          refine lv_iload Z.hx Z.hb dX1_wayAt_36 (lv_at hl 0 rfl) ?_
          obtain ⟨q9, hq9⟩ : ∃ y, ps[k]? = some y := ⟨_, List.getElem?_eq_getElem hkb⟩
          have hp9 := hX.2.2.2.2.2.2 k q9 hq9
          have hp8 := hp9
          obtain ⟨sl9, hl9, br9, hRp9, hpO9, hSb9, hHs9, hBk9⟩ := hp8
          -- java/util/List.get
          refine z_pcallF (rest := []) (As := [.int (nI k)]) Z (j_get G l H _ pl ps hX.2.2.2.2.1 k q9 hkb (by omega) hq9) gw_X1_38 Z.K.2.2.1.2.2 gd_L_get hOp rfl hl.1 (Nat.le_of_ble_eq_true rfl) rfl dX1_wayAt_38 ⟨⟨Nat.le_of_ble_eq_true rfl, Nat.le_of_ble_eq_true rfl⟩, Nat.le_of_ble_eq_true rfl, Nat.le_of_ble_eq_true rfl⟩ hL (fun locs hL => ?_)
          refine z_castS Z (ci := 2) rfl q388 hpO9 dX1_wayAt_43 ?_
          refine lv_astore (lv' := [(7, .ref q9), (6, .int (nI k)), (0, .ref o), (1, .int i), (2, .int (nI j)), (3, .int y), (4, .int g), (5, .int d)]) Z.hx Z.hb dX1_wayAt_46 hl (by decide) rfl (fun ls hl => ?_)
          refine lv_aload Z.hx Z.hb dX1_wayAt_48 (lv_at hl 0 rfl) ?_
          refine lv_iload_n Z.hx Z.hb dX1_wayAt_50 rfl (lv_at hl 4 rfl) ?_
          refine lv_iload_n Z.hx Z.hb dX1_wayAt_51 rfl (lv_at hl 5 rfl) ?_
          refine lv_iload Z.hx Z.hb dX1_wayAt_52 (lv_at hl 6 rfl) ?_
          refine lv_iload Z.hx Z.hb dX1_wayAt_54 (lv_at hl 7 rfl) ?_
          -- LinkResolver$Package.covers
          refine z_pcallV (rest := []) (As := [.int (nI j), .int y, .int g, .int d]) Z (p_cov G l H R σ n k q9 hp9 hn29 j hj20 y g d) gw_X1_120 gd_X1_120 rfl hpO9 rfl hl.1 (Nat.le_of_ble_eq_true rfl) rfl dX1_wayAt_56 ⟨⟨Nat.le_of_ble_eq_true rfl, Nat.le_of_ble_eq_true rfl⟩, Nat.le_of_ble_eq_true rfl, Nat.le_of_ble_eq_true rfl⟩ hL (fun locs hL => ?_)
          refine lv_if_eq (tgt := 81) Z.hx Z.hb dX1_wayAt_59 (by decide) (fun c56 => ?_) (fun c56 => ?_)
          · skip
            have c56 : (sWay σ k j y g d) = false := zb_0.mp c56
            refine lv_iinc (v := (nI k) + 1) (lv' := [(6, .int ((nI k) + 1)), (7, .ref q9), (0, .ref o), (1, .int i), (2, .int (nI j)), (3, .int y), (4, .int g), (5, .int d)]) Z.hx Z.hb dX1_wayAt_81 hl (k := 1) rfl rfl (by decide) rfl (fun ls hl => ?_)
            refine lv_goto (tgt := 18) Z.hx Z.hb dX1_wayAt_84 (by decide) ?_
            have hz9 : sAtOk σ i j y g d k = false := by
              show (sWay σ k j y g d && decide _) = false
              rw [c56]; rfl
            exact ihk (k + 1) (by omega) _ hL ls (lv_sub (z_loc (l' := [(6, .int (nI (k + 1))), (7, .ref q9), (0, .ref o), (1, .int i), (2, .int (nI j)), (3, .int y), (4, .int g), (5, .int d)]) hl (by rw [nI_succ])) [0, 2, 3, 4, 5, 6, 7] rfl) (fun q hq => by
              rcases Nat.lt_or_ge q k with z | z
              · exact hk9 q z
              · rw [show q = k by omega]; exact hz9)
          · skip
            have c56 : (sWay σ k j y g d) = true := zb_n.mp c56
            refine lv_aload_n Z.hx Z.hb dX1_wayAt_62 rfl (lv_at hl 2 rfl) ?_
            refine lv_aload Z.hx Z.hb dX1_wayAt_63 (lv_at hl 0 rfl) ?_
            refine lv_iload_n Z.hx Z.hb dX1_wayAt_65 rfl (lv_at hl 4 rfl) ?_
            refine lv_iload_n Z.hx Z.hb dX1_wayAt_66 rfl (lv_at hl 5 rfl) ?_
            refine lv_iload Z.hx Z.hb dX1_wayAt_67 (lv_at hl 6 rfl) ?_
            refine lv_iload Z.hx Z.hb dX1_wayAt_69 (lv_at hl 7 rfl) ?_
            -- LinkResolver.waysAhead
            refine z_pcallV (rest := []) (As := [.ref q9, .int (nI j), .int y, .int g, .int d]) Z (x_rank G l H R σ n o tl pl ts ps hX hn29 hW j hj20 k q9 hq9 y g d) gw_X1_132 gd_X1_132 rfl hO rfl hl.1 (Nat.le_of_ble_eq_true rfl) rfl dX1_wayAt_71 ⟨⟨Nat.le_of_ble_eq_true rfl, Nat.le_of_ble_eq_true rfl⟩, Nat.le_of_ble_eq_true rfl, Nat.le_of_ble_eq_true rfl⟩ hL (fun locs hL => ?_)
            refine lv_iload_n Z.hx Z.hb dX1_wayAt_74 rfl (lv_at hl 3 rfl) ?_
            refine lv_icmp_ne (tgt := 81) Z.hx Z.hb dX1_wayAt_75 (by decide) (fun c75 => ?_) (fun c75 => ?_)
            · skip
              refine lv_iinc (v := (nI k) + 1) (lv' := [(6, .int ((nI k) + 1)), (7, .ref q9), (0, .ref o), (1, .int i), (2, .int (nI j)), (3, .int y), (4, .int g), (5, .int d)]) Z.hx Z.hb dX1_wayAt_81 hl (k := 1) rfl rfl (by decide) rfl (fun ls hl => ?_)
              refine lv_goto (tgt := 18) Z.hx Z.hb dX1_wayAt_84 (by decide) ?_
              have hz9 : sAtOk σ i j y g d k = false := by
                show (sWay σ k j y g d && decide _) = false
                rw [decide_eq_false c75, Bool.and_false]
              exact ihk (k + 1) (by omega) _ hL ls (lv_sub (z_loc (l' := [(6, .int (nI (k + 1))), (7, .ref q9), (0, .ref o), (1, .int i), (2, .int (nI j)), (3, .int y), (4, .int g), (5, .int d)]) hl (by rw [nI_succ])) [0, 2, 3, 4, 5, 6, 7] rfl) (fun q hq => by
                rcases Nat.lt_or_ge q k with z | z
                · exact hk9 q z
                · rw [show q = k by omega]; exact hz9)
            · skip
              refine lv_iload Z.hx Z.hb dX1_wayAt_78 (lv_at hl 1 rfl) ?_
              have hok9 : sAtOk σ i j y g d k = true := by
                show (sWay σ k j y g d && decide _) = true
                rw [c56, c75, decide_eq_true rfl]; rfl
              exact zx_iret Z hr hL (⟨by rw [hjc, zLast_at hok9 (by omega) (fun b hb z => sAt_uq hP10 (by omega) hb hok9 z)], rfl, by unfold kAt; rw [c6, hc9, hjc, sAt_is hP10 (by omega) hok9]; rfl⟩) (Nat.le_of_ble_eq_true rfl) (Nat.le_of_ble_eq_true rfl) dX1_wayAt_80
    exact loop ps.length 0 (by omega) _ hL ls (lv_sub (z_loc (l' := [(6, .int (nI 0)), (0, .ref o), (1, .int i), (2, .int (nI j)), (3, .int y), (4, .int g), (5, .int d)]) hl (by rfl)) [0, 1, 2, 3, 4, 5, 6] rfl) (fun q hq => absurd hq (Nat.not_lt_zero q))
