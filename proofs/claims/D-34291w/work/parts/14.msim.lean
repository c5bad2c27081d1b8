/-! what a note of the model does to what counts -/
theorem zu_eq {α : Type} {f : Nat → α} {k : Nat} {x : α} : va_up f k x k = x := by simp [va_up]
theorem zu_ne {α : Type} {f : Nat → α} {k j : Nat} {x : α} (h : j ≠ k) : va_up f k x j = f j := by simp [va_up, h]
theorem upd_eq {f : Nat → Int32} {k : Nat} {x : Int32} : upd f k x k = x := by simp [upd]
theorem upd_ne {f : Nat → Int32} {k j : Nat} {x : Int32} (h : j ≠ k) : upd f k x j = f j := by simp [upd, h]
section NF
variable {f : Nat → Nat → Int32} {K : Nat} {what d on fi la wa : Int32}
theorem mNf_12 : mNf f K what d on fi la wa 12 = upd (f 12) K what := rfl
theorem mNf_13 : mNf f K what d on fi la wa 13 = upd (f 13) K d := rfl
theorem mNf_14 : mNf f K what d on fi la wa 14 = upd (f 14) K on := rfl
theorem mNf_15 : mNf f K what d on fi la wa 15 = upd (f 15) K fi := rfl
theorem mNf_16 : mNf f K what d on fi la wa 16 = upd (f 16) K la := rfl
theorem mNf_17 : mNf f K what d on fi la wa 17 = upd (f 17) K wa := rfl
theorem mNf_lo {k : Nat} (h : k < 12) : mNf f K what d on fi la wa k = f k := by
  unfold mNf
  rw [zu_ne (by omega), zu_ne (by omega), zu_ne (by omega), zu_ne (by omega), zu_ne (by omega), zu_ne (by omega)]
end NF
theorem mCh_congr {f f' : Nat → Nat → Int32} {what d : Int32} : ∀ {n : Nat}, (∀ i, i < n → f' 12 i = f 12 i ∧ f' 13 i = f 13 i) → mCh f' what d n = mCh f what d n
  | 0, _ => rfl
  | n + 1, h => by
    show (if f' 12 n = what ∧ f' 13 n ≤ d then some n else mCh f' what d n) = if f 12 n = what ∧ f 13 n ≤ d then some n else mCh f what d n
    rw [(h n (Nat.lt_succ_self n)).1, (h n (Nat.lt_succ_self n)).2, mCh_congr (fun i hi => h i (Nat.lt_succ_of_lt hi))]
theorem mCh_late {f : Nat → Nat → Int32} {what d d0 : Int32} (hd : d0 ≤ d) : ∀ {n : Nat}, (∀ i, i < n → f 13 i ≤ d0) → mCh f what d n = mCh f what d0 n
  | 0, _ => rfl
  | n + 1, h => by
    show (if f 12 n = what ∧ f 13 n ≤ d then some n else mCh f what d n) = if f 12 n = what ∧ f 13 n ≤ d0 then some n else mCh f what d0 n
    have h1 : f 13 n ≤ d0 := h n (Nat.lt_succ_self n)
    have h2 : f 13 n ≤ d := Int32.le_trans h1 hd
    rw [mCh_late hd (fun i hi => h i (Nat.lt_succ_of_lt hi))]
    simp [h1, h2]
theorem mLook_of {f f' : Nat → Nat → Int32} (e : ∀ k, 12 ≤ k → f' k = f k) (what d : Int32) (N : Nat) : (mCh f' what d N).map (fun i => (f' 14 i, f' 15 i, f' 16 i, f' 17 i)) = (mCh f what d N).map (fun i => (f 14 i, f 15 i, f 16 i, f 17 i)) := by
  rw [mCh_congr (f := f) (fun i _ => by rw [e 12 (by omega), e 13 (by omega)]; exact ⟨rfl, rfl⟩), e 14 (by omega), e 15 (by omega), e 16 (by omega), e 17 (by omega)]
abbrev mVal (f : Nat → Nat → Int32) (i : Nat) : Int32 × Int32 × Int32 × Int32 := (f 14 i, f 15 i, f 16 i, f 17 i)
theorem mNote_look {f : Nat → Nat → Int32} {N : Nat} {what d0 on fi la wa : Int32} (hd : ∀ i, i < N → f 13 i ≤ d0) (what' d : Int32) :
    (mCh (mNf f (mNk f what d0 N) what d0 on fi la wa) what' d (mNn f what d0 N)).map (mVal (mNf f (mNk f what d0 N) what d0 on fi la wa)) = if what' = what ∧ d0 ≤ d then some (on, fi, la, wa) else (mCh f what' d N).map (mVal f) := by
  by_cases hK : mNk f what d0 N = N
  · have e1 : mNn f what d0 N = N + 1 := if_pos hK
    rw [e1, hK]
    show (if mNf f N what d0 on fi la wa 12 N = what' ∧ mNf f N what d0 on fi la wa 13 N ≤ d then some N else mCh (mNf f N what d0 on fi la wa) what' d N).map _ = _
    rw [mNf_12, mNf_13, upd_eq, upd_eq]
    by_cases c : what = what' ∧ d0 ≤ d
    · rw [if_pos c, if_pos ⟨c.1.symm, c.2⟩]
      show some (_, _, _, _) = some (_, _, _, _)
      rw [mNf_14, mNf_15, mNf_16, mNf_17, upd_eq, upd_eq, upd_eq, upd_eq]
    · rw [if_neg c, if_neg (fun z => c ⟨z.1.symm, z.2⟩), mCh_congr (f := f) (fun i hi => by rw [mNf_12, mNf_13, upd_ne (by omega), upd_ne (by omega)]; exact ⟨rfl, rfl⟩)]
      cases hc : mCh f what' d N with
      | none => rfl
      | some i =>
        have hi : i ≠ N := by have := (mCh_lt hc).1; omega
        show some (_, _, _, _) = some (_, _, _, _)
        rw [mNf_14, mNf_15, mNf_16, mNf_17, upd_ne hi, upd_ne hi, upd_ne hi, upd_ne hi]
  · have e1 : mNn f what d0 N = N := if_neg hK
    rw [e1]
    obtain ⟨K, hKe⟩ : ∃ K, mNk f what d0 N = K := ⟨_, rfl⟩
    rw [hKe] at hK ⊢
    have hch : mCh f what d0 N = some K ∧ f 13 K = d0 := by
      unfold mNk at hKe
      cases hm : mCh f what d0 N with
      | none => rw [hm] at hKe; exact absurd hKe.symm hK
      | some k =>
        rw [hm] at hKe
        have hKe : (if f 13 k = d0 then k else N) = K := hKe
        by_cases c : f 13 k = d0
        · rw [if_pos c] at hKe
          subst hKe
          exact ⟨rfl, c⟩
        · rw [if_neg c] at hKe
          exact absurd hKe.symm hK
    obtain ⟨hch, h13⟩ := hch
    have h12 := (mCh_lt hch).2.1
    have hfun : ∀ i, i < N → mNf f K what d0 on fi la wa 12 i = f 12 i ∧ mNf f K what d0 on fi la wa 13 i = f 13 i := by
      intro i _
      rw [mNf_12, mNf_13]
      by_cases e : i = K
      · subst e
        rw [upd_eq, upd_eq, h12, h13]
        exact ⟨rfl, rfl⟩
      · rw [upd_ne e, upd_ne e]
        exact ⟨rfl, rfl⟩
    rw [mCh_congr hfun]
    by_cases c : what' = what ∧ d0 ≤ d
    · rw [if_pos c, c.1, mCh_late c.2 hd, hch]
      show some (_, _, _, _) = some (_, _, _, _)
      rw [mNf_14, mNf_15, mNf_16, mNf_17, upd_eq, upd_eq, upd_eq, upd_eq]
    · rw [if_neg c]
      cases hc : mCh f what' d N with
      | none => rfl
      | some i =>
        have hi : i ≠ K := by
          intro e
          subst e
          obtain ⟨-, g1, g2⟩ := mCh_lt hc
          rw [h13] at g2
          exact c ⟨g1.symm.trans h12, g2⟩
        show some (_, _, _, _) = some (_, _, _, _)
        rw [mNf_14, mNf_15, mNf_16, mNf_17, upd_ne hi, upd_ne hi, upd_ne hi, upd_ne hi]
theorem mW_nI (p k : Nat) : mW p k = nI (21 * p + k) := z_lin 21 p k
theorem mW_inj {p k p' k' : Nat} (hp : p < 10) (hk : k ≤ 20) (hp' : p' < 10) (hk' : k' ≤ 20) : mW p' k' = mW p k ↔ p' = p ∧ k' = k := by
  rw [mW_nI, mW_nI, nI_eq (by omega) (by omega)]
  omega
theorem mSim.note {σ : zS} {N : Nat} {v : Nat → Int32} {f : Nat → Nat → Int32} (h : mSim σ N v f) {p k : Nat} (hp : p < 10) (hk : k ≤ 20) (hN : N < 4096) (on fi la wa : Int32) (x : Int32) :
    mSim (sNote σ p k on fi la wa) (mNn f (mW p k) (v 1) N) (va_up (va_up v 0 x) 11 (nI (mNn f (mW p k) (v 1) N))) (mNf f (mNk f (mW p k) (v 1) N) (mW p k) (v 1) on fi la wa) := by
  obtain ⟨⟨e1, e2, e3, e4, e5⟩, h2, h3, h4, h5, h6⟩ := h
  have hle := mNk_le f (mW p k) (v 1) N
  refine ⟨⟨e1, e2, e3, rfl, ?_⟩, ?_, ?_, ?_, ?_, ?_⟩
  · unfold mNn
    split <;> omega
  · intro i hi
    rw [mNf_lo (by omega), mNf_lo (by omega)]
    exact h2 i hi
  · intro q hq
    rw [mNf_lo (by omega), mNf_lo (by omega), mNf_lo (by omega), mNf_lo (by omega)]
    exact h3 q hq
  · intro q t hq ht
    rw [mNf_lo (by omega)]
    exact h4 q t hq ht
  · intro q j d hq hj
    have g := mNote_look (f := f) (N := N) (what := mW p k) (d0 := v 1) (on := on) (fi := fi) (la := la) (wa := wa) (by rw [e1]; exact h6) (mW q j) d
    show (if q = p ∧ j = k ∧ sT σ ≤ d then some (on, fi, la, wa) else sL σ q j d) = _
    refine Eq.trans ?_ g.symm
    rw [← e1]
    by_cases c : (q = p ∧ j = k) ∧ v 1 ≤ d
    · rw [if_pos ⟨c.1.1, c.1.2, c.2⟩, if_pos ⟨(mW_inj hp hk hq hj).mpr c.1, c.2⟩]
    · rw [if_neg (fun z => c ⟨⟨z.1, z.2.1⟩, z.2.2⟩), if_neg (fun z => c ⟨(mW_inj hp hk hq hj).mp z.1, z.2⟩)]
      exact h5 q j d hq hj
  · intro i hi
    show mNf f (mNk f (mW p k) (v 1) N) (mW p k) (v 1) on fi la wa 13 i ≤ sT σ
    rw [mNf_13]
    by_cases e : i = mNk f (mW p k) (v 1) N
    · rw [e, upd_eq, e1]
      exact Int32.le_refl _
    · rw [upd_ne e]
      refine h6 i ?_
      unfold mNn at hi
      split at hi <;> omega
/-- a call's end, on the model's side: code c says which exception; x is the answer where there is none -/
def mPost (G : zG) (H : Heap) (o : Nat) (A : Nat → Nat) (N : Nat) (σ σ1 : zS) (code val : Int32) (r : Option Value) (H1 : Heap) : Prop :=
  ∃ (x : Int32) (N' : Nat) (v : Nat → Int32) (f : Nat → Nat → Int32), r = some (.int x) ∧ mRep G H1 o A v f ∧ mFr o A H H1 ∧ v 0 = code ∧ N' ≤ N + 1 ∧ mSim (if code = 0 then σ1 else σ) N' v f ∧ (code = 0 → x = val)
theorem mPost.no {G : zG} {H H1 : Heap} {o : Nat} {A : Nat → Nat} {N : Nat} {σ σ1 : zS} {code val : Int32} {v : Nat → Int32} {f : Nat → Nat → Int32} {c x : Int32} (hM : mRep G H1 o A (va_up v 0 c) f) (hF : mFr o A H H1) (hS : mSim σ N v f) (hc : code = c) (h0 : ¬ c = 0) : mPost G H o A N σ σ1 code val (some (.int x)) H1 := by
  subst hc
  exact ⟨x, N, _, _, rfl, hM, hF, rfl, by omega, by rw [if_neg h0]; exact hS.th _, fun h => absurd h h0⟩
theorem mPost.yes {G : zG} {H H1 : Heap} {o : Nat} {A : Nat → Nat} {N : Nat} {σ : zS} {code val : Int32} {v : Nat → Int32} {f : Nat → Nat → Int32} {x : Int32} (hM : mRep G H1 o A (va_up v 0 0) f) (hF : mFr o A H H1) (hS : mSim σ N v f) (hc : code = 0) (hx : x = val) : mPost G H o A N σ σ code val (some (.int x)) H1 := by
  subst hc
  exact ⟨x, N, _, _, rfl, hM, hF, rfl, by omega, by rw [if_pos rfl]; exact hS.th _, fun _ => hx⟩
theorem mPost.mut {G : zG} {H H1 : Heap} {o : Nat} {A : Nat → Nat} {N N' : Nat} {σ σ1 : zS} {code val : Int32} {v : Nat → Int32} {f : Nat → Nat → Int32} {x : Int32} (hM : mRep G H1 o A v f) (hF : mFr o A H H1) (h0 : v 0 = 0) (hN : N' ≤ N + 1) (hS : mSim σ1 N' v f) (hc : code = 0) (hx : x = val) : mPost G H o A N σ σ1 code val (some (.int x)) H1 := by
  subst hc
  exact ⟨x, N', _, _, rfl, hM, hF, h0, hN, by rw [if_pos rfl]; exact hS, fun _ => hx⟩
theorem mNn_le (f : Nat → Nat → Int32) (what d : Int32) (N : Nat) : mNn f what d N ≤ N + 1 := by
  unfold mNn
  split <;> omega
theorem mSim.addT {σ : zS} {N : Nat} {v : Nat → Int32} {f : Nat → Nat → Int32} (h : mSim σ N v f) (a b x : Int32) :
    mSim (sAddT σ a b) N (va_up (va_up v 0 x) 2 (nI (sN σ) + 1)) (va_up (va_up f 4 (upd (f 4) (sN σ) a)) 5 (upd (f 5) (sN σ) b)) := by
  obtain ⟨⟨e1, e2, e3, e4, e5⟩, h2, h3, h4, h5, h6⟩ := h
  refine ⟨⟨e1, nI_1 _, e3, e4, e5⟩, ?_, h3, h4, (fun q j d hq hj => (h5 q j d hq hj).trans (mLook_of (fun k hk => by rw [zu_ne (by omega), zu_ne (by omega)]) _ _ _).symm), h6⟩
  intro i hi
  have hi : i < sN σ + 1 := hi
  show upd (f 4) (sN σ) a i = upd (sA σ 0) (sN σ) a i ∧ upd (f 5) (sN σ) b i = upd (sA σ 1) (sN σ) b i
  by_cases e : i = sN σ
  · subst e
    rw [upd_eq, upd_eq, upd_eq, upd_eq]
    exact ⟨rfl, rfl⟩
  · rw [upd_ne e, upd_ne e, upd_ne e, upd_ne e]
    exact h2 i (by omega)
theorem mSim.addP {σ : zS} {N : Nat} {v : Nat → Int32} {f : Nat → Nat → Int32} (h : mSim σ N v f) (c w g k x : Int32) :
    mSim (sAddP σ c w g k) N (va_up (va_up v 0 x) 3 (nI (sP σ) + 1)) (va_up (va_up (va_up (va_up f 6 (upd (f 6) (sP σ) c)) 7 (upd (f 7) (sP σ) w)) 8 (upd (f 8) (sP σ) g)) 9 (upd (f 9) (sP σ) k)) := by
  obtain ⟨⟨e1, e2, e3, e4, e5⟩, h2, h3, h4, h5, h6⟩ := h
  refine ⟨⟨e1, e2, nI_1 _, e4, e5⟩, h2, ?_, h4, (fun q j d hq hj => (h5 q j d hq hj).trans (mLook_of (fun k hk => by rw [zu_ne (by omega), zu_ne (by omega), zu_ne (by omega), zu_ne (by omega)]) _ _ _).symm), h6⟩
  intro i hi
  have hi : i < sP σ + 1 := hi
  show upd (f 6) (sP σ) c i = upd (sA σ 2) (sP σ) c i ∧ upd (f 7) (sP σ) w i = upd (sA σ 3) (sP σ) w i ∧ upd (f 8) (sP σ) g i = upd (sA σ 4) (sP σ) g i ∧ upd (f 9) (sP σ) k i = upd (sA σ 5) (sP σ) k i
  by_cases e : i = sP σ
  · subst e
    simp only [upd_eq, and_self]
  · simp only [upd_ne e]
    exact h3 i (by omega)
theorem mSim.putB {σ : zS} {N : Nat} {v : Nat → Int32} {f : Nat → Nat → Int32} (h : mSim σ N v f) {p t : Nat} (hp : p < 10) (ht : t < 20) (y x : Int32) :
    mSim (sPutB σ p t y) N (va_up v 0 x) (va_up f 10 (upd (f 10) (20 * p + t) y)) := by
  obtain ⟨⟨e1, e2, e3, e4, e5⟩, h2, h3, h4, h5, h6⟩ := h
  refine ⟨⟨e1, e2, e3, e4, e5⟩, h2, h3, ?_, (fun q j d hq hj => (h5 q j d hq hj).trans (mLook_of (fun k hk => by rw [zu_ne (by omega)]) _ _ _).symm), h6⟩
  intro q u hq hu
  show upd (f 10) (20 * p + t) y (20 * q + u) = if q = p ∧ u = t then y else sB σ q u
  by_cases e : q = p ∧ u = t
  · rw [if_pos e, e.1, e.2, upd_eq]
  · rw [if_neg e, upd_ne (by omega)]
    exact h4 q u hq hu
theorem mSim.pass {σ : zS} {N : Nat} {v : Nat → Int32} {f : Nat → Nat → Int32} (h : mSim σ N v f) {y : Int32} (hd : ∀ i, i < N → f 13 i ≤ sT σ + y) (x : Int32) : mSim (sPass σ y) N (va_up (va_up v 0 x) 1 (sT σ + y)) f := by
  obtain ⟨⟨e1, e2, e3, e4, e5⟩, h2, h3, h4, h5, h6⟩ := h
  exact ⟨⟨rfl, e2, e3, e4, e5⟩, h2, h3, h4, h5, hd⟩
