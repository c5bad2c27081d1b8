/-! the ONE abstract state that both sides hold, and what each call answers over it.
σ.1 = (today, titles, packages); σ.2.1: attributes (0 first year, 1 volumes, by title; 2 cost, 3 version, 4 groups, 5 keeps, by package); σ.2.2.1 p t: breaks; σ.2.2.2 p k d: what counts for package p, title k (20: the subscription) on day d: (is it, first, last, wall) -/
abbrev zLk : Type := Option (Int32 × Int32 × Int32 × Int32)
abbrev zS : Type := (Int32 × Nat × Nat) × (Nat → Nat → Int32) × (Nat → Nat → Int32) × (Nat → Nat → Int32 → zLk)
abbrev sT (σ : zS) : Int32 := σ.1.1
abbrev sN (σ : zS) : Nat := σ.1.2.1
abbrev sP (σ : zS) : Nat := σ.1.2.2
abbrev sA (σ : zS) : Nat → Nat → Int32 := σ.2.1
abbrev sB (σ : zS) : Nat → Nat → Int32 := σ.2.2.1
abbrev sL (σ : zS) : Nat → Nat → Int32 → zLk := σ.2.2.2
def sOn (x : zLk) : Bool := match x with
  | none => false
  | some q => !decide (q.1 = 0)
def sHas (σ : zS) (p t : Nat) (y sd day : Int32) : Bool := match sL σ p t sd with
  | none => false
  | some q => !decide (q.1 = 0) && mBt y q.2.1 q.2.2.1 && !decide (day / 360 - q.2.2.2 < y) && sOn (sL σ p 20 sd)
def sKept (σ : zS) (p t : Nat) (y day : Int32) : Bool := !decide (sA σ 5 p = 0) && !decide (day ≤ mLd y) && sHas σ p t y (mLd y) day
def sCov (σ : zS) (p t : Nat) (y day : Int32) : Bool := sHas σ p t y day day || sKept σ p t y day
def sLet (σ : zS) (p : Nat) (g : Int32) : Bool := decide (sA σ 4 p >>> (g &&& 31) &&& 1 = 1)
def sWay (σ : zS) (p t : Nat) (y g day : Int32) : Bool := sLet σ p g && sCov σ p t y day
def sBr (σ : zS) (p t : Nat) : Bool := !decide (sB σ p t ≤ 1)
def sAh (σ : zS) (p q t : Nat) : Bool := if sBr σ p t = sBr σ q t then (if sA σ 2 p = sA σ 2 q then decide (sA σ 3 p < sA σ 3 q) || (decide (sA σ 3 p = sA σ 3 q) && !decide (nI q ≤ nI p)) else !decide (sA σ 2 q ≤ sA σ 2 p)) else sBr σ q t
def sCnt (σ : zS) (t : Nat) (y g day : Int32) : Nat := zCnt (fun p => sWay σ p t y g day) (sP σ)
def sAsk (σ : zS) (y g d : Int32) : Bool := mBt y 0 55 && mBt g 0 3 && mBt d 0 (sT σ)
/-- what holds of every state that a script reaches -/
def sWf (σ : zS) : Prop := (0 ≤ sT σ ∧ sT σ ≤ 20000) ∧ sN σ ≤ 20 ∧ sP σ ≤ 10 ∧
  (∀ i, i < sN σ → (0 ≤ sA σ 0 i ∧ sA σ 0 i ≤ 55) ∧ 1 ≤ sA σ 1 i ∧ sA σ 1 i ≤ 4) ∧
  (∀ p, p < sP σ → (0 ≤ sA σ 4 p ∧ sA σ 4 p ≤ 15) ∧ (sA σ 5 p = 0 ∨ sA σ 5 p = 1)) ∧
  (∀ p t, sP σ ≤ p → sB σ p t = 0) ∧ (∀ p k d, sP σ ≤ p → sL σ p k d = none)
/-- a change of package p, title k, from today on -/
def sNote (σ : zS) (p k : Nat) (on fi la wa : Int32) : zS := (σ.1, σ.2.1, σ.2.2.1, fun p' k' d => if p' = p ∧ k' = k ∧ sT σ ≤ d then some (on, fi, la, wa) else sL σ p' k' d)
def sPutB (σ : zS) (p t : Nat) (x : Int32) : zS := (σ.1, σ.2.1, (fun p' t' => if p' = p ∧ t' = t then x else sB σ p' t'), σ.2.2.2)
def sAddT (σ : zS) (a b : Int32) : zS := ((sT σ, sN σ + 1, sP σ), va_up (va_up (sA σ) 0 (upd (sA σ 0) (sN σ) a)) 1 (upd (sA σ 1) (sN σ) b), σ.2.2)
def sAddP (σ : zS) (c v g k : Int32) : zS := ((sT σ, sN σ, sP σ + 1), va_up (va_up (va_up (va_up (sA σ) 2 (upd (sA σ 2) (sP σ) c)) 3 (upd (sA σ 3) (sP σ) v)) 4 (upd (sA σ 4) (sP σ) g)) 5 (upd (sA σ 5) (sP σ) k), σ.2.2)
def sPass (σ : zS) (d : Int32) : zS := ((sT σ + d, sN σ, sP σ), σ.2)
/-- which exception: its place among those of the method; 0: none -/
abbrev kIf (c : Bool) (a b : Int32) : Int32 := if c then a else b
def kAddT (σ : zS) (a b : Int32) : Int32 := kIf (mBt a 0 55 && mBt b 1 4) (kIf (decide (nI (sN σ) = 20)) 2 0) 1
def kYear (σ : zS) (t w : Int32) : Int32 := kIf (mIs t (nI (sN σ))) (kIf (decide (w < 1) || !decide ((w - 1) / sA σ 1 t.toNatClampNeg ≤ 55 - sA σ 0 t.toNatClampNeg)) 2 0) 1
def kVol (σ : zS) (t y : Int32) : Int32 := kIf (mIs t (nI (sN σ))) (kIf (mBt y (sA σ 0 t.toNatClampNeg) 55) 0 2) 1
def kAddP (σ : zS) (c v g k : Int32) : Int32 := kIf (mBt c 0 1000 && mBt v 0 2 && mBt g 0 15 && mBt k 0 1) (kIf (decide (nI (sP σ) = 10)) 2 0) 1
def kPk (σ : zS) (p : Int32) : Int32 := kIf (mIs p (nI (sP σ))) 0 1
def kPT (σ : zS) (p t : Int32) : Bool := mIs p (nI (sP σ)) && mIs t (nI (sN σ))
def kCome (σ : zS) (p t f l w : Int32) : Int32 := kIf (kPT σ p t) (kIf (mBt f 0 55 && mBt l f 55 && mBt w 0 20) 0 2) 1
def kGo (σ : zS) (p t : Int32) : Int32 := kIf (kPT σ p t) (kIf (sOn (sL σ p.toNatClampNeg t.toNatClampNeg (sT σ))) 0 2) 1
def kPass (σ : zS) (d : Int32) : Int32 := kIf (mBt d 1 20000) (kIf (decide (sT σ + d ≤ 20000)) 0 2) 1
def kSub (σ : zS) (p d : Int32) : Int32 := kIf (mIs p (nI (sP σ))) (kIf (mBt d 0 (sT σ)) 0 2) 1
def kIn (σ : zS) (p t d : Int32) : Int32 := kIf (kPT σ p t) (kIf (mBt d 0 (sT σ)) 0 2) 1
def kRep (σ : zS) (p t : Int32) : Int32 := kIf (kPT σ p t) 0 1
def kCov (σ : zS) (p t y g d : Int32) : Int32 := kIf (kPT σ p t) (kIf (sAsk σ y g d) 0 2) 1
def kWays (σ : zS) (t y g d : Int32) : Int32 := kIf (mIs t (nI (sN σ))) (kIf (sAsk σ y g d) 0 2) 1
def kAt (σ : zS) (i t y g d : Int32) : Int32 := kIf (sAsk σ y g d) (kIf (mIs t (nI (sN σ)) && mIs i (nI (sCnt σ t.toNatClampNeg y g d))) 0 2) 1
def kTG (σ : zS) (t g : Int32) : Int32 := kIf (mIs t (nI (sN σ))) (kIf (mBt g 0 3) 0 2) 1
/-- how many of the ways to an article are ahead of package p -/
def sRank (σ : zS) (p t : Nat) (y g d : Int32) : Nat := zCnt (fun q => !decide (nI q = nI p) && sAh σ q p t && sWay σ q t y g d) (sP σ)
/-- the way at a place -/
def sAtOk (σ : zS) (i : Int32) (t : Nat) (y g d : Int32) (p : Nat) : Bool := sWay σ p t y g d && decide (nI (sRank σ p t y g d) = i)
def sGapAt (σ : zS) (t : Nat) (g y : Int32) : Bool := decide (sCnt σ t y g (sT σ) = 0)
def sDblAt (σ : zS) (t : Nat) (g y : Int32) : Bool := decide (2 ≤ sCnt σ t y g (sT σ))
/-- the first of n years from y on with no way, or -1 -/
def sGap (σ : zS) (t : Nat) (g : Int32) : Nat → Nat → Int32
  | _, 0 => -1
  | y, n + 1 => if sGapAt σ t g (nI y) then nI y else sGap σ t g (y + 1) n
/-- how many of n years from y on have two ways -/
def sDbl (σ : zS) (t : Nat) (g : Int32) : Nat → Nat → Nat
  | _, 0 => 0
  | y, n + 1 => (if sDblAt σ t g (nI y) then 1 else 0) + sDbl σ t g (y + 1) n
/-- a title's first year, this year, and how many years there are from that to this -/
def sF (σ : zS) (t : Nat) : Nat := (sA σ 0 t).toNatClampNeg
def sY (σ : zS) : Nat := (sT σ / 360).toNatClampNeg
def sYrs (σ : zS) (t : Nat) : Nat := sY σ + 1 - sF σ t
/-- a year's groups for whom package p alone gives way -/
def sLost (σ : zS) (p t : Nat) (y g : Int32) : Bool := sWay σ p t y g (sT σ) && !sKept σ p t y (sT σ) && decide (sCnt σ t y g (sT σ) = 1)
def zAll (w : Nat → Bool) : Nat → Bool
  | 0 => true
  | n + 1 => zAll w n && w n
def sNeed (σ : zS) (p : Nat) : Bool := zAll (fun t => zAll (fun n => zAll (fun g => !sLost σ p t (nI (sF σ t + n)) (nI g)) 4) (sYrs σ t)) (sN σ)
/-- the same year, as the model has it -/
def sOkY (σ : zS) (p t : Nat) (y : Int32) : Bool := !(sHas σ p t y (sT σ) (sT σ) && !sKept σ p t y (sT σ)) || decide (sA σ 4 p &&& (zOr (fun k => !decide (nI k = nI p) && sCov σ k t y (sT σ)) (sA σ 4) (sP σ) ^^^ (-1)) = 0)
def sNeedM (σ : zS) (p : Nat) : Bool := zAll (fun t => zAll (fun n => sOkY σ p t (nI (sF σ t + n))) (sYrs σ t)) (sN σ)
/-- the last of n with a property, or -1 -/
def zLast (w : Nat → Bool) : Nat → Int32
  | 0 => -1
  | n + 1 => if w n then nI n else zLast w n
theorem sWf.t {σ : zS} (h : sWf σ) : ∃ T : Nat, T ≤ 20000 ∧ sT σ = nI T := by
  obtain ⟨j, h1, h2⟩ := nI_of2 (x := sT σ) (M := 20000) (n := 20000) (by decide) (Int32.not_lt.mpr h.1.1) h.1.2
  exact ⟨j, h1, h2⟩
theorem sWf.y {σ : zS} (h : sWf σ) : sY σ ≤ 55 ∧ sT σ / 360 = nI (sY σ) := by
  obtain ⟨T, h1, h2⟩ := h.t
  have e : sT σ / 360 = nI (T / 360) := by
    rw [h2]
    exact pk_div (d := 360) (by omega) (by omega) (by omega)
  have e2 : sY σ = T / 360 := by
    unfold sY
    rw [e, nI_clamp (by omega)]
  rw [e2]
  exact ⟨by omega, e⟩
theorem sWf.f {σ : zS} (h : sWf σ) {i : Nat} (hi : i < sN σ) : sF σ i ≤ 55 ∧ sA σ 0 i = nI (sF σ i) := by
  obtain ⟨⟨h1, h2⟩, -⟩ := h.2.2.2.1 i hi
  obtain ⟨j, h3, h4⟩ := nI_of2 (x := sA σ 0 i) (M := 55) (n := 55) (by decide) (Int32.not_lt.mpr h1) h2
  have e : sF σ i = j := by
    unfold sF
    rw [h4, nI_clamp (by omega)]
  rw [e]
  exact ⟨h3, h4⟩
/-! the model holds σ -/
def mSim (σ : zS) (N : Nat) (v : Nat → Int32) (f : Nat → Nat → Int32) : Prop :=
  (v 1 = sT σ ∧ v 2 = nI (sN σ) ∧ v 3 = nI (sP σ) ∧ v 11 = nI N ∧ N ≤ 4096) ∧
  (∀ i, i < sN σ → f 4 i = sA σ 0 i ∧ f 5 i = sA σ 1 i) ∧
  (∀ p, p < sP σ → f 6 p = sA σ 2 p ∧ f 7 p = sA σ 3 p ∧ f 8 p = sA σ 4 p ∧ f 9 p = sA σ 5 p) ∧
  (∀ p t, p < 10 → t < 20 → f 10 (20 * p + t) = sB σ p t) ∧
  (∀ p k d, p < 10 → k ≤ 20 → sL σ p k d = (mCh f (mW p k) d N).map (fun i => (f 14 i, f 15 i, f 16 i, f 17 i))) ∧
  ∀ i, i < N → f 13 i ≤ sT σ
/-- the model's scalars, as σ has them -/
def sV (σ : zS) (N : Nat) (th : Int32) : Nat → Int32 := fun k => match k with
  | 0 => th
  | 1 => sT σ
  | 2 => nI (sN σ)
  | 3 => nI (sP σ)
  | _ => nI N
theorem mRep.canon {G : zG} {H : Heap} {o : Nat} {A : Nat → Nat} {σ : zS} {N : Nat} {v : Nat → Int32} {f : Nat → Nat → Int32} (h : mRep G H o A v f) (hS : mSim σ N v f) : mRep G H o A (sV σ N (v 0)) f ∧ mSim σ N (sV σ N (v 0)) f := by
  obtain ⟨⟨e1, e2, e3, e4, e5⟩, h2⟩ := hS
  refine ⟨⟨?_, h.2⟩, ⟨rfl, rfl, rfl, rfl, e5⟩, h2⟩
  have e : mfs A (sV σ N (v 0)) = mfs A v := by
    show [_, _, _, _, _, _, _, _, _, _, _, _, _, _, _, _, _, _] = [_, _, _, _, _, _, _, _, _, _, _, _, _, _, _, _, _, _]
    rw [e1, e2, e3, e4]
    rfl
  rw [e]
  exact h.1
theorem mSim.th {σ : zS} {N : Nat} {v : Nat → Int32} {f : Nat → Nat → Int32} (h : mSim σ N v f) (x : Int32) : mSim σ N (va_up v 0 x) f := h
theorem mOn_s {σ : zS} {N : Nat} {v : Nat → Int32} {f : Nat → Nat → Int32} (h : mSim σ N v f) {p k : Nat} (hp : p < 10) (hk : k ≤ 20) (d : Int32) : mOn f (mCh f (mW p k) d N) = sOn (sL σ p k d) := by
  rw [h.2.2.2.2.1 p k d hp hk]
  cases mCh f (mW p k) d N <;> rfl
theorem mSb_eq (p : Nat) : mSb p = mW p 20 := rfl
theorem mHas_s {σ : zS} {N : Nat} {v : Nat → Int32} {f : Nat → Nat → Int32} (h : mSim σ N v f) {p t : Nat} (hp : p < 10) (ht : t < 20) (y sd day : Int32) : mHas f N p t y sd day = sHas σ p t y sd day := by
  unfold mHas sHas
  rw [mSb_eq, mOn_s h hp (Nat.le_refl 20), h.2.2.2.2.1 p t sd hp (by omega)]
  cases mCh f (mW p t) sd N <;> rfl
theorem mKept_s {σ : zS} {N : Nat} {v : Nat → Int32} {f : Nat → Nat → Int32} (h : mSim σ N v f) {p t : Nat} (hp : p < sP σ) (hp1 : p < 10) (ht : t < 20) (y day : Int32) : mKept f N p t y day = sKept σ p t y day := by
  unfold mKept sKept
  rw [mHas_s h hp1 ht, (h.2.2.1 p hp).2.2.2]
theorem mCov_s {σ : zS} {N : Nat} {v : Nat → Int32} {f : Nat → Nat → Int32} (h : mSim σ N v f) {p t : Nat} (hp : p < sP σ) (hp1 : p < 10) (ht : t < 20) (y day : Int32) : mCov f N p t y day = sCov σ p t y day := by
  unfold mCov sCov
  rw [mHas_s h hp1 ht, mKept_s h hp hp1 ht]
theorem mLet_s {σ : zS} {N : Nat} {v : Nat → Int32} {f : Nat → Nat → Int32} (h : mSim σ N v f) {p : Nat} (hp : p < sP σ) (g : Int32) : mLet f p g = sLet σ p g := by
  unfold mLet sLet
  rw [(h.2.2.1 p hp).2.2.1]
theorem mWay_s {σ : zS} {N : Nat} {v : Nat → Int32} {f : Nat → Nat → Int32} (h : mSim σ N v f) {p t : Nat} (hp : p < sP σ) (hp1 : p < 10) (ht : t < 20) (y g day : Int32) : mWay f N p t y g day = sWay σ p t y g day := by
  unfold mWay sWay
  rw [mLet_s h hp, mCov_s h hp hp1 ht]
theorem zCnt_congr {w w' : Nat → Bool} : ∀ {n : Nat}, (∀ k, k < n → w k = w' k) → zCnt w n = zCnt w' n
  | 0, _ => rfl
  | n + 1, h => by
    show zCnt w n + (if w n then 1 else 0) = zCnt w' n + (if w' n then 1 else 0)
    rw [zCnt_congr (fun k hk => h k (Nat.lt_succ_of_lt hk)), h n (Nat.lt_succ_self n)]
theorem mCnt_s {σ : zS} {N : Nat} {v : Nat → Int32} {f : Nat → Nat → Int32} (h : mSim σ N v f) (hP : sP σ ≤ 10) {t : Nat} (ht : t < 20) (y g day : Int32) : zCnt (fun p => mWay f N p t y g day) (sP σ) = sCnt σ t y g day :=
  zCnt_congr (fun k hk => mWay_s h hk (by omega) ht y g day)
theorem mAh_s {σ : zS} {N : Nat} {v : Nat → Int32} {f : Nat → Nat → Int32} (h : mSim σ N v f) {p q t : Nat} (hp : p < sP σ) (hq : q < sP σ) (hP : sP σ ≤ 10) (ht : t < 20) : mAh f p q t = sAh σ p q t := by
  unfold mAh sAh mBr sBr
  rw [(h.2.2.1 p hp).1, (h.2.2.1 p hp).2.1, (h.2.2.1 q hq).1, (h.2.2.1 q hq).2.1, h.2.2.2.1 p t (by omega) ht, h.2.2.2.1 q t (by omega) ht]
/-- an index that passed the test is a number below -/
theorem mIs_nI {t : Int32} {n : Nat} (hn : n < 2 ^ 31) (h : mIs t (nI n) = true) : ∃ j : Nat, j < n ∧ t = nI j := by
  simp only [mIs, Bool.and_eq_true, Bool.not_eq_true', decide_eq_false_iff_not] at h
  obtain ⟨j, hj, -, rfl, -⟩ : ∃ j : Nat, j < n ∧ True ∧ t = nI j ∧ True := by
    obtain ⟨j, h1, h2⟩ := nI_of h.1
    refine ⟨j, ?_, trivial, h2, trivial⟩
    rcases Nat.lt_or_ge j n with g | g
    · exact g
    · exact absurd (by rw [h2]; exact nI_le g h1) h.2
  exact ⟨j, hj, rfl⟩
theorem nI_is {j n : Nat} (h : j < n) (hn : n < 2 ^ 31) : mIs (nI j) (nI n) = true := by
  simp only [mIs, Bool.and_eq_true, Bool.not_eq_true', decide_eq_false_iff_not]
  exact ⟨nI_pos (by omega), nI_ge h hn⟩
