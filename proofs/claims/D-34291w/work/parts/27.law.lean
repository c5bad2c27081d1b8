/-! plain laws: what a script reaches is well formed; both tests of a needless package are the same -/
theorem zAll_iff {w : Nat → Bool} : ∀ {n : Nat}, zAll w n = true ↔ ∀ k, k < n → w k = true
  | 0 => ⟨fun _ k hk => absurd hk (Nat.not_lt_zero k), fun _ => rfl⟩
  | n + 1 => by
    show (zAll w n && w n) = true ↔ _
    rw [Bool.and_eq_true, zAll_iff]
    exact ⟨fun h k hk => by
      rcases Nat.lt_or_ge k n with g | g
      · exact h.1 k g
      · rw [show k = n by omega]; exact h.2, fun h => ⟨fun k hk => h k (by omega), h n (by omega)⟩⟩
theorem zCnt_0 {w : Nat → Bool} : ∀ {n : Nat}, zCnt w n = 0 ↔ ∀ k, k < n → w k = false
  | 0 => ⟨fun _ k hk => absurd hk (Nat.not_lt_zero k), fun _ => rfl⟩
  | n + 1 => by
    show zCnt w n + (if w n then 1 else 0) = 0 ↔ _
    have ih := zCnt_0 (w := w) (n := n)
    constructor
    · intro h k hk
      have h1 : zCnt w n = 0 := by omega
      rcases Nat.lt_or_ge k n with g | g
      · exact ih.mp h1 k g
      · rw [show k = n by omega]
        cases c : w n with
        | false => rfl
        | true => rw [c] at h; simp at h
    · intro h
      rw [ih.mpr (fun k hk => h k (by omega)), h n (by omega)]
      rfl
theorem zCnt_but {w : Nat → Bool} {p : Nat} : ∀ {n : Nat}, p < n → zCnt w n = zCnt (fun q => !decide (q = p) && w q) n + (if w p then 1 else 0)
  | 0, h => absurd h (Nat.not_lt_zero p)
  | n + 1, h => by
    show zCnt w n + (if w n then 1 else 0) = zCnt (fun q => !decide (q = p) && w q) n + (if (!decide (n = p) && w n) then 1 else 0) + (if w p then 1 else 0)
    rcases Nat.lt_or_ge p n with g | g
    · rw [zCnt_but g, decide_eq_false (show ¬ n = p by omega)]
      simp only [Bool.not_false, Bool.true_and]
      omega
    · have e : p = n := by omega
      subst e
      rw [decide_eq_true rfl]
      simp only [Bool.not_true, Bool.false_and, Bool.false_eq_true, if_false, Nat.add_zero]
      rw [zCnt_congr (w := w) (w' := fun q => !decide (q = p) && w q) (fun k hk => by rw [decide_eq_false (show ¬ k = p by omega)]; rfl)]
/-- a bit -/
def zBit (x g : Int32) : Bool := decide (x >>> (g &&& 31) &&& 1 = 1)
theorem zBit_or : ∀ a b : Fin 16, nI a.val ||| nI b.val = nI (a.val ||| b.val) ∧ a.val ||| b.val < 16 := by decide +kernel
theorem zBit_or2 : ∀ a b : Fin 16, ∀ g : Fin 4, zBit (nI a.val ||| nI b.val) (nI g.val) = (zBit (nI a.val) (nI g.val) || zBit (nI b.val) (nI g.val)) := by decide +kernel
theorem zBit_z : ∀ g : Fin 4, zBit 0 (nI g.val) = false := by decide +kernel
theorem zBit_sub : ∀ a b : Fin 16, (nI a.val &&& (nI b.val ^^^ (-1)) = 0) ↔ ∀ g : Fin 4, zBit (nI a.val) (nI g.val) = true → zBit (nI b.val) (nI g.val) = true := by decide +kernel
theorem zOr_bit {w : Nat → Bool} {f : Nat → Int32} : ∀ {n : Nat}, (∀ k, k < n → ∃ a : Nat, a < 16 ∧ f k = nI a) → (∃ b : Nat, b < 16 ∧ zOr w f n = nI b) ∧ ∀ g, g < 4 → (zBit (zOr w f n) (nI g) = true ↔ ∃ k, k < n ∧ w k = true ∧ zBit (f k) (nI g) = true)
  | 0, _ => ⟨⟨0, by omega, rfl⟩, fun g hg => ⟨fun h => absurd ((zBit_z ⟨g, hg⟩).symm.trans h) (by decide), fun ⟨k, h, _⟩ => absurd h (Nat.not_lt_zero k)⟩⟩
  | n + 1, hf => by
    obtain ⟨⟨b, hb, eb⟩, hg⟩ := zOr_bit (w := w) (f := f) (n := n) (fun k hk => hf k (by omega))
    obtain ⟨a, ha, ea⟩ := hf n (by omega)
    have e : zOr w f (n + 1) = zOr w f n ||| (if w n then f n else 0) := rfl
    cases c : w n with
    | false =>
      rw [c] at e
      have e : zOr w f (n + 1) = nI b ||| nI 0 := by rw [e, eb]; rfl
      have o1 := zBit_or ⟨b, hb⟩ ⟨0, by omega⟩
      refine ⟨⟨b ||| 0, o1.2, e.trans o1.1⟩, fun g h4 => ?_⟩
      rw [e, zBit_or2 ⟨b, hb⟩ ⟨0, by omega⟩ ⟨g, h4⟩, show zBit (nI 0) (nI g) = false from zBit_z ⟨g, h4⟩, Bool.or_false, ← eb, hg g h4]
      exact ⟨fun ⟨k, h1, h2⟩ => ⟨k, by omega, h2⟩, fun ⟨k, h1, h2, h3⟩ => ⟨k, by
        rcases Nat.lt_or_ge k n with z | z
        · exact z
        · rw [show k = n by omega, c] at h2
          exact absurd h2 (by decide), h2, h3⟩⟩
    | true =>
      rw [c] at e
      have e : zOr w f (n + 1) = nI b ||| nI a := by rw [e, eb, ← ea]; rfl
      have o1 := zBit_or ⟨b, hb⟩ ⟨a, ha⟩
      refine ⟨⟨b ||| a, o1.2, e.trans o1.1⟩, fun g h4 => ?_⟩
      rw [e, zBit_or2 ⟨b, hb⟩ ⟨a, ha⟩ ⟨g, h4⟩, Bool.or_eq_true, ← eb, hg g h4, ← ea]
      constructor
      · rintro (⟨k, h1, h2⟩ | h)
        · exact ⟨k, by omega, h2⟩
        · exact ⟨n, by omega, c, h⟩
      · rintro ⟨k, h1, h2, h3⟩
        rcases Nat.lt_or_ge k n with z | z
        · exact Or.inl ⟨k, z, h2, h3⟩
        · rw [show k = n by omega] at h3
          exact Or.inr h3
theorem sWf.g {σ : zS} (h : sWf σ) {p : Nat} (hp : p < sP σ) : ∃ a : Nat, a < 16 ∧ sA σ 4 p = nI a := by
  obtain ⟨⟨h1, h2⟩, -⟩ := h.2.2.2.2.1 p hp
  obtain ⟨j, h3, h4⟩ := nI_of2 (x := sA σ 4 p) (M := 15) (n := 15) (by decide) (Int32.not_lt.mpr h1) h2
  exact ⟨j, by omega, h4⟩
theorem sLet_bit {σ : zS} {p : Nat} {g : Int32} : sLet σ p g = zBit (sA σ 4 p) g := rfl
theorem sOk_y {σ : zS} (h : sWf σ) {p : Nat} (hp : p < sP σ) (t : Nat) (y : Int32) : zAll (fun g => !sLost σ p t y (nI g)) 4 = sOkY σ p t y := by
  have hP := h.2.2.1
  rw [Bool.eq_iff_iff, zAll_iff]
  have hbit := zOr_bit (w := fun k => !decide (nI k = nI p) && sCov σ k t y (sT σ)) (f := sA σ 4) (n := sP σ) (fun k hk => h.g hk)
  obtain ⟨⟨b, hb, eb⟩, hg⟩ := hbit
  obtain ⟨a, ha, ea⟩ := h.g hp
  have hsub := zBit_sub ⟨a, ha⟩ ⟨b, hb⟩
  have hsub : (nI a &&& (nI b ^^^ (-1)) = 0) ↔ ∀ g : Fin 4, zBit (nI a) (nI g.val) = true → zBit (nI b) (nI g.val) = true := hsub
  rw [← ea, ← eb] at hsub
  have hl : ∀ g, g < 4 → ((!sLost σ p t y (nI g)) = true ↔ (sCov σ p t y (sT σ) = true → sKept σ p t y (sT σ) = false → zBit (sA σ 4 p) (nI g) = true → zBit (zOr (fun k => !decide (nI k = nI p) && sCov σ k t y (sT σ)) (sA σ 4) (sP σ)) (nI g) = true)) := by
    intro g h4
    rw [hg g h4]
    have hc := zCnt_but (w := fun q => sWay σ q t y (nI g) (sT σ)) hp
    have hc : sCnt σ t y (nI g) (sT σ) = zCnt (fun q => !decide (q = p) && sWay σ q t y (nI g) (sT σ)) (sP σ) + (if sWay σ p t y (nI g) (sT σ) then 1 else 0) := hc
    have hz := zCnt_0 (w := fun q => !decide (q = p) && sWay σ q t y (nI g) (sT σ)) (n := sP σ)
    have hw : sWay σ p t y (nI g) (sT σ) = (zBit (sA σ 4 p) (nI g) && sCov σ p t y (sT σ)) := rfl
    unfold sLost
    rw [hc, hw]
    cases c1 : zBit (sA σ 4 p) (nI g) with
    | false => simp
    | true =>
      cases c2 : sCov σ p t y (sT σ) with
      | false => simp
      | true =>
        cases c3 : sKept σ p t y (sT σ) with
        | true => simp
        | false =>
          simp only [Bool.and_self, Bool.not_false, Bool.true_and, if_true, Bool.not_eq_true', decide_eq_false_iff_not, forall_const]
          have e9 : (zCnt (fun q => !decide (q = p) && sWay σ q t y (nI g) (sT σ)) (sP σ) + 1 = 1) ↔ zCnt (fun q => !decide (q = p) && sWay σ q t y (nI g) (sT σ)) (sP σ) = 0 := by omega
          rw [e9, hz]
          constructor
          · intro hn
            apply Classical.byContradiction
            intro hx
            refine hn (fun q hq => ?_)
            apply Bool.eq_false_iff.mpr
            intro hq1
            simp only [Bool.and_eq_true, Bool.not_eq_true', decide_eq_false_iff_not] at hq1
            have hq2 : (zBit (sA σ 4 q) (nI g) && sCov σ q t y (sT σ)) = true := hq1.2
            rw [Bool.and_eq_true] at hq2
            refine hx ⟨q, hq, ?_, hq2.1⟩
            simp only [Bool.and_eq_true, Bool.not_eq_true', decide_eq_false_iff_not]
            exact ⟨fun z => hq1.1 ((nI_eq (by omega) (by omega)).mp z), hq2.2⟩
          · rintro ⟨q, hq, h1, h2⟩ hall
            simp only [Bool.and_eq_true, Bool.not_eq_true', decide_eq_false_iff_not] at h1
            have h9 := hall q hq
            have h8 : (!decide (q = p) && (zBit (sA σ 4 q) (nI g) && sCov σ q t y (sT σ))) = false := h9
            rw [h2, h1.2, decide_eq_false (fun z => h1.1 (by rw [z]))] at h8
            exact absurd h8 (by decide)
  have hl2 : (∀ k, k < 4 → (!sLost σ p t y (nI k)) = true) ↔ (sCov σ p t y (sT σ) = true → sKept σ p t y (sT σ) = false → sA σ 4 p &&& (zOr (fun k => !decide (nI k = nI p) && sCov σ k t y (sT σ)) (sA σ 4) (sP σ) ^^^ (-1)) = 0) := by
    rw [hsub]
    exact ⟨fun z c1 c2 g => (hl g.val g.isLt).mp (z g.val g.isLt) c1 c2, fun z k hk => (hl k hk).mpr (fun c1 c2 => z c1 c2 ⟨k, hk⟩)⟩
  rw [hl2]
  unfold sOkY sCov
  cases c1 : sHas σ p t y (sT σ) (sT σ) <;> cases c2 : sKept σ p t y (sT σ) <;> simp
theorem sNeed_eq {σ : zS} (h : sWf σ) {p : Nat} (hp : p < sP σ) : sNeed σ p = sNeedM σ p := by
  unfold sNeed sNeedM
  rw [show (fun t => zAll (fun n => zAll (fun g => !sLost σ p t (nI (sF σ t + n)) (nI g)) 4) (sYrs σ t)) = fun t => zAll (fun n => sOkY σ p t (nI (sF σ t + n))) (sYrs σ t) from funext fun t => by
    rw [show (fun n => zAll (fun g => !sLost σ p t (nI (sF σ t + n)) (nI g)) 4) = fun n => sOkY σ p t (nI (sF σ t + n)) from funext fun n => sOk_y h hp t _]]
/-- what a call leaves is well formed -/
theorem kIf_0 {c : Bool} {a b : Int32} (hb : b ≠ 0) (h : kIf c a b = 0) : c = true ∧ a = 0 := by
  cases c with
  | true => exact ⟨rfl, h⟩
  | false => exact absurd h hb
theorem mBt_le {x a b : Int32} (h : mBt x a b = true) : a ≤ x ∧ x ≤ b := by
  simp only [mBt, Bool.and_eq_true, Bool.not_eq_true', decide_eq_false_iff_not] at h
  exact ⟨Int32.not_lt.mp h.1, Int32.not_lt.mp h.2⟩
theorem sWf.note {σ : zS} (h : sWf σ) {p k : Nat} (hp : p < sP σ) (on fi la wa : Int32) : sWf (sNote σ p k on fi la wa) :=
  ⟨h.1, h.2.1, h.2.2.1, h.2.2.2.1, h.2.2.2.2.1, h.2.2.2.2.2.1, fun p' k' d hp' => (if_neg (fun z => by have hp' : sP σ ≤ p' := hp'; omega)).trans (h.2.2.2.2.2.2 p' k' d hp')⟩
theorem sWf.putB {σ : zS} (h : sWf σ) {p t : Nat} (hp : p < sP σ) (x : Int32) : sWf (sPutB σ p t x) :=
  ⟨h.1, h.2.1, h.2.2.1, h.2.2.2.1, h.2.2.2.2.1, fun p' t' hp' => (if_neg (fun z => by have hp' : sP σ ≤ p' := hp'; omega)).trans (h.2.2.2.2.2.1 p' t' hp'), h.2.2.2.2.2.2⟩
theorem sWf.addT {σ : zS} (h : sWf σ) {a b : Int32} (hk : kAddT σ a b = 0) : sWf (sAddT σ a b) := by
  obtain ⟨h1, h2⟩ := kIf_0 (by decide) hk
  have h3 : ¬ nI (sN σ) = 20 := fun z => by
    rw [decide_eq_true z] at h2
    exact absurd h2 (by decide)
  have h4 : sN σ < 20 := by
    rcases Nat.lt_or_ge (sN σ) 20 with g | g
    · exact g
    · exact absurd (by rw [show sN σ = 20 from Nat.le_antisymm h.2.1 g]; rfl) h3
  rw [Bool.and_eq_true] at h1
  refine ⟨h.1, h4, h.2.2.1, fun i hi => ?_, h.2.2.2.2.1, h.2.2.2.2.2⟩
  have hi : i < sN σ + 1 := hi
  rcases Nat.lt_or_ge i (sN σ) with g | g
  · have e3 : sA (sAddT σ a b) 0 i = sA σ 0 i := upd_ne (by omega)
    have e4 : sA (sAddT σ a b) 1 i = sA σ 1 i := upd_ne (by omega)
    rw [e3, e4]
    exact h.2.2.2.1 i g
  · have e : i = sN σ := by omega
    subst e
    have e3 : sA (sAddT σ a b) 0 (sN σ) = a := upd_eq
    have e4 : sA (sAddT σ a b) 1 (sN σ) = b := upd_eq
    rw [e3, e4]
    exact ⟨mBt_le h1.1, mBt_le h1.2⟩
theorem sWf.addP {σ : zS} (h : sWf σ) {c v g k : Int32} (hk : kAddP σ c v g k = 0) : sWf (sAddP σ c v g k) := by
  obtain ⟨h1, h2⟩ := kIf_0 (by decide) hk
  have h3 : ¬ nI (sP σ) = 10 := fun z => by
    rw [decide_eq_true z] at h2
    exact absurd h2 (by decide)
  have h4 : sP σ < 10 := by
    rcases Nat.lt_or_ge (sP σ) 10 with g | g
    · exact g
    · exact absurd (by rw [show sP σ = 10 from Nat.le_antisymm h.2.2.1 g]; rfl) h3
  simp only [Bool.and_eq_true] at h1
  refine ⟨h.1, h.2.1, h4, h.2.2.2.1, fun i hi => ?_, fun p t hp => h.2.2.2.2.2.1 p t (by have hp : sP σ + 1 ≤ p := hp; omega), fun p k d hp => h.2.2.2.2.2.2 p k d (by have hp : sP σ + 1 ≤ p := hp; omega)⟩
  have hi : i < sP σ + 1 := hi
  rcases Nat.lt_or_ge i (sP σ) with z | z
  · have e3 : sA (sAddP σ c v g k) 4 i = sA σ 4 i := upd_ne (by omega)
    have e4 : sA (sAddP σ c v g k) 5 i = sA σ 5 i := upd_ne (by omega)
    rw [e3, e4]
    exact h.2.2.2.2.1 i z
  · have e : i = sP σ := by omega
    subst e
    have e3 : sA (sAddP σ c v g k) 4 (sP σ) = g := upd_eq
    have e4 : sA (sAddP σ c v g k) 5 (sP σ) = k := upd_eq
    rw [e3, e4]
    refine ⟨mBt_le h1.1.2, ?_⟩
    obtain ⟨g1, g2⟩ := mBt_le h1.2
    obtain ⟨j, hj, rfl⟩ := nI_of2 (x := k) (M := 1) (n := 1) (by decide) (Int32.not_lt.mpr g1) g2
    rcases j with _ | _ | j
    · exact Or.inl rfl
    · exact Or.inr rfl
    · omega
theorem sWf.pass {σ : zS} (h : sWf σ) {d : Int32} (hk : kPass σ d = 0) : sWf (sPass σ d) := by
  obtain ⟨h1, h2⟩ := kIf_0 (by decide) hk
  have h3 : sT σ + d ≤ 20000 := by
    apply Classical.byContradiction
    intro z
    rw [decide_eq_false z] at h2
    exact absurd h2 (by decide)
  exact ⟨⟨Int32.le_trans h.1.1 (zle_add h.1.2 h1), h3⟩, h.2⟩
