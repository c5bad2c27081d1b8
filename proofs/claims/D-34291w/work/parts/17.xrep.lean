/-! the component (LinkResolver): its picture. R: a role for every address (0: not the component's): (1,0,0) the resolver, (2,0,0) the titles' list, (7,0,0) the packages' list, (3,j,0) package j's subscriptions, (4,j,0) its holdings by titles, (5,j,k) its holdings of title k, (6,j,0) its breaks, (9,0,0) what never changes -/
abbrev xRo : Type := Nat → Nat × Nat × Nat
abbrev xQ : Type := Nat → Int32 × Int32 × Int32 × Int32 × Int32
/-- what counts on day d of n changes q in their order -/
def xFold (q : xQ) : Nat → Int32 → zLk
  | 0, _ => none
  | n + 1, d => if (q n).1 ≤ d then some (q n).2 else xFold q n d
def xVal (x : zLk) : Int32 := match x with
  | none => 0
  | some q => q.1
/-- .. and where it lies -/
def xAd (es : List Nat) (q : xQ) (d : Int32) : Nat → Option Nat
  | 0 => none
  | n + 1 => if (q n).1 ≤ d then es[n]? else xAd es q d n
theorem xVal_01 {q : xQ} (hb : ∀ i, (q i).2.1 = 0 ∨ (q i).2.1 = 1) : ∀ (n : Nat) (d : Int32), xVal (xFold q n d) = 0 ∨ xVal (xFold q n d) = 1
  | 0, _ => Or.inl rfl
  | n + 1, d => by
    show xVal (if (q n).1 ≤ d then some (q n).2 else xFold q n d) = 0 ∨ xVal (if (q n).1 ≤ d then some (q n).2 else xFold q n d) = 1
    split
    · exact hb n
    · exact xVal_01 hb n d
theorem xVal_zb {x : zLk} (h : xVal x = 0 ∨ xVal x = 1) : xVal x = zb (sOn x) := by
  cases x with
  | none => rfl
  | some q =>
    show q.1 = zb (!decide (q.1 = 0))
    rcases h with h | h
    · have h : q.1 = 0 := h
      rw [h]
      rfl
    · have h : q.1 = 1 := h
      rw [h]
      rfl
theorem xAd_none {es : List Nat} {q : xQ} {d : Int32} : ∀ {n : Nat}, n ≤ es.length → xAd es q d n = none → xFold q n d = none
  | 0, _, _ => rfl
  | n + 1, hn, h => by
    have h : (if (q n).1 ≤ d then es[n]? else xAd es q d n) = none := h
    show (if (q n).1 ≤ d then some (q n).2 else xFold q n d) = none
    by_cases c : (q n).1 ≤ d
    · rw [if_pos c, List.getElem?_eq_getElem hn] at h
      cases h
    · rw [if_neg c] at h ⊢
      exact xAd_none (by omega) h
theorem xAd_some {es : List Nat} {q : xQ} {d : Int32} {a : Nat} : ∀ {n : Nat}, xAd es q d n = some a → ∃ i, es[i]? = some a ∧ xFold q n d = some (q i).2
  | 0, h => nomatch h
  | n + 1, h => by
    have h : (if (q n).1 ≤ d then es[n]? else xAd es q d n) = some a := h
    show ∃ i, es[i]? = some a ∧ (if (q n).1 ≤ d then some (q n).2 else xFold q n d) = some (q i).2
    by_cases c : (q n).1 ≤ d
    · rw [if_pos c] at h
      exact ⟨n, h, by rw [if_pos c]⟩
    · rw [if_neg c] at h
      obtain ⟨i, h1, h2⟩ := xAd_some h
      exact ⟨i, h1, by rw [if_neg c]; exact h2⟩
/-- the holdings of title k -/
def xHd (G : zG) (H : Heap) (R : xRo) (σ : zS) (j k h n : Nat) : Prop := ∃ (es : List Nat) (q : xQ), zLs G H (fun a => R a = (5, j, k)) h es ∧ es.length ≤ n ∧ (∀ i y, es[i]? = some y → R y = (9, 0, 0) ∧ zO G H y 4 [.int (q i).1, .int (q i).2.1, .int (q i).2.2.1, .int (q i).2.2.2.1, .int (q i).2.2.2.2]) ∧ (∀ i, (q i).2.1 = 0 ∨ (q i).2.1 = 1) ∧ ∀ d, sL σ j k d = xFold q es.length d
/-- the subscriptions -/
def xSb (G : zG) (H : Heap) (R : xRo) (σ : zS) (j h n : Nat) : Prop := ∃ (es : List Nat) (q : xQ), zLs G H (fun a => R a = (3, j, 0)) h es ∧ es.length ≤ n ∧ (∀ i y, es[i]? = some y → R y = (9, 0, 0) ∧ zO G H y 3 [.int (q i).1, .int (q i).2.1]) ∧ (∀ i, (q i).2.1 = 0 ∨ (q i).2.1 = 1) ∧ ∀ d, sL σ j 20 d = xFold q es.length d
def xHs (G : zG) (H : Heap) (R : xRo) (σ : zS) (j hl n : Nat) : Prop := ∃ hs : List Nat, zLs G H (fun a => R a = (4, j, 0)) hl hs ∧ hs.length = 20 ∧ ∀ k h, hs[k]? = some h → xHd G H R σ j k h n
def xBk (G : zG) (H : Heap) (R : xRo) (σ : zS) (j br : Nat) : Prop := R br = (6, j, 0) ∧ (zHB G).size ≤ br ∧ ∃ bf : Nat → Int32, zI G H br 20 bf ∧ ∀ k, k < 20 → bf k = sB σ j k
abbrev xPf (σ : zS) (j sl hl br : Nat) : List Value := [.int (nI j), .int (sA σ 2 j), .int (sA σ 3 j), .int (sA σ 4 j), .int (sA σ 5 j), .ref sl, .ref hl, .ref br]
/-- package j at p, its lists of at most n changes -/
def xPk (G : zG) (H : Heap) (R : xRo) (σ : zS) (n j p : Nat) : Prop := ∃ (sl hl br : Nat), R p = (9, 0, 0) ∧ zO G H p 2 (xPf σ j sl hl br) ∧ xSb G H R σ j sl n ∧ xHs G H R σ j hl n ∧ xBk G H R σ j br
def xTs (G : zG) (H : Heap) (R : xRo) (σ : zS) (tl : Nat) : Prop := ∃ ts : List Nat, zLs G H (fun a => R a = (2, 0, 0)) tl ts ∧ ts.length = sN σ ∧ ∀ i y, ts[i]? = some y → R y = (9, 0, 0) ∧ zO G H y 1 [.int (sA σ 0 i), .int (sA σ 1 i)]
def xPs (G : zG) (H : Heap) (R : xRo) (σ : zS) (n pl : Nat) : Prop := ∃ ps : List Nat, zLs G H (fun a => R a = (7, 0, 0)) pl ps ∧ ps.length = sP σ ∧ ∀ j y, ps[j]? = some y → xPk G H R σ n j y
/-- the resolver at o holds σ -/
def xRep (G : zG) (H : Heap) (R : xRo) (σ : zS) (n o : Nat) : Prop := ∃ (tl pl : Nat), R o = (1, 0, 0) ∧ (zHB G).size ≤ o ∧ zO G H o 0 [.ref tl, .ref pl, .int (sT σ)] ∧ xTs G H R σ tl ∧ xPs G H R σ n pl
/-- what changes: the cells of role ρ, and new ones -/
def xCh (H : Heap) (R : xRo) (ρ : Nat × Nat × Nat) (H1 : Heap) (R1 : xRo) : Prop := H.size ≤ H1.size ∧ (∀ q : Nat, q < H.size → R1 q = R q) ∧ ∀ q : Nat, q < H.size → R q ≠ ρ → H1[q]? = H[q]?
theorem xCh.trans {H H1 H2 : Heap} {R R1 R2 : xRo} {ρ : Nat × Nat × Nat} (a : xCh H R ρ H1 R1) (b : xCh H1 R1 ρ H2 R2) : xCh H R ρ H2 R2 :=
  ⟨Nat.le_trans a.1 b.1, fun q h => (b.2.1 q (Nat.lt_of_lt_of_le h a.1)).trans (a.2.1 q h), fun q h h1 => (b.2.2 q (Nat.lt_of_lt_of_le h a.1) (by rw [a.2.1 q h]; exact h1)).trans (a.2.2 q h h1)⟩
theorem xCh.of {H H1 : Heap} {R : xRo} (ρ : Nat × Nat × Nat) (h : zKeep H H1) : xCh H R ρ H1 R := ⟨h.1, fun _ _ => rfl, fun q h1 _ => h.2 q h1⟩
section XK
variable {G : zG} {H H1 : Heap} {R R1 : xRo} {ρ : Nat × Nat × Nat} {σ σ1 : zS} {n n1 : Nat}
theorem xCh.o (h : xCh H R ρ H1 R1) {y ci : Nat} {fs : List Value} (hr : R y ≠ ρ) (hO : zO G H y ci fs) : R1 y = R y ∧ zO G H1 y ci fs := ⟨h.2.1 y hO.lt, hO.kept (h.2.2 y hO.lt hr)⟩
theorem xCh.el (h : xCh H R ρ H1 R1) {y : Nat} (hr : R y ≠ ρ) (hE : zEl G H y) : zEl G H1 y := hE.kept (h.2.2 y hE.lt hr)
theorem xCh.ls (h : xCh H R ρ H1 R1) {τ : Nat × Nat × Nat} (hτ : τ ≠ ρ) {a : Nat} {es : List Nat} (hA : zLs G H (fun a => R a = τ) a es) (hes : ∀ e ∈ es, R e ≠ ρ) : zLs G H1 (fun a => R1 a = τ) a es :=
  hA.kept (fun q hq hl => by
    have hq : R q = τ := hq
    exact ⟨(h.2.1 q hl).trans hq, h.2.2 q hl (by rw [hq]; exact hτ)⟩) (fun e he hE => h.el (hes e he) hE)
theorem xHd.kept (h : xCh H R ρ H1 R1) {j k a : Nat} (h9 : ρ ≠ (9, 0, 0)) (h5 : ρ ≠ (5, j, k)) (hn : n ≤ n1) (hs : ∀ d, sL σ1 j k d = sL σ j k d) (hA : xHd G H R σ j k a n) : xHd G H1 R1 σ1 j k a n1 := by
  obtain ⟨es, q, g1, g2, g3, g4, g5⟩ := hA
  refine ⟨es, q, h.ls (Ne.symm h5) g1 (fun e he => ?_), Nat.le_trans g2 hn, fun i y hy => ?_, g4, fun d => (hs d).trans (g5 d)⟩
  · obtain ⟨i, hi⟩ := List.getElem?_of_mem he
    rw [(g3 i e hi).1]
    exact Ne.symm h9
  · obtain ⟨a1, a2⟩ := g3 i y hy
    obtain ⟨b1, b2⟩ := h.o (by rw [a1]; exact Ne.symm h9) a2
    exact ⟨b1.trans a1, b2⟩
theorem xSb.kept (h : xCh H R ρ H1 R1) {j a : Nat} (h9 : ρ ≠ (9, 0, 0)) (h5 : ρ ≠ (3, j, 0)) (hn : n ≤ n1) (hs : ∀ d, sL σ1 j 20 d = sL σ j 20 d) (hA : xSb G H R σ j a n) : xSb G H1 R1 σ1 j a n1 := by
  obtain ⟨es, q, g1, g2, g3, g4, g5⟩ := hA
  refine ⟨es, q, h.ls (Ne.symm h5) g1 (fun e he => ?_), Nat.le_trans g2 hn, fun i y hy => ?_, g4, fun d => (hs d).trans (g5 d)⟩
  · obtain ⟨i, hi⟩ := List.getElem?_of_mem he
    rw [(g3 i e hi).1]
    exact Ne.symm h9
  · obtain ⟨a1, a2⟩ := g3 i y hy
    obtain ⟨b1, b2⟩ := h.o (by rw [a1]; exact Ne.symm h9) a2
    exact ⟨b1.trans a1, b2⟩
theorem zLs.role {j k h : Nat} {τ : Nat × Nat × Nat} {es : List Nat} (hA : zLs G H (fun a => R a = τ) h es) : R h = τ := hA.1
theorem xHd.role {j k h : Nat} (hA : xHd G H R σ j k h n) : R h = (5, j, k) := by
  obtain ⟨es, q, g1, -⟩ := hA
  exact g1.1
theorem xHs.kept (h : xCh H R ρ H1 R1) {j a : Nat} (h9 : ρ ≠ (9, 0, 0)) (h4 : ρ ≠ (4, j, 0)) (h5 : ∀ k, ρ ≠ (5, j, k)) (hn : n ≤ n1) (hs : ∀ k d, k < 20 → sL σ1 j k d = sL σ j k d) (hA : xHs G H R σ j a n) : xHs G H1 R1 σ1 j a n1 := by
  obtain ⟨hs', g1, g2, g3⟩ := hA
  refine ⟨hs', h.ls (Ne.symm h4) g1 (fun e he => ?_), g2, fun k b hb => ?_⟩
  · obtain ⟨i, hi⟩ := List.getElem?_of_mem he
    rw [(g3 i e hi).role]
    exact Ne.symm (h5 i)
  · have hk : k < 20 := by rw [← g2]; exact (List.getElem?_eq_some_iff.mp hb).1
    exact (g3 k b hb).kept h h9 (h5 k) hn (fun d => hs k d hk)
theorem xBk.kept (h : xCh H R ρ H1 R1) {j a : Nat} (h6 : ρ ≠ (6, j, 0)) (hs : ∀ k, k < 20 → sB σ1 j k = sB σ j k) (hA : xBk G H R σ j a) : xBk G H1 R1 σ1 j a := by
  obtain ⟨g1, g2, bf, g3, g4⟩ := hA
  exact ⟨(h.2.1 a g3.lt).trans g1, g2, bf, g3.kept (h.2.2 a g3.lt (by rw [g1]; exact Ne.symm h6)), fun k hk => (g4 k hk).trans (hs k hk).symm⟩
theorem xPk.kept (h : xCh H R ρ H1 R1) {j p : Nat} (h9 : ρ ≠ (9, 0, 0)) (hρ : ρ.2.1 ≠ j ∨ (ρ.1 ≠ 3 ∧ ρ.1 ≠ 4 ∧ ρ.1 ≠ 5 ∧ ρ.1 ≠ 6)) (hn : n ≤ n1) (ha : ∀ k, 2 ≤ k → k ≤ 5 → sA σ1 k j = sA σ k j) (hs : ∀ k d, k ≤ 20 → sL σ1 j k d = sL σ j k d) (hb : ∀ k, k < 20 → sB σ1 j k = sB σ j k) (hA : xPk G H R σ n j p) : xPk G H1 R1 σ1 n1 j p := by
  obtain ⟨sl, hl, br, g1, g2, g3, g4, g5⟩ := hA
  have ne : ∀ a c : Nat, (a = 3 ∨ a = 4 ∨ a = 5 ∨ a = 6) → ρ ≠ (a, j, c) := by
    intro a c hac e
    rw [e] at hρ
    rcases hρ with hρ | hρ
    · exact hρ rfl
    · have z1 : a ≠ 3 ∧ a ≠ 4 ∧ a ≠ 5 ∧ a ≠ 6 := hρ
      omega
  obtain ⟨b1, b2⟩ := h.o (by rw [g1]; exact Ne.symm h9) g2
  have e : xPf σ1 j sl hl br = xPf σ j sl hl br := by
    show [_, _, _, _, _, _, _, _] = [_, _, _, _, _, _, _, _]
    rw [ha 2 (by omega) (by omega), ha 3 (by omega) (by omega), ha 4 (by omega) (by omega), ha 5 (by omega) (by omega)]
  exact ⟨sl, hl, br, b1.trans g1, by rw [e]; exact b2, g3.kept h h9 (ne 3 0 (by omega)) hn (fun d => hs 20 d (Nat.le_refl _)), g4.kept h h9 (ne 4 0 (by omega)) (fun k => ne 5 k (by omega)) hn (fun k d hk => hs k d (by omega)), g5.kept h (ne 6 0 (by omega)) hb⟩
theorem xPk.role {j p : Nat} (hA : xPk G H R σ n j p) : R p = (9, 0, 0) := by
  obtain ⟨sl, hl, br, g1, -⟩ := hA
  exact g1
theorem xTs.kept (h : xCh H R ρ H1 R1) {a : Nat} (h9 : ρ ≠ (9, 0, 0)) (h2 : ρ ≠ (2, 0, 0)) (hN : sN σ1 = sN σ) (ha : ∀ i, i < sN σ → sA σ1 0 i = sA σ 0 i ∧ sA σ1 1 i = sA σ 1 i) (hA : xTs G H R σ a) : xTs G H1 R1 σ1 a := by
  obtain ⟨ts, g1, g2, g3⟩ := hA
  refine ⟨ts, h.ls (Ne.symm h2) g1 (fun e he => ?_), g2.trans hN.symm, fun i y hy => ?_⟩
  · obtain ⟨i, hi⟩ := List.getElem?_of_mem he
    rw [(g3 i e hi).1]
    exact Ne.symm h9
  · obtain ⟨a1, a2⟩ := g3 i y hy
    obtain ⟨b1, b2⟩ := h.o (by rw [a1]; exact Ne.symm h9) a2
    have hi : i < sN σ := by rw [← g2]; exact (List.getElem?_eq_some_iff.mp hy).1
    rw [(ha i hi).1, (ha i hi).2]
    exact ⟨b1.trans a1, b2⟩
theorem xPs.kept (h : xCh H R ρ H1 R1) {a : Nat} (h9 : ρ ≠ (9, 0, 0)) (h7 : ρ ≠ (7, 0, 0)) (hP : sP σ1 = sP σ) (hk : ∀ j p, j < sP σ → xPk G H R σ n j p → xPk G H1 R1 σ1 n1 j p) (hA : xPs G H R σ n a) : xPs G H1 R1 σ1 n1 a := by
  obtain ⟨ps, g1, g2, g3⟩ := hA
  refine ⟨ps, h.ls (Ne.symm h7) g1 (fun e he => ?_), g2.trans hP.symm, fun j y hy => hk j y (by rw [← g2]; exact (List.getElem?_eq_some_iff.mp hy).1) (g3 j y hy)⟩
  obtain ⟨i, hi⟩ := List.getElem?_of_mem he
  rw [(g3 i e hi).role]
  exact Ne.symm h9
/-- nothing old changes: the picture stays -/
theorem xRep.keep (hk : zKeep H H1) {o : Nat} (hA : xRep G H R σ n o) : xRep G H1 R σ n o := by
  obtain ⟨tl, pl, g1, g2, g3, g4, g5⟩ := hA
  have h : xCh H R (8, 0, 0) H1 R := xCh.of _ hk
  exact ⟨tl, pl, g1, g2, g3.kept (hk.2 o g3.lt), g4.kept h (by decide) (by decide) rfl (fun i _ => ⟨rfl, rfl⟩), g5.kept h (by decide) (by decide) rfl (fun j p _ hp => hp.kept h (by decide) (Or.inr (by decide)) (Nat.le_refl _) (fun _ _ _ => rfl) (fun _ _ _ => rfl) (fun _ _ => rfl))⟩
theorem xRep.more {o : Nat} (hn : n ≤ n1) (hA : xRep G H R σ n o) : xRep G H R σ n1 o := by
  obtain ⟨tl, pl, g1, g2, g3, g4, g5⟩ := hA
  have h : xCh H R (8, 0, 0) H R := xCh.of _ zKeep.rf
  exact ⟨tl, pl, g1, g2, g3, g4, g5.kept h (by decide) (by decide) rfl (fun j p _ hp => hp.kept h (by decide) (Or.inr (by decide)) hn (fun _ _ _ => rfl) (fun _ _ _ => rfl) (fun _ _ => rfl))⟩
end XK
section LK
variable {G : zG} {p : Program} {l : Launch} {e : Env} {R : Room} {s : State} {m : MethodId} {args : Array Value} {below : List Frame} {meth : Method} {c : Code} {H : Heap} {locs : List Loc} {cells slots : Nat} {Q : State → Prop} {cc : ByteArray} {nL pc : Nat} {ls : Array Slot} {rest : List Value}
theorem gf_X1_12 (Z : zC G p s m args meth c RX1 cc nL) {a : Nat} {fs : List Value} {v : Value} (hO : zO G H a 0 fs) (hv : fs[0]? = some v) (hdg : decode cc pc = .ok (.getfield 12, 3)) (kk : W p l e R s m args below meth c H locs cells slots Q (F0 m (pc + 3) ls (v :: rest))) : W p l e R s m args below meth c H locs cells slots Q (F0 m pc ls (.ref a :: rest)) := z_get Z (C := RX1) (T := TX1) (N := 3) (ci := 0) rfl in_X1 0 (by decide) q87 (fun _ h => h) hO hv hdg kk
theorem pf_X1_12 (Z : zC G p s m args meth c RX1 cc nL) (hin2 : meth.name = "<init>") {a : Nat} {fs : List Value} {x : Nat} (hO : zO G H a 0 fs) (hl : 0 < fs.length) (hL : zL G locs) (ha : (zHB G).size ≤ a) (hdg : decode cc pc = .ok (.putfield 12, 3)) (kk : ∀ (H1 : Heap) (locs1 : List Loc), zL G locs1 → zO G H1 a 0 (fs.set 0 (.ref x)) → H1.size = H.size → (∀ q : Nat, q ≠ a → H1[q]? = H[q]?) → W p l e R s m args below meth c H1 locs1 cells slots Q (F0 m (pc + 3) ls rest)) : W p l e R s m args below meth c H locs cells slots Q (F0 m pc ls (.ref x :: .ref a :: rest)) := z_putF Z (C := RX1) (T := TX1) (N := 3) (ci := 0) rfl in_X1 tyX1 tyX1_ok nmX1 0 (by decide) q87 (fun _ h => h) rfl hin2 rfl (ty := (.object "java/util/List")) (by decide +kernel) rfl rfl hO hl hL ha hdg kk
theorem gf_X1_16 (Z : zC G p s m args meth c RX1 cc nL) {a : Nat} {fs : List Value} {v : Value} (hO : zO G H a 0 fs) (hv : fs[1]? = some v) (hdg : decode cc pc = .ok (.getfield 16, 3)) (kk : W p l e R s m args below meth c H locs cells slots Q (F0 m (pc + 3) ls (v :: rest))) : W p l e R s m args below meth c H locs cells slots Q (F0 m pc ls (.ref a :: rest)) := z_get Z (C := RX1) (T := TX1) (N := 3) (ci := 0) rfl in_X1 1 (by decide) q88 (fun _ h => h) hO hv hdg kk
theorem pf_X1_16 (Z : zC G p s m args meth c RX1 cc nL) (hin2 : meth.name = "<init>") {a : Nat} {fs : List Value} {x : Nat} (hO : zO G H a 0 fs) (hl : 1 < fs.length) (hL : zL G locs) (ha : (zHB G).size ≤ a) (hdg : decode cc pc = .ok (.putfield 16, 3)) (kk : ∀ (H1 : Heap) (locs1 : List Loc), zL G locs1 → zO G H1 a 0 (fs.set 1 (.ref x)) → H1.size = H.size → (∀ q : Nat, q ≠ a → H1[q]? = H[q]?) → W p l e R s m args below meth c H1 locs1 cells slots Q (F0 m (pc + 3) ls rest)) : W p l e R s m args below meth c H locs cells slots Q (F0 m pc ls (.ref x :: .ref a :: rest)) := z_putF Z (C := RX1) (T := TX1) (N := 3) (ci := 0) rfl in_X1 tyX1 tyX1_ok nmX1 1 (by decide) q88 (fun _ h => h) rfl hin2 rfl (ty := (.object "java/util/List")) (by decide +kernel) rfl rfl hO hl hL ha hdg kk
theorem gf_X1_62 (Z : zC G p s m args meth c RX1 cc nL) {a : Nat} {fs : List Value} {v : Value} (hO : zO G H a 0 fs) (hv : fs[2]? = some v) (hdg : decode cc pc = .ok (.getfield 62, 3)) (kk : W p l e R s m args below meth c H locs cells slots Q (F0 m (pc + 3) ls (v :: rest))) : W p l e R s m args below meth c H locs cells slots Q (F0 m pc ls (.ref a :: rest)) := z_get Z (C := RX1) (T := TX1) (N := 3) (ci := 0) rfl in_X1 2 (by decide) q89 (fun _ h => h) hO hv hdg kk
theorem pf_X1_62 (Z : zC G p s m args meth c RX1 cc nL) {a : Nat} {fs : List Value} {x : Int32} (hO : zO G H a 0 fs) (hl : 2 < fs.length) (hL : zL G locs) (ha : (zHB G).size ≤ a) (hdg : decode cc pc = .ok (.putfield 62, 3)) (kk : ∀ (H1 : Heap) (locs1 : List Loc), zL G locs1 → zO G H1 a 0 (fs.set 2 (.int x)) → H1.size = H.size → (∀ q : Nat, q ≠ a → H1[q]? = H[q]?) → W p l e R s m args below meth c H1 locs1 cells slots Q (F0 m (pc + 3) ls rest)) : W p l e R s m args below meth c H locs cells slots Q (F0 m pc ls (.int x :: .ref a :: rest)) := z_put Z (C := RX1) (T := TX1) (N := 3) (ci := 0) rfl in_X1 tyX1 tyX1_ok nmX1 2 (by decide) q89 (fun _ h => h) rfl (ty := .int) (by decide +kernel) rfl rfl hO hl hL ha hdg kk
theorem gf_X3_7 (Z : zC G p s m args meth c RX3 cc nL) {a : Nat} {fs : List Value} {v : Value} (hO : zO G H a 1 fs) (hv : fs[0]? = some v) (hdg : decode cc pc = .ok (.getfield 7, 3)) (kk : W p l e R s m args below meth c H locs cells slots Q (F0 m (pc + 3) ls (v :: rest))) : W p l e R s m args below meth c H locs cells slots Q (F0 m pc ls (.ref a :: rest)) := z_get Z (C := RX3) (T := TX3) (N := 2) (ci := 1) rfl in_X3 0 (by decide) q215 (fun _ h => h) hO hv hdg kk
theorem pf_X3_7 (Z : zC G p s m args meth c RX3 cc nL) (hin2 : meth.name = "<init>") {a : Nat} {fs : List Value} {x : Int32} (hO : zO G H a 1 fs) (hl : 0 < fs.length) (hL : zL G locs) (ha : (zHB G).size ≤ a) (hdg : decode cc pc = .ok (.putfield 7, 3)) (kk : ∀ (H1 : Heap) (locs1 : List Loc), zL G locs1 → zO G H1 a 1 (fs.set 0 (.int x)) → H1.size = H.size → (∀ q : Nat, q ≠ a → H1[q]? = H[q]?) → W p l e R s m args below meth c H1 locs1 cells slots Q (F0 m (pc + 3) ls rest)) : W p l e R s m args below meth c H locs cells slots Q (F0 m pc ls (.int x :: .ref a :: rest)) := z_putF Z (C := RX3) (T := TX3) (N := 2) (ci := 1) rfl in_X3 tyX3 tyX3_ok nmX3 0 (by decide) q215 (fun _ h => h) rfl hin2 rfl (ty := .int) (by decide +kernel) rfl rfl hO hl hL ha hdg kk
theorem gf_X3_13 (Z : zC G p s m args meth c RX3 cc nL) {a : Nat} {fs : List Value} {v : Value} (hO : zO G H a 1 fs) (hv : fs[1]? = some v) (hdg : decode cc pc = .ok (.getfield 13, 3)) (kk : W p l e R s m args below meth c H locs cells slots Q (F0 m (pc + 3) ls (v :: rest))) : W p l e R s m args below meth c H locs cells slots Q (F0 m pc ls (.ref a :: rest)) := z_get Z (C := RX3) (T := TX3) (N := 2) (ci := 1) rfl in_X3 1 (by decide) q216 (fun _ h => h) hO hv hdg kk
theorem pf_X3_13 (Z : zC G p s m args meth c RX3 cc nL) (hin2 : meth.name = "<init>") {a : Nat} {fs : List Value} {x : Int32} (hO : zO G H a 1 fs) (hl : 1 < fs.length) (hL : zL G locs) (ha : (zHB G).size ≤ a) (hdg : decode cc pc = .ok (.putfield 13, 3)) (kk : ∀ (H1 : Heap) (locs1 : List Loc), zL G locs1 → zO G H1 a 1 (fs.set 1 (.int x)) → H1.size = H.size → (∀ q : Nat, q ≠ a → H1[q]? = H[q]?) → W p l e R s m args below meth c H1 locs1 cells slots Q (F0 m (pc + 3) ls rest)) : W p l e R s m args below meth c H locs cells slots Q (F0 m pc ls (.int x :: .ref a :: rest)) := z_putF Z (C := RX3) (T := TX3) (N := 2) (ci := 1) rfl in_X3 tyX3 tyX3_ok nmX3 1 (by decide) q216 (fun _ h => h) rfl hin2 rfl (ty := .int) (by decide +kernel) rfl rfl hO hl hL ha hdg kk
theorem gf_X4_25 (Z : zC G p s m args meth c RX4 cc nL) {a : Nat} {fs : List Value} {v : Value} (hO : zO G H a 2 fs) (hv : fs[0]? = some v) (hdg : decode cc pc = .ok (.getfield 25, 3)) (kk : W p l e R s m args below meth c H locs cells slots Q (F0 m (pc + 3) ls (v :: rest))) : W p l e R s m args below meth c H locs cells slots Q (F0 m pc ls (.ref a :: rest)) := z_get Z (C := RX4) (T := TX4) (N := 8) (ci := 2) rfl in_X4 0 (by decide) q398 (fun _ h => h) hO hv hdg kk
theorem pf_X4_25 (Z : zC G p s m args meth c RX4 cc nL) (hin2 : meth.name = "<init>") {a : Nat} {fs : List Value} {x : Int32} (hO : zO G H a 2 fs) (hl : 0 < fs.length) (hL : zL G locs) (ha : (zHB G).size ≤ a) (hdg : decode cc pc = .ok (.putfield 25, 3)) (kk : ∀ (H1 : Heap) (locs1 : List Loc), zL G locs1 → zO G H1 a 2 (fs.set 0 (.int x)) → H1.size = H.size → (∀ q : Nat, q ≠ a → H1[q]? = H[q]?) → W p l e R s m args below meth c H1 locs1 cells slots Q (F0 m (pc + 3) ls rest)) : W p l e R s m args below meth c H locs cells slots Q (F0 m pc ls (.int x :: .ref a :: rest)) := z_putF Z (C := RX4) (T := TX4) (N := 8) (ci := 2) rfl in_X4 tyX4 tyX4_ok nmX4 0 (by decide) q398 (fun _ h => h) rfl hin2 rfl (ty := .int) (by decide +kernel) rfl rfl hO hl hL ha hdg kk
theorem gf_X4_29 (Z : zC G p s m args meth c RX4 cc nL) {a : Nat} {fs : List Value} {v : Value} (hO : zO G H a 2 fs) (hv : fs[1]? = some v) (hdg : decode cc pc = .ok (.getfield 29, 3)) (kk : W p l e R s m args below meth c H locs cells slots Q (F0 m (pc + 3) ls (v :: rest))) : W p l e R s m args below meth c H locs cells slots Q (F0 m pc ls (.ref a :: rest)) := z_get Z (C := RX4) (T := TX4) (N := 8) (ci := 2) rfl in_X4 1 (by decide) q399 (fun _ h => h) hO hv hdg kk
theorem pf_X4_29 (Z : zC G p s m args meth c RX4 cc nL) (hin2 : meth.name = "<init>") {a : Nat} {fs : List Value} {x : Int32} (hO : zO G H a 2 fs) (hl : 1 < fs.length) (hL : zL G locs) (ha : (zHB G).size ≤ a) (hdg : decode cc pc = .ok (.putfield 29, 3)) (kk : ∀ (H1 : Heap) (locs1 : List Loc), zL G locs1 → zO G H1 a 2 (fs.set 1 (.int x)) → H1.size = H.size → (∀ q : Nat, q ≠ a → H1[q]? = H[q]?) → W p l e R s m args below meth c H1 locs1 cells slots Q (F0 m (pc + 3) ls rest)) : W p l e R s m args below meth c H locs cells slots Q (F0 m pc ls (.int x :: .ref a :: rest)) := z_putF Z (C := RX4) (T := TX4) (N := 8) (ci := 2) rfl in_X4 tyX4 tyX4_ok nmX4 1 (by decide) q399 (fun _ h => h) rfl hin2 rfl (ty := .int) (by decide +kernel) rfl rfl hO hl hL ha hdg kk
theorem gf_X4_32 (Z : zC G p s m args meth c RX4 cc nL) {a : Nat} {fs : List Value} {v : Value} (hO : zO G H a 2 fs) (hv : fs[2]? = some v) (hdg : decode cc pc = .ok (.getfield 32, 3)) (kk : W p l e R s m args below meth c H locs cells slots Q (F0 m (pc + 3) ls (v :: rest))) : W p l e R s m args below meth c H locs cells slots Q (F0 m pc ls (.ref a :: rest)) := z_get Z (C := RX4) (T := TX4) (N := 8) (ci := 2) rfl in_X4 2 (by decide) q400 (fun _ h => h) hO hv hdg kk
theorem pf_X4_32 (Z : zC G p s m args meth c RX4 cc nL) (hin2 : meth.name = "<init>") {a : Nat} {fs : List Value} {x : Int32} (hO : zO G H a 2 fs) (hl : 2 < fs.length) (hL : zL G locs) (ha : (zHB G).size ≤ a) (hdg : decode cc pc = .ok (.putfield 32, 3)) (kk : ∀ (H1 : Heap) (locs1 : List Loc), zL G locs1 → zO G H1 a 2 (fs.set 2 (.int x)) → H1.size = H.size → (∀ q : Nat, q ≠ a → H1[q]? = H[q]?) → W p l e R s m args below meth c H1 locs1 cells slots Q (F0 m (pc + 3) ls rest)) : W p l e R s m args below meth c H locs cells slots Q (F0 m pc ls (.int x :: .ref a :: rest)) := z_putF Z (C := RX4) (T := TX4) (N := 8) (ci := 2) rfl in_X4 tyX4 tyX4_ok nmX4 2 (by decide) q400 (fun _ h => h) rfl hin2 rfl (ty := .int) (by decide +kernel) rfl rfl hO hl hL ha hdg kk
theorem gf_X4_35 (Z : zC G p s m args meth c RX4 cc nL) {a : Nat} {fs : List Value} {v : Value} (hO : zO G H a 2 fs) (hv : fs[3]? = some v) (hdg : decode cc pc = .ok (.getfield 35, 3)) (kk : W p l e R s m args below meth c H locs cells slots Q (F0 m (pc + 3) ls (v :: rest))) : W p l e R s m args below meth c H locs cells slots Q (F0 m pc ls (.ref a :: rest)) := z_get Z (C := RX4) (T := TX4) (N := 8) (ci := 2) rfl in_X4 3 (by decide) q401 (fun _ h => h) hO hv hdg kk
theorem pf_X4_35 (Z : zC G p s m args meth c RX4 cc nL) (hin2 : meth.name = "<init>") {a : Nat} {fs : List Value} {x : Int32} (hO : zO G H a 2 fs) (hl : 3 < fs.length) (hL : zL G locs) (ha : (zHB G).size ≤ a) (hdg : decode cc pc = .ok (.putfield 35, 3)) (kk : ∀ (H1 : Heap) (locs1 : List Loc), zL G locs1 → zO G H1 a 2 (fs.set 3 (.int x)) → H1.size = H.size → (∀ q : Nat, q ≠ a → H1[q]? = H[q]?) → W p l e R s m args below meth c H1 locs1 cells slots Q (F0 m (pc + 3) ls rest)) : W p l e R s m args below meth c H locs cells slots Q (F0 m pc ls (.int x :: .ref a :: rest)) := z_putF Z (C := RX4) (T := TX4) (N := 8) (ci := 2) rfl in_X4 tyX4 tyX4_ok nmX4 3 (by decide) q401 (fun _ h => h) rfl hin2 rfl (ty := .int) (by decide +kernel) rfl rfl hO hl hL ha hdg kk
theorem gf_X4_38 (Z : zC G p s m args meth c RX4 cc nL) {a : Nat} {fs : List Value} {v : Value} (hO : zO G H a 2 fs) (hv : fs[4]? = some v) (hdg : decode cc pc = .ok (.getfield 38, 3)) (kk : W p l e R s m args below meth c H locs cells slots Q (F0 m (pc + 3) ls (v :: rest))) : W p l e R s m args below meth c H locs cells slots Q (F0 m pc ls (.ref a :: rest)) := z_get Z (C := RX4) (T := TX4) (N := 8) (ci := 2) rfl in_X4 4 (by decide) q402 (fun _ h => h) hO hv hdg kk
theorem pf_X4_38 (Z : zC G p s m args meth c RX4 cc nL) (hin2 : meth.name = "<init>") {a : Nat} {fs : List Value} {x : Int32} (hx : x = 0 ∨ x = 1) (hO : zO G H a 2 fs) (hl : 4 < fs.length) (hL : zL G locs) (ha : (zHB G).size ≤ a) (hdg : decode cc pc = .ok (.putfield 38, 3)) (kk : ∀ (H1 : Heap) (locs1 : List Loc), zL G locs1 → zO G H1 a 2 (fs.set 4 (.int x)) → H1.size = H.size → (∀ q : Nat, q ≠ a → H1[q]? = H[q]?) → W p l e R s m args below meth c H1 locs1 cells slots Q (F0 m (pc + 3) ls rest)) : W p l e R s m args below meth c H locs cells slots Q (F0 m pc ls (.int x :: .ref a :: rest)) := z_putF Z (C := RX4) (T := TX4) (N := 8) (ci := 2) rfl in_X4 tyX4 tyX4_ok nmX4 4 (by decide) q402 (fun _ h => h) rfl hin2 rfl (ty := .boolean) (by decide +kernel) (by rcases hx with rfl | rfl <;> rfl) (by rcases hx with rfl | rfl <;> rfl) hO hl hL ha hdg kk
theorem gf_X4_12 (Z : zC G p s m args meth c RX4 cc nL) {a : Nat} {fs : List Value} {v : Value} (hO : zO G H a 2 fs) (hv : fs[5]? = some v) (hdg : decode cc pc = .ok (.getfield 12, 3)) (kk : W p l e R s m args below meth c H locs cells slots Q (F0 m (pc + 3) ls (v :: rest))) : W p l e R s m args below meth c H locs cells slots Q (F0 m pc ls (.ref a :: rest)) := z_get Z (C := RX4) (T := TX4) (N := 8) (ci := 2) rfl in_X4 5 (by decide) q403 (fun _ h => h) hO hv hdg kk
theorem pf_X4_12 (Z : zC G p s m args meth c RX4 cc nL) (hin2 : meth.name = "<init>") {a : Nat} {fs : List Value} {x : Nat} (hO : zO G H a 2 fs) (hl : 5 < fs.length) (hL : zL G locs) (ha : (zHB G).size ≤ a) (hdg : decode cc pc = .ok (.putfield 12, 3)) (kk : ∀ (H1 : Heap) (locs1 : List Loc), zL G locs1 → zO G H1 a 2 (fs.set 5 (.ref x)) → H1.size = H.size → (∀ q : Nat, q ≠ a → H1[q]? = H[q]?) → W p l e R s m args below meth c H1 locs1 cells slots Q (F0 m (pc + 3) ls rest)) : W p l e R s m args below meth c H locs cells slots Q (F0 m pc ls (.ref x :: .ref a :: rest)) := z_putF Z (C := RX4) (T := TX4) (N := 8) (ci := 2) rfl in_X4 tyX4 tyX4_ok nmX4 5 (by decide) q403 (fun _ h => h) rfl hin2 rfl (ty := (.object "java/util/List")) (by decide +kernel) rfl rfl hO hl hL ha hdg kk
theorem gf_X4_18 (Z : zC G p s m args meth c RX4 cc nL) {a : Nat} {fs : List Value} {v : Value} (hO : zO G H a 2 fs) (hv : fs[6]? = some v) (hdg : decode cc pc = .ok (.getfield 18, 3)) (kk : W p l e R s m args below meth c H locs cells slots Q (F0 m (pc + 3) ls (v :: rest))) : W p l e R s m args below meth c H locs cells slots Q (F0 m pc ls (.ref a :: rest)) := z_get Z (C := RX4) (T := TX4) (N := 8) (ci := 2) rfl in_X4 6 (by decide) q405 (fun _ h => h) hO hv hdg kk
theorem pf_X4_18 (Z : zC G p s m args meth c RX4 cc nL) (hin2 : meth.name = "<init>") {a : Nat} {fs : List Value} {x : Nat} (hO : zO G H a 2 fs) (hl : 6 < fs.length) (hL : zL G locs) (ha : (zHB G).size ≤ a) (hdg : decode cc pc = .ok (.putfield 18, 3)) (kk : ∀ (H1 : Heap) (locs1 : List Loc), zL G locs1 → zO G H1 a 2 (fs.set 6 (.ref x)) → H1.size = H.size → (∀ q : Nat, q ≠ a → H1[q]? = H[q]?) → W p l e R s m args below meth c H1 locs1 cells slots Q (F0 m (pc + 3) ls rest)) : W p l e R s m args below meth c H locs cells slots Q (F0 m pc ls (.ref x :: .ref a :: rest)) := z_putF Z (C := RX4) (T := TX4) (N := 8) (ci := 2) rfl in_X4 tyX4 tyX4_ok nmX4 6 (by decide) q405 (fun _ h => h) rfl hin2 rfl (ty := (.object "java/util/List")) (by decide +kernel) rfl rfl hO hl hL ha hdg kk
theorem gf_X4_21 (Z : zC G p s m args meth c RX4 cc nL) {a : Nat} {fs : List Value} {v : Value} (hO : zO G H a 2 fs) (hv : fs[7]? = some v) (hdg : decode cc pc = .ok (.getfield 21, 3)) (kk : W p l e R s m args below meth c H locs cells slots Q (F0 m (pc + 3) ls (v :: rest))) : W p l e R s m args below meth c H locs cells slots Q (F0 m pc ls (.ref a :: rest)) := z_get Z (C := RX4) (T := TX4) (N := 8) (ci := 2) rfl in_X4 7 (by decide) q407 (fun _ h => h) hO hv hdg kk
theorem pf_X4_21 (Z : zC G p s m args meth c RX4 cc nL) (hin2 : meth.name = "<init>") {a : Nat} {fs : List Value} {x : Nat} (hO : zO G H a 2 fs) (hl : 7 < fs.length) (hL : zL G locs) (ha : (zHB G).size ≤ a) (hdg : decode cc pc = .ok (.putfield 21, 3)) (kk : ∀ (H1 : Heap) (locs1 : List Loc), zL G locs1 → zO G H1 a 2 (fs.set 7 (.ref x)) → H1.size = H.size → (∀ q : Nat, q ≠ a → H1[q]? = H[q]?) → W p l e R s m args below meth c H1 locs1 cells slots Q (F0 m (pc + 3) ls rest)) : W p l e R s m args below meth c H locs cells slots Q (F0 m pc ls (.ref x :: .ref a :: rest)) := z_putF Z (C := RX4) (T := TX4) (N := 8) (ci := 2) rfl in_X4 tyX4 tyX4_ok nmX4 7 (by decide) q407 (fun _ h => h) rfl hin2 rfl (ty := (.array .int)) (by decide +kernel) rfl rfl hO hl hL ha hdg kk
theorem gf_X5_7 (Z : zC G p s m args meth c RX5 cc nL) {a : Nat} {fs : List Value} {v : Value} (hO : zO G H a 3 fs) (hv : fs[0]? = some v) (hdg : decode cc pc = .ok (.getfield 7, 3)) (kk : W p l e R s m args below meth c H locs cells slots Q (F0 m (pc + 3) ls (v :: rest))) : W p l e R s m args below meth c H locs cells slots Q (F0 m pc ls (.ref a :: rest)) := z_get Z (C := RX5) (T := TX5) (N := 2) (ci := 3) rfl in_X5 0 (by decide) q461 (fun _ h => h) hO hv hdg kk
theorem pf_X5_7 (Z : zC G p s m args meth c RX5 cc nL) (hin2 : meth.name = "<init>") {a : Nat} {fs : List Value} {x : Int32} (hO : zO G H a 3 fs) (hl : 0 < fs.length) (hL : zL G locs) (ha : (zHB G).size ≤ a) (hdg : decode cc pc = .ok (.putfield 7, 3)) (kk : ∀ (H1 : Heap) (locs1 : List Loc), zL G locs1 → zO G H1 a 3 (fs.set 0 (.int x)) → H1.size = H.size → (∀ q : Nat, q ≠ a → H1[q]? = H[q]?) → W p l e R s m args below meth c H1 locs1 cells slots Q (F0 m (pc + 3) ls rest)) : W p l e R s m args below meth c H locs cells slots Q (F0 m pc ls (.int x :: .ref a :: rest)) := z_putF Z (C := RX5) (T := TX5) (N := 2) (ci := 3) rfl in_X5 tyX5 tyX5_ok nmX5 0 (by decide) q461 (fun _ h => h) rfl hin2 rfl (ty := .int) (by decide +kernel) rfl rfl hO hl hL ha hdg kk
theorem gf_X5_13 (Z : zC G p s m args meth c RX5 cc nL) {a : Nat} {fs : List Value} {v : Value} (hO : zO G H a 3 fs) (hv : fs[1]? = some v) (hdg : decode cc pc = .ok (.getfield 13, 3)) (kk : W p l e R s m args below meth c H locs cells slots Q (F0 m (pc + 3) ls (v :: rest))) : W p l e R s m args below meth c H locs cells slots Q (F0 m pc ls (.ref a :: rest)) := z_get Z (C := RX5) (T := TX5) (N := 2) (ci := 3) rfl in_X5 1 (by decide) q462 (fun _ h => h) hO hv hdg kk
theorem pf_X5_13 (Z : zC G p s m args meth c RX5 cc nL) (hin2 : meth.name = "<init>") {a : Nat} {fs : List Value} {x : Int32} (hx : x = 0 ∨ x = 1) (hO : zO G H a 3 fs) (hl : 1 < fs.length) (hL : zL G locs) (ha : (zHB G).size ≤ a) (hdg : decode cc pc = .ok (.putfield 13, 3)) (kk : ∀ (H1 : Heap) (locs1 : List Loc), zL G locs1 → zO G H1 a 3 (fs.set 1 (.int x)) → H1.size = H.size → (∀ q : Nat, q ≠ a → H1[q]? = H[q]?) → W p l e R s m args below meth c H1 locs1 cells slots Q (F0 m (pc + 3) ls rest)) : W p l e R s m args below meth c H locs cells slots Q (F0 m pc ls (.int x :: .ref a :: rest)) := z_putF Z (C := RX5) (T := TX5) (N := 2) (ci := 3) rfl in_X5 tyX5 tyX5_ok nmX5 1 (by decide) q462 (fun _ h => h) rfl hin2 rfl (ty := .boolean) (by decide +kernel) (by rcases hx with rfl | rfl <;> rfl) (by rcases hx with rfl | rfl <;> rfl) hO hl hL ha hdg kk
theorem gf_X6_7 (Z : zC G p s m args meth c RX6 cc nL) {a : Nat} {fs : List Value} {v : Value} (hO : zO G H a 4 fs) (hv : fs[0]? = some v) (hdg : decode cc pc = .ok (.getfield 7, 3)) (kk : W p l e R s m args below meth c H locs cells slots Q (F0 m (pc + 3) ls (v :: rest))) : W p l e R s m args below meth c H locs cells slots Q (F0 m pc ls (.ref a :: rest)) := z_get Z (C := RX6) (T := TX6) (N := 5) (ci := 4) rfl in_X6 0 (by decide) q504 (fun _ h => h) hO hv hdg kk
theorem pf_X6_7 (Z : zC G p s m args meth c RX6 cc nL) (hin2 : meth.name = "<init>") {a : Nat} {fs : List Value} {x : Int32} (hO : zO G H a 4 fs) (hl : 0 < fs.length) (hL : zL G locs) (ha : (zHB G).size ≤ a) (hdg : decode cc pc = .ok (.putfield 7, 3)) (kk : ∀ (H1 : Heap) (locs1 : List Loc), zL G locs1 → zO G H1 a 4 (fs.set 0 (.int x)) → H1.size = H.size → (∀ q : Nat, q ≠ a → H1[q]? = H[q]?) → W p l e R s m args below meth c H1 locs1 cells slots Q (F0 m (pc + 3) ls rest)) : W p l e R s m args below meth c H locs cells slots Q (F0 m pc ls (.int x :: .ref a :: rest)) := z_putF Z (C := RX6) (T := TX6) (N := 5) (ci := 4) rfl in_X6 tyX6 tyX6_ok nmX6 0 (by decide) q504 (fun _ h => h) rfl hin2 rfl (ty := .int) (by decide +kernel) rfl rfl hO hl hL ha hdg kk
theorem gf_X6_13 (Z : zC G p s m args meth c RX6 cc nL) {a : Nat} {fs : List Value} {v : Value} (hO : zO G H a 4 fs) (hv : fs[1]? = some v) (hdg : decode cc pc = .ok (.getfield 13, 3)) (kk : W p l e R s m args below meth c H locs cells slots Q (F0 m (pc + 3) ls (v :: rest))) : W p l e R s m args below meth c H locs cells slots Q (F0 m pc ls (.ref a :: rest)) := z_get Z (C := RX6) (T := TX6) (N := 5) (ci := 4) rfl in_X6 1 (by decide) q505 (fun _ h => h) hO hv hdg kk
theorem pf_X6_13 (Z : zC G p s m args meth c RX6 cc nL) (hin2 : meth.name = "<init>") {a : Nat} {fs : List Value} {x : Int32} (hx : x = 0 ∨ x = 1) (hO : zO G H a 4 fs) (hl : 1 < fs.length) (hL : zL G locs) (ha : (zHB G).size ≤ a) (hdg : decode cc pc = .ok (.putfield 13, 3)) (kk : ∀ (H1 : Heap) (locs1 : List Loc), zL G locs1 → zO G H1 a 4 (fs.set 1 (.int x)) → H1.size = H.size → (∀ q : Nat, q ≠ a → H1[q]? = H[q]?) → W p l e R s m args below meth c H1 locs1 cells slots Q (F0 m (pc + 3) ls rest)) : W p l e R s m args below meth c H locs cells slots Q (F0 m pc ls (.int x :: .ref a :: rest)) := z_putF Z (C := RX6) (T := TX6) (N := 5) (ci := 4) rfl in_X6 tyX6 tyX6_ok nmX6 1 (by decide) q505 (fun _ h => h) rfl hin2 rfl (ty := .boolean) (by decide +kernel) (by rcases hx with rfl | rfl <;> rfl) (by rcases hx with rfl | rfl <;> rfl) hO hl hL ha hdg kk
theorem gf_X6_17 (Z : zC G p s m args meth c RX6 cc nL) {a : Nat} {fs : List Value} {v : Value} (hO : zO G H a 4 fs) (hv : fs[2]? = some v) (hdg : decode cc pc = .ok (.getfield 17, 3)) (kk : W p l e R s m args below meth c H locs cells slots Q (F0 m (pc + 3) ls (v :: rest))) : W p l e R s m args below meth c H locs cells slots Q (F0 m pc ls (.ref a :: rest)) := z_get Z (C := RX6) (T := TX6) (N := 5) (ci := 4) rfl in_X6 2 (by decide) q506 (fun _ h => h) hO hv hdg kk
theorem pf_X6_17 (Z : zC G p s m args meth c RX6 cc nL) (hin2 : meth.name = "<init>") {a : Nat} {fs : List Value} {x : Int32} (hO : zO G H a 4 fs) (hl : 2 < fs.length) (hL : zL G locs) (ha : (zHB G).size ≤ a) (hdg : decode cc pc = .ok (.putfield 17, 3)) (kk : ∀ (H1 : Heap) (locs1 : List Loc), zL G locs1 → zO G H1 a 4 (fs.set 2 (.int x)) → H1.size = H.size → (∀ q : Nat, q ≠ a → H1[q]? = H[q]?) → W p l e R s m args below meth c H1 locs1 cells slots Q (F0 m (pc + 3) ls rest)) : W p l e R s m args below meth c H locs cells slots Q (F0 m pc ls (.int x :: .ref a :: rest)) := z_putF Z (C := RX6) (T := TX6) (N := 5) (ci := 4) rfl in_X6 tyX6 tyX6_ok nmX6 2 (by decide) q506 (fun _ h => h) rfl hin2 rfl (ty := .int) (by decide +kernel) rfl rfl hO hl hL ha hdg kk
theorem gf_X6_20 (Z : zC G p s m args meth c RX6 cc nL) {a : Nat} {fs : List Value} {v : Value} (hO : zO G H a 4 fs) (hv : fs[3]? = some v) (hdg : decode cc pc = .ok (.getfield 20, 3)) (kk : W p l e R s m args below meth c H locs cells slots Q (F0 m (pc + 3) ls (v :: rest))) : W p l e R s m args below meth c H locs cells slots Q (F0 m pc ls (.ref a :: rest)) := z_get Z (C := RX6) (T := TX6) (N := 5) (ci := 4) rfl in_X6 3 (by decide) q507 (fun _ h => h) hO hv hdg kk
theorem pf_X6_20 (Z : zC G p s m args meth c RX6 cc nL) (hin2 : meth.name = "<init>") {a : Nat} {fs : List Value} {x : Int32} (hO : zO G H a 4 fs) (hl : 3 < fs.length) (hL : zL G locs) (ha : (zHB G).size ≤ a) (hdg : decode cc pc = .ok (.putfield 20, 3)) (kk : ∀ (H1 : Heap) (locs1 : List Loc), zL G locs1 → zO G H1 a 4 (fs.set 3 (.int x)) → H1.size = H.size → (∀ q : Nat, q ≠ a → H1[q]? = H[q]?) → W p l e R s m args below meth c H1 locs1 cells slots Q (F0 m (pc + 3) ls rest)) : W p l e R s m args below meth c H locs cells slots Q (F0 m pc ls (.int x :: .ref a :: rest)) := z_putF Z (C := RX6) (T := TX6) (N := 5) (ci := 4) rfl in_X6 tyX6 tyX6_ok nmX6 3 (by decide) q507 (fun _ h => h) rfl hin2 rfl (ty := .int) (by decide +kernel) rfl rfl hO hl hL ha hdg kk
theorem gf_X6_23 (Z : zC G p s m args meth c RX6 cc nL) {a : Nat} {fs : List Value} {v : Value} (hO : zO G H a 4 fs) (hv : fs[4]? = some v) (hdg : decode cc pc = .ok (.getfield 23, 3)) (kk : W p l e R s m args below meth c H locs cells slots Q (F0 m (pc + 3) ls (v :: rest))) : W p l e R s m args below meth c H locs cells slots Q (F0 m pc ls (.ref a :: rest)) := z_get Z (C := RX6) (T := TX6) (N := 5) (ci := 4) rfl in_X6 4 (by decide) q508 (fun _ h => h) hO hv hdg kk
theorem pf_X6_23 (Z : zC G p s m args meth c RX6 cc nL) (hin2 : meth.name = "<init>") {a : Nat} {fs : List Value} {x : Int32} (hO : zO G H a 4 fs) (hl : 4 < fs.length) (hL : zL G locs) (ha : (zHB G).size ≤ a) (hdg : decode cc pc = .ok (.putfield 23, 3)) (kk : ∀ (H1 : Heap) (locs1 : List Loc), zL G locs1 → zO G H1 a 4 (fs.set 4 (.int x)) → H1.size = H.size → (∀ q : Nat, q ≠ a → H1[q]? = H[q]?) → W p l e R s m args below meth c H1 locs1 cells slots Q (F0 m (pc + 3) ls rest)) : W p l e R s m args below meth c H locs cells slots Q (F0 m pc ls (.int x :: .ref a :: rest)) := z_putF Z (C := RX6) (T := TX6) (N := 5) (ci := 4) rfl in_X6 tyX6 tyX6_ok nmX6 4 (by decide) q508 (fun _ h => h) rfl hin2 rfl (ty := .int) (by decide +kernel) rfl rfl hO hl hL ha hdg kk
theorem gf_X1_89 (Z : zC G p s m args meth c RX1 cc nL) {a : Nat} {fs : List Value} {v : Value} (hO : zO G H a 2 fs) (hv : fs[5]? = some v) (hdg : decode cc pc = .ok (.getfield 89, 3)) (kk : W p l e R s m args below meth c H locs cells slots Q (F0 m (pc + 3) ls (v :: rest))) : W p l e R s m args below meth c H locs cells slots Q (F0 m pc ls (.ref a :: rest)) := z_getN Z (C := RX4) (T := TX4) (N := 8) (ci := 2) rfl in_X4 5 (by decide) q404 (fun _ h => h) hO hv hdg kk
theorem gf_X1_105 (Z : zC G p s m args meth c RX1 cc nL) {a : Nat} {fs : List Value} {v : Value} (hO : zO G H a 2 fs) (hv : fs[6]? = some v) (hdg : decode cc pc = .ok (.getfield 105, 3)) (kk : W p l e R s m args below meth c H locs cells slots Q (F0 m (pc + 3) ls (v :: rest))) : W p l e R s m args below meth c H locs cells slots Q (F0 m pc ls (.ref a :: rest)) := z_getN Z (C := RX4) (T := TX4) (N := 8) (ci := 2) rfl in_X4 6 (by decide) q406 (fun _ h => h) hO hv hdg kk
theorem gf_X1_113 (Z : zC G p s m args meth c RX1 cc nL) {a : Nat} {fs : List Value} {v : Value} (hO : zO G H a 2 fs) (hv : fs[7]? = some v) (hdg : decode cc pc = .ok (.getfield 113, 3)) (kk : W p l e R s m args below meth c H locs cells slots Q (F0 m (pc + 3) ls (v :: rest))) : W p l e R s m args below meth c H locs cells slots Q (F0 m pc ls (.ref a :: rest)) := z_getN Z (C := RX4) (T := TX4) (N := 8) (ci := 2) rfl in_X4 7 (by decide) q408 (fun _ h => h) hO hv hdg kk
end LK
theorem gw_X1_11 : GoodIn lw_all (ws_ yJ2_init cJ2_init 1 none) := lw_meth q65
theorem gd_X1_11 : zhd yJ2_init 0 := by decide +kernel
theorem gw_X1_54 : GoodIn lw_all (va_wsS RX1 54 yX1_check (ws_ yX1_check cX1_check 3 (Option.none : Option Jvm.ClassFile.FieldType))) := lw_S q110 q111 q29 q112
theorem gd_X1_54 : zhd yX1_check 3 := by decide +kernel
theorem gw_X1_21 : GoodIn lw_all (ws_ yJ6_init cJ6_init 1 none) := lw_meth q157
theorem gd_X1_21 : zhd yJ6_init 0 := by decide +kernel
theorem gw_X1_28 : GoodIn lw_all (va_wsF RX1 28 RJ2 yL_size yJ2_size (ws_ yJ2_size cJ2_size 1 (Option.some Jvm.ClassFile.FieldType.int))) := lw_app (lw_4 q179 q183 q185 q32) (lw_meth q187)
theorem gw_X1_66 : GoodIn lw_all (va_wsS RX1 66 yX1_checkState (ws_ yX1_checkState cX1_checkState 1 (Option.none : Option Jvm.ClassFile.FieldType))) := lw_S q188 q189 q29 q190
theorem gd_X1_66 : zhd yX1_checkState 1 := by decide +kernel
theorem gw_X1_24 : GoodIn lw_all (ws_ yJ7_init cJ7_init 1 none) := lw_meth q202
theorem gd_X1_24 : zhd yJ7_init 0 := by decide +kernel
theorem gw_X3_1 : GoodIn lw_all (ws_ yJ8_init cJ8_init 1 none) := lw_meth q213
theorem gd_X3_1 : zhd yJ8_init 0 := by decide +kernel
theorem gw_X1_72 : GoodIn lw_all (va_wsF RX1 72 RJ2 yL_add yJ2_add (ws_ yJ2_add cJ2_add 2 (Option.some Jvm.ClassFile.FieldType.boolean))) := lw_app (lw_4 q223 q226 q228 q32) (lw_meth q230)
theorem gw_X1_50 : GoodIn lw_all (wsV RX1 50 RX1 yX1_title (ws_ yX1_title cX1_title 2 (Option.some (Jvm.ClassFile.FieldType.object "LinkResolver$Title")))) := lw_V q325 q327 qs4 q29 q328
theorem gd_X1_50 : yX1_title.cls = RX1 ∧ zhd yX1_title 1 := by decide +kernel
theorem gw_X1_34 : GoodIn lw_all (va_wsS RX1 34 yX1_checkIndex (ws_ yX1_checkIndex cX1_checkIndex 2 (Option.none : Option Jvm.ClassFile.FieldType))) := lw_S q329 q330 q29 q331
theorem gd_X1_34 : zhd yX1_checkIndex 2 := by decide +kernel
theorem gw_X1_27 : GoodIn lw_all (ws_ yJ12_init_2 cJ12_init_2 1 none) := lw_meth q343
theorem gd_X1_27 : zhd yJ12_init_2 0 := by decide +kernel
theorem gw_X1_38 : GoodIn lw_all (va_wsF RX1 38 RJ2 yL_get yJ2_get (ws_ yJ2_get cJ2_get 2 (Option.some (Jvm.ClassFile.FieldType.object "java/lang/Object")))) := lw_app (lw_4 q348 q351 q353 q32) (lw_meth q355)
theorem gw_X1_76 : GoodIn lw_all (wsV RX1 76 RX3 yX3_volumes (ws_ yX3_volumes cX3_volumes 1 (Option.some Jvm.ClassFile.FieldType.int))) := lw_V q366 q367 q368 q40 q369
theorem gd_X1_76 : yX3_volumes.cls = RX3 ∧ zhd yX3_volumes 0 := by decide +kernel
theorem gw_X1_79 : GoodIn lw_all (wsV RX1 79 RX3 yX3_firstYear (ws_ yX3_firstYear cX3_firstYear 1 (Option.some Jvm.ClassFile.FieldType.int))) := lw_V q370 q371 q372 q40 q373
theorem gd_X1_79 : yX3_firstYear.cls = RX3 ∧ zhd yX3_firstYear 0 := by decide +kernel
theorem gw_X1_82 : GoodIn lw_all (ws_ yX4_init cX4_init 7 none) := lw_meth q392
theorem gd_X1_82 : zhd yX4_init 5 := by decide +kernel
theorem gw_X4_11 : GoodIn lw_all (ws_ yJ2_init cJ2_init 1 none) := lw_meth q65
theorem gd_X4_11 : zhd yJ2_init 0 := by decide +kernel
theorem gw_X4_42 : GoodIn lw_all (va_wsF RX4 42 RJ2 yL_add yJ2_add (ws_ yJ2_add cJ2_add 2 (Option.some Jvm.ClassFile.FieldType.boolean))) := lw_app (lw_4 q397 q226 q228 q32) (lw_meth q230)
theorem gw_X1_46 : GoodIn lw_all (wsV RX1 46 RX1 yX1_pack (ws_ yX1_pack cX1_pack 2 (Option.some (Jvm.ClassFile.FieldType.object "LinkResolver$Package")))) := lw_V q434 q436 qs5 q29 q437
theorem gd_X1_46 : yX1_pack.cls = RX1 ∧ zhd yX1_pack 1 := by decide +kernel
theorem gw_X1_85 : GoodIn lw_all (wsV RX1 85 RX4 yX4_isSubscribed (ws_ yX4_isSubscribed cX4_isSubscribed 4 (Option.some Jvm.ClassFile.FieldType.boolean))) := lw_V q438 q439 q440 q50 q441
theorem gd_X1_85 : yX4_isSubscribed.cls = RX4 ∧ zhd yX4_isSubscribed 1 := by decide +kernel
theorem gw_X4_48 : GoodIn lw_all (va_wsF RX4 48 RJ2 yL_size yJ2_size (ws_ yJ2_size cJ2_size 1 (Option.some Jvm.ClassFile.FieldType.int))) := lw_app (lw_4 q443 q183 q185 q32) (lw_meth q187)
theorem gw_X4_52 : GoodIn lw_all (va_wsF RX4 52 RJ2 yL_get yJ2_get (ws_ yJ2_get cJ2_get 2 (Option.some (Jvm.ClassFile.FieldType.object "java/lang/Object")))) := lw_app (lw_4 q445 q351 q353 q32) (lw_meth q355)
theorem gw_X4_58 : GoodIn lw_all (wsV RX4 58 RX5 yX5_day (ws_ yX5_day cX5_day 1 (Option.some Jvm.ClassFile.FieldType.int))) := lw_V q447 q448 q449 q51 q450
theorem gd_X4_58 : yX5_day.cls = RX5 ∧ zhd yX5_day 0 := by decide +kernel
theorem gw_X4_61 : GoodIn lw_all (wsV RX4 61 RX5 yX5_isOn (ws_ yX5_isOn cX5_isOn 1 (Option.some Jvm.ClassFile.FieldType.boolean))) := lw_V q451 q452 q453 q51 q454
theorem gd_X4_61 : yX5_isOn.cls = RX5 ∧ zhd yX5_isOn 0 := by decide +kernel
theorem gw_X5_1 : GoodIn lw_all (ws_ yJ8_init cJ8_init 1 none) := lw_meth q213
theorem gd_X5_1 : zhd yJ8_init 0 := by decide +kernel
theorem gw_X1_97 : GoodIn lw_all (wsV RX1 97 RX1 yX1_packWith (ws_ yX1_packWith cX1_packWith 4 (Option.some (Jvm.ClassFile.FieldType.object "LinkResolver$Package")))) := lw_V q475 q477 qs6 q29 q478
theorem gd_X1_97 : yX1_packWith.cls = RX1 ∧ zhd yX1_packWith 2 := by decide +kernel
theorem gw_X1_101 : GoodIn lw_all (wsV RX1 101 RX4 yX4_isIn (ws_ yX4_isIn cX4_isIn 4 (Option.some Jvm.ClassFile.FieldType.boolean))) := lw_V q479 q480 q481 q50 q482
theorem gd_X1_101 : yX4_isIn.cls = RX4 ∧ zhd yX4_isIn 2 := by decide +kernel
theorem gw_X4_68 : GoodIn lw_all (wsV RX4 68 RX4 yX4_holding (ws_ yX4_holding cX4_holding 6 (Option.some (Jvm.ClassFile.FieldType.object "LinkResolver$Holding")))) := lw_V q483 q484 q485 q50 q486
theorem gd_X4_68 : yX4_holding.cls = RX4 ∧ zhd yX4_holding 2 := by decide +kernel
theorem gw_X4_67 : GoodIn lw_all (wsV RX4 67 RX6 yX6_day (ws_ yX6_day cX6_day 1 (Option.some Jvm.ClassFile.FieldType.int))) := lw_V q489 q490 q491 q52 q492
theorem gd_X4_67 : yX6_day.cls = RX6 ∧ zhd yX6_day 0 := by decide +kernel
theorem gw_X4_72 : GoodIn lw_all (wsV RX4 72 RX6 yX6_isIn (ws_ yX6_isIn cX6_isIn 1 (Option.some Jvm.ClassFile.FieldType.boolean))) := lw_V q493 q494 q495 q52 q496
theorem gd_X4_72 : yX6_isIn.cls = RX6 ∧ zhd yX6_isIn 0 := by decide +kernel
theorem gw_X6_1 : GoodIn lw_all (ws_ yJ8_init cJ8_init 1 none) := lw_meth q213
theorem gd_X6_1 : zhd yJ8_init 0 := by decide +kernel
theorem gw_X1_117 : GoodIn lw_all (wsV RX1 117 RX1 yX1_checkArticle (ws_ yX1_checkArticle cX1_checkArticle 4 (Option.none : Option Jvm.ClassFile.FieldType))) := lw_V q569 q571 qs7 q29 q572
theorem gd_X1_117 : yX1_checkArticle.cls = RX1 ∧ zhd yX1_checkArticle 3 := by decide +kernel
theorem gw_X1_58 : GoodIn lw_all (va_wsS RX1 58 yX1_checkGroup (ws_ yX1_checkGroup cX1_checkGroup 1 (Option.none : Option Jvm.ClassFile.FieldType))) := lw_S q573 q574 q29 q575
theorem gd_X1_58 : zhd yX1_checkGroup 1 := by decide +kernel
theorem gw_X1_120 : GoodIn lw_all (wsV RX1 120 RX4 yX4_covers (ws_ yX4_covers cX4_covers 5 (Option.some Jvm.ClassFile.FieldType.boolean))) := lw_V q576 q577 q578 q50 q579
theorem gd_X1_120 : yX4_covers.cls = RX4 ∧ zhd yX4_covers 4 := by decide +kernel
theorem gw_X4_89 : GoodIn lw_all (wsV RX4 89 RX4 yX4_letsIn (ws_ yX4_letsIn cX4_letsIn 2 (Option.some Jvm.ClassFile.FieldType.boolean))) := lw_V q580 q581 q582 q50 q583
theorem gd_X4_89 : yX4_letsIn.cls = RX4 ∧ zhd yX4_letsIn 1 := by decide +kernel
theorem gw_X4_85 : GoodIn lw_all (wsV RX4 85 RX4 yX4_gives (ws_ yX4_gives cX4_gives 7 (Option.some Jvm.ClassFile.FieldType.boolean))) := lw_V q584 q586 qs8 q50 q587
theorem gd_X4_85 : yX4_gives.cls = RX4 ∧ zhd yX4_gives 4 := by decide +kernel
theorem gw_X4_75 : GoodIn lw_all (wsV RX4 75 RX6 yX6_hasYear (ws_ yX6_hasYear cX6_hasYear 2 (Option.some Jvm.ClassFile.FieldType.boolean))) := lw_V q588 q589 q590 q52 q591
theorem gd_X4_75 : yX6_hasYear.cls = RX6 ∧ zhd yX6_hasYear 1 := by decide +kernel
theorem gw_X4_79 : GoodIn lw_all (wsV RX4 79 RX4 yX4_isSubscribed (ws_ yX4_isSubscribed cX4_isSubscribed 4 (Option.some Jvm.ClassFile.FieldType.boolean))) := lw_V q592 q439 q440 q50 q441
theorem gd_X4_79 : yX4_isSubscribed.cls = RX4 ∧ zhd yX4_isSubscribed 1 := by decide +kernel
theorem gw_X4_82 : GoodIn lw_all (wsV RX4 82 RX6 yX6_wall (ws_ yX6_wall cX6_wall 1 (Option.some Jvm.ClassFile.FieldType.int))) := lw_V q593 q594 q595 q52 q596
theorem gd_X4_82 : yX6_wall.cls = RX6 ∧ zhd yX6_wall 0 := by decide +kernel
theorem gw_X4_92 : GoodIn lw_all (wsV RX4 92 RX4 yX4_hasKept (ws_ yX4_hasKept cX4_hasKept 5 (Option.some Jvm.ClassFile.FieldType.boolean))) := lw_V q597 q598 q599 q50 q600
theorem gd_X4_92 : yX4_hasKept.cls = RX4 ∧ zhd yX4_hasKept 3 := by decide +kernel
theorem gw_X1_124 : GoodIn lw_all (wsV RX1 124 RX1 yX1_countWays (ws_ yX1_countWays cX1_countWays 7 (Option.some Jvm.ClassFile.FieldType.int))) := lw_V q608 q610 qs9 q29 q611
theorem gd_X1_124 : yX1_countWays.cls = RX1 ∧ zhd yX1_countWays 4 := by decide +kernel
theorem gw_X1_132 : GoodIn lw_all (wsV RX1 132 RX1 yX1_waysAhead (ws_ yX1_waysAhead cX1_waysAhead 9 (Option.some Jvm.ClassFile.FieldType.int))) := lw_V q619 q621 qs10 q29 q622
theorem gd_X1_132 : yX1_waysAhead.cls = RX1 ∧ zhd yX1_waysAhead 5 := by decide +kernel
theorem gw_X1_128 : GoodIn lw_all (wsV RX1 128 RX4 yX4_isWayAheadOf (ws_ yX4_isWayAheadOf cX4_isWayAheadOf 4 (Option.some Jvm.ClassFile.FieldType.boolean))) := lw_V q623 q624 q625 q50 q626
theorem gd_X1_128 : yX4_isWayAheadOf.cls = RX4 ∧ zhd yX4_isWayAheadOf 2 := by decide +kernel
theorem gw_X1_142 : GoodIn lw_all (wsV RX1 142 RX1 yX1_thisYear (ws_ yX1_thisYear cX1_thisYear 1 (Option.some Jvm.ClassFile.FieldType.int))) := lw_V q634 q636 qs11 q29 q637
theorem gd_X1_142 : yX1_thisYear.cls = RX1 ∧ zhd yX1_thisYear 0 := by decide +kernel
theorem gw_X1_136 : GoodIn lw_all (va_wsS RX1 136 yJ10_min (ws_ yJ10_min cJ10_min 2 (Option.some Jvm.ClassFile.FieldType.int))) := lw_S q638 q278 q42 q279
theorem gd_X1_136 : zhd yJ10_min 2 := by decide +kernel
theorem gw_X1_149 : GoodIn lw_all (wsV RX1 149 RX1 yX1_wouldBeLost (ws_ yX1_wouldBeLost cX1_wouldBeLost 6 (Option.some Jvm.ClassFile.FieldType.boolean))) := lw_V q653 q655 qs12 q29 q656
theorem gd_X1_149 : yX1_wouldBeLost.cls = RX1 ∧ zhd yX1_wouldBeLost 4 := by decide +kernel
theorem gw_X1_145 : GoodIn lw_all (wsV RX1 145 RX4 yX4_hasKept (ws_ yX4_hasKept cX4_hasKept 5 (Option.some Jvm.ClassFile.FieldType.boolean))) := lw_V q657 q598 q599 q50 q600
theorem gd_X1_145 : yX4_hasKept.cls = RX4 ∧ zhd yX4_hasKept 3 := by decide +kernel
theorem gw_X1_70 : GoodIn lw_all (ws_ yX3_init cX3_init 3 none) := lw_meth q210
theorem gd_X1_70 : zhd yX3_init 2 := by decide +kernel
theorem gw_X1_94 : GoodIn lw_all (ws_ yX5_init cX5_init 3 none) := lw_meth q459
theorem gd_X1_94 : zhd yX5_init 2 := by decide +kernel
theorem gw_X1_110 : GoodIn lw_all (ws_ yX6_init cX6_init 6 none) := lw_meth q502
theorem gd_X1_110 : zhd yX6_init 5 := by decide +kernel
