/-! the component: changes -/
/-- the component holds σ1; nothing but its own has changed -/
def xNx (G : zG) (H : Heap) (R : xRo) (σ1 : zS) (n o : Nat) (H1 : Heap) : Prop := ∃ R1, xRep G H1 R1 σ1 n o ∧ H.size ≤ H1.size ∧ (∀ q, q < H.size → R1 q = R q) ∧ ∀ q, q < H.size → R q = (0, 0, 0) → H1[q]? = H[q]?
section XM
variable {G : zG} {H H1 H2 : Heap} {R R1 : xRo} {ρ : Nat × Nat × Nat} {σ σ1 : zS} {n n1 o tl pl : Nat} {ts ps : List Nat}
theorem xNx.of (h : xCh H R ρ H1 R1) (hρ : (0, 0, 0) ≠ ρ) (hA : xRep G H1 R1 σ1 n1 o) : xNx G H R σ1 n1 o H1 := ⟨R1, hA, h.1, h.2.1, fun q h1 h2 => h.2.2 q h1 (by rw [h2]; exact hρ)⟩
/-- package j alone has changed -/
theorem xOp.putP (hX : xOp G H R σ n o tl pl ts ps) {c j k9 p : Nat} (hc : c = 3 ∨ c = 5 ∨ c = 6) (h : xCh H R (c, j, k9) H1 R1) (hp : ps[j]? = some p) (e1 : σ1.1 = σ.1) (e2 : σ1.2.1 = σ.2.1) (e3 : ∀ p' k d, p' ≠ j → sL σ1 p' k d = sL σ p' k d) (e4 : ∀ p' t, p' ≠ j → sB σ1 p' t = sB σ p' t) (hn : n ≤ n1) (hP : xPk G H1 R1 σ1 n1 j p) : xOp G H1 R1 σ1 n1 o tl pl ts ps := by
  obtain ⟨h1, h2, h3, ⟨a1, a2, a3⟩, b1, b2, b3⟩ := hX
  obtain ⟨c1, c2⟩ := h.o (by rw [h1]; exact rne (by omega)) h3
  have eT : sT σ1 = sT σ := by unfold sT; rw [e1]
  have eN : sN σ1 = sN σ := by unfold sN; rw [e1]
  have eP : sP σ1 = sP σ := by unfold sP; rw [e1]
  have eA : sA σ1 = sA σ := e2
  refine ⟨c1.trans h1, h2, by rw [eT]; exact c2, ⟨h.ls (rne (by omega)) a1 (fun e he => ?_), a2.trans eN.symm, fun i y hy => ?_⟩, h.ls (rne (by omega)) b1 (fun e he => ?_), b2.trans eP.symm, fun i y hy => ?_⟩
  · obtain ⟨i, hi⟩ := List.getElem?_of_mem he
    rw [(a3 i e hi).1]
    exact rne (by omega)
  · obtain ⟨g1, g2⟩ := a3 i y hy
    obtain ⟨k1, k2⟩ := h.o (by rw [g1]; exact rne (by omega)) g2
    rw [eA]
    exact ⟨k1.trans g1, k2⟩
  · obtain ⟨i, hi⟩ := List.getElem?_of_mem he
    rw [(b3 i e hi).role]
    exact rne (by omega)
  · rcases Decidable.em (i = j) with e | e
    · subst e
      rw [hp] at hy
      injection hy with hy
      subst hy
      exact hP
    · exact (b3 i y hy).kept h (rne (by omega)) (Or.inl (fun z => e z.symm)) hn (fun k _ _ => by rw [eA]) (fun k d _ => e3 i k d e) (fun k _ => e4 i k e)
/-- one more change in a list of them -/
def xUp (q : xQ) (n : Nat) (x : Int32 × Int32 × Int32 × Int32 × Int32) : xQ := fun i => if i = n then x else q i
theorem xUp_n {q : xQ} {n : Nat} {x : Int32 × Int32 × Int32 × Int32 × Int32} : xUp q n x n = x := if_pos rfl
theorem xUp_lt {q : xQ} {n i : Nat} {x : Int32 × Int32 × Int32 × Int32 × Int32} (h : i < n) : xUp q n x i = q i := if_neg (by omega)
theorem xFold_congr {q q' : xQ} {d : Int32} : ∀ {n : Nat}, (∀ i, i < n → q i = q' i) → xFold q n d = xFold q' n d
  | 0, _ => rfl
  | n + 1, h => by
    show (if (q n).1 ≤ d then some (q n).2 else xFold q n d) = if (q' n).1 ≤ d then some (q' n).2 else xFold q' n d
    rw [h n (Nat.lt_succ_self n), xFold_congr (fun i hi => h i (Nat.lt_succ_of_lt hi))]
theorem xFold_up {q : xQ} {n : Nat} {x : Int32 × Int32 × Int32 × Int32 × Int32} {d : Int32} : xFold (xUp q n x) (n + 1) d = if x.1 ≤ d then some x.2 else xFold q n d := by
  show (if (xUp q n x n).1 ≤ d then some (xUp q n x n).2 else xFold (xUp q n x) n d) = _
  rw [xUp_n, xFold_congr (fun i hi => xUp_lt hi)]
theorem xUp_01 {q : xQ} {n : Nat} {x : Int32 × Int32 × Int32 × Int32 × Int32} (h : ∀ i, (q i).2.1 = 0 ∨ (q i).2.1 = 1) (hx : x.2.1 = 0 ∨ x.2.1 = 1) (i : Nat) : (xUp q n x i).2.1 = 0 ∨ (xUp q n x i).2.1 = 1 := by
  unfold xUp
  split
  · exact hx
  · exact h i
/-- adding to a list of role ρ the object just made -/
theorem xAdd {τ : Nat × Nat × Nat} (hτ : τ ≠ (9, 0, 0)) {a : Nat} {es : List Nat} (hA : zLs G H (fun a => R a = τ) a es) (hes : ∀ (i e : Nat), es[i]? = some e → R e = (9, 0, 0)) {R2 : xRo} (hk : zKeep H H2) (hR : ∀ q, q < H.size → R2 q = R q) {x : Nat} (hRx : R2 x = (9, 0, 0)) :
    zLs G H2 (fun q => R2 q = τ) a es ∧ (∀ e ∈ es ++ [x], ¬ R2 e = τ) ∧ ∀ H3, jAdd G H2 (fun q => R2 q = τ) a x es H3 → ∃ R3, xCh H2 R2 τ H3 R3 ∧ xCh H R τ H3 R3 ∧ zLs G H3 (fun q => R3 q = τ) a (es ++ [x]) := by
  have hel : ∀ e ∈ es, e < H.size := fun e he => (hA.2.2.1 e he).lt
  refine ⟨hA.kept (fun q z1 z2 => ⟨(hR q z2).trans z1, hk.2 q z2⟩) (fun e _ hE => hE.kept (hk.2 e hE.lt)), fun e he => ?_, fun H3 h3 => ?_⟩
  · rcases List.mem_append.mp he with g | g
    · obtain ⟨i, hi⟩ := List.getElem?_of_mem g
      rw [hR e (hel e g), hes i e hi]
      exact Ne.symm hτ
    · rw [List.mem_singleton.mp g, hRx]
      exact Ne.symm hτ
  · obtain ⟨g1, g2, g3⟩ := h3
    have c2 : xCh H2 R2 τ H3 (upR R2 H2.size τ) := ⟨g2, fun q hq => upR_lt hq, fun q h1 h2 => g3 q h1 h2⟩
    have hs := hk.1
    refine ⟨upR R2 H2.size τ, c2, ⟨Nat.le_trans hs g2, fun q hq => (upR_lt (by omega)).trans (hR q hq), fun q h1 h2 => (g3 q (by omega) (fun z => h2 ((hR q h1).symm.trans z))).trans (hk.2 q h1)⟩, g1.to (fun q z => ?_)⟩
    rcases z with z | z
    · rcases Nat.lt_or_ge q H2.size with g | g
      · exact (upR_lt g).trans z
      · exact upR_ge g
    · exact upR_ge z
theorem xAdd_el {es : List Nat} {x i y : Nat} (h : (es ++ [x])[i]? = some y) : (i < es.length ∧ es[i]? = some y) ∨ (i = es.length ∧ y = x) := by
  rcases Nat.lt_or_ge i es.length with g | g
  · rw [List.getElem?_append_left g] at h
    exact Or.inl ⟨g, h⟩
  · rw [List.getElem?_append_right g] at h
    rcases Nat.lt_or_ge (i - es.length) 1 with z | z
    · have e : i = es.length := by omega
      subst e
      rw [Nat.sub_self] at h
      injection h with h
      exact Or.inr ⟨rfl, h.symm⟩
    · rw [List.getElem?_eq_none z] at h
      cases h
/-- a subscription is added -/
theorem xOp.sub (hX : xOp G H R σ n o tl pl ts ps) {j p sl hl br : Nat} (hp : ps[j]? = some p) (hR : R p = (9, 0, 0)) (hO : zO G H p 2 (xPf σ j sl hl br)) (hHs : xHs G H R σ j hl n) (hBk : xBk G H R σ j br) {es : List Nat} {q : xQ} (hA : zLs G H (fun a => R a = (3, j, 0)) sl es) (hlen : es.length ≤ n)
    (hEs : ∀ i y, es[i]? = some y → R y = (9, 0, 0) ∧ zO G H y 3 [.int (q i).1, .int (q i).2.1]) (h01 : ∀ i, (q i).2.1 = 0 ∨ (q i).2.1 = 1) (hlk : ∀ d, sL σ j 20 d = xFold q es.length d) {on : Int32} (hon : on = 0 ∨ on = 1) (hk : zKeep H H2) (hx : zO G H2 H.size 3 [.int (sT σ), .int on]) :
    ∃ S : Nat → Prop, zLs G H2 S sl es ∧ (∀ e ∈ es ++ [H.size], ¬ S e) ∧ ∀ H3, jAdd G H2 S sl H.size es H3 → xNx G H R (sNote σ j 20 on 0 0 0) (n + 1) o H3 := by
  obtain ⟨g1, g2, g3⟩ := xAdd (R2 := upR R H.size (9, 0, 0)) (x := H.size) (rne (by decide)) hA (fun i e h => (hEs i e h).1) hk (fun q hq => upR_lt hq) (upR_ge (Nat.le_refl _))
  refine ⟨_, g1, g2, fun H3 h3 => ?_⟩
  obtain ⟨R3, c2, c, hL3⟩ := g3 H3 h3
  obtain ⟨k1, k2⟩ := c.o (by rw [hR]; exact rne (by decide)) hO
  obtain ⟨x1, x2⟩ := c2.o (y := H.size) (by rw [upR_ge (Nat.le_refl _)]; exact rne (by decide)) hx
  refine xNx.of c (rne (by decide)) (hX.putP (σ1 := sNote σ j 20 on 0 0 0) (n1 := n + 1) (Or.inl rfl) c hp rfl rfl (fun p' k d h => if_neg (fun z => h z.1)) (fun _ _ _ => rfl) (Nat.le_succ n) ⟨sl, hl, br, k1.trans hR, k2, ⟨es ++ [H.size], xUp q es.length (sT σ, on, 0, 0, 0), hL3, by rw [List.length_append]; exact Nat.add_le_add_right hlen 1, fun i y hy => ?_, xUp_01 h01 hon, fun d => ?_⟩, hHs.kept c (rne (by decide)) (rne (by decide)) (fun k => rne (by decide)) (Nat.le_succ n) (fun k d hk => if_neg (fun z => by omega)), hBk.kept c (rne (by decide)) (fun _ _ => rfl)⟩).rep
  · rcases xAdd_el hy with ⟨e1, e2⟩ | ⟨e1, e2⟩
    · obtain ⟨m1, m2⟩ := hEs i y e2
      obtain ⟨m3, m4⟩ := c.o (by rw [m1]; exact rne (by decide)) m2
      rw [xUp_lt e1]
      exact ⟨m3.trans m1, m4⟩
    · rw [e1, e2, xUp_n]
      exact ⟨x1.trans (upR_ge (Nat.le_refl _)), x2⟩
  · rw [List.length_append]
    show _ = xFold _ (es.length + 1) d
    rw [xFold_up, ← hlk d]
    show (if j = j ∧ 20 = 20 ∧ sT σ ≤ d then _ else _) = _
    simp only [true_and]
/-- a holding is added -/
theorem xOp.hld (hX : xOp G H R σ n o tl pl ts ps) {j p sl hl br : Nat} (hp : ps[j]? = some p) (hR : R p = (9, 0, 0)) (hO : zO G H p 2 (xPf σ j sl hl br)) (hSb : xSb G H R σ j sl n) (hBk : xBk G H R σ j br) {hs : List Nat} (hA0 : zLs G H (fun a => R a = (4, j, 0)) hl hs) (h20 : hs.length = 20) (hHd : ∀ k h, hs[k]? = some h → xHd G H R σ j k h n) {k h : Nat} (hk20 : k < 20) (hh : hs[k]? = some h)
    {es : List Nat} {q : xQ} (hA : zLs G H (fun a => R a = (5, j, k)) h es) (hlen : es.length ≤ n) (hEs : ∀ i y, es[i]? = some y → R y = (9, 0, 0) ∧ zO G H y 4 [.int (q i).1, .int (q i).2.1, .int (q i).2.2.1, .int (q i).2.2.2.1, .int (q i).2.2.2.2]) (h01 : ∀ i, (q i).2.1 = 0 ∨ (q i).2.1 = 1) (hlk : ∀ d, sL σ j k d = xFold q es.length d) {on fi la wa : Int32} (hon : on = 0 ∨ on = 1) (hk : zKeep H H2) (hx : zO G H2 H.size 4 [.int (sT σ), .int on, .int fi, .int la, .int wa]) :
    ∃ S : Nat → Prop, zLs G H2 S h es ∧ (∀ e ∈ es ++ [H.size], ¬ S e) ∧ ∀ H3, jAdd G H2 S h H.size es H3 → xNx G H R (sNote σ j k on fi la wa) (n + 1) o H3 := by
  obtain ⟨g1, g2, g3⟩ := xAdd (R2 := upR R H.size (9, 0, 0)) (x := H.size) (rne (by decide)) hA (fun i e h => (hEs i e h).1) hk (fun q hq => upR_lt hq) (upR_ge (Nat.le_refl _))
  refine ⟨_, g1, g2, fun H3 h3 => ?_⟩
  obtain ⟨R3, c2, c, hL3⟩ := g3 H3 h3
  obtain ⟨k1, k2⟩ := c.o (by rw [hR]; exact rne (by decide)) hO
  obtain ⟨x1, x2⟩ := c2.o (y := H.size) (by rw [upR_ge (Nat.le_refl _)]; exact rne (by decide)) hx
  refine xNx.of c (rne (by decide)) (hX.putP (σ1 := sNote σ j k on fi la wa) (n1 := n + 1) (Or.inr (Or.inl rfl)) c hp rfl rfl (fun p' k d h => if_neg (fun z => h z.1)) (fun _ _ _ => rfl) (Nat.le_succ n) ⟨sl, hl, br, k1.trans hR, k2, hSb.kept c (rne (by decide)) (rne (by decide)) (Nat.le_succ n) (fun d => if_neg (fun z => by omega)), ⟨hs, hA0.kept (fun q hq hl => ⟨(c.2.1 q hl).trans hq, c.2.2 q hl (by rw [show R q = (4, j, 0) from hq]; exact rne (by decide))⟩) (fun e he hE => ?_), h20, fun i b hb => ?_⟩, hBk.kept c (rne (by decide)) (fun _ _ => rfl)⟩).rep
  · obtain ⟨i, hi⟩ := List.getElem?_of_mem he
    rcases Decidable.em (i = k) with z | z
    · subst z
      rw [hh] at hi
      injection hi with hi
      subst hi
      obtain ⟨-, -, -, m9, d9, y9, -⟩ := hL3
      exact zEl.o6 y9
    · refine c.el ?_ hE
      rw [(hHd i e hi).role]
      exact fun y => z (congrArg (fun w => w.2.2) y)
  · have hi20 : i < 20 := by rw [← h20]; exact (List.getElem?_eq_some_iff.mp hb).1
    rcases Decidable.em (i = k) with z | z
    · subst z
      rw [hh] at hb
      injection hb with hb
      subst hb
      refine ⟨es ++ [H.size], xUp q es.length (sT σ, on, fi, la, wa), hL3, by rw [List.length_append]; exact Nat.add_le_add_right hlen 1, fun i' y hy => ?_, xUp_01 h01 hon, fun d => ?_⟩
      · rcases xAdd_el hy with ⟨e1, e2⟩ | ⟨e1, e2⟩
        · obtain ⟨m1, m2⟩ := hEs i' y e2
          obtain ⟨m3, m4⟩ := c.o (by rw [m1]; exact rne (by decide)) m2
          rw [xUp_lt e1]
          exact ⟨m3.trans m1, m4⟩
        · rw [e1, e2, xUp_n]
          exact ⟨x1.trans (upR_ge (Nat.le_refl _)), x2⟩
      · rw [List.length_append]
        show _ = xFold _ (es.length + 1) d
        rw [xFold_up, ← hlk d]
        show (if j = j ∧ i = i ∧ sT σ ≤ d then _ else _) = _
        simp only [true_and]
    · exact (hHd i b hb).kept c (rne (by decide)) (fun y => z (congrArg (fun w => w.2.2) y).symm) (Nat.le_succ n) (fun d => if_neg (fun y => z y.2.1))
/-- a title is added -/
theorem xOp.ttl (hX : xOp G H R σ n o tl pl ts ps) {a b : Int32} (hk : zKeep H H2) (hx : zO G H2 H.size 1 [.int a, .int b]) :
    ∃ S : Nat → Prop, zLs G H2 S tl ts ∧ (∀ e ∈ ts ++ [H.size], ¬ S e) ∧ ∀ H3, jAdd G H2 S tl H.size ts H3 → ∃ R3, xCh H R (2, 0, 0) H3 R3 ∧ xOp G H3 R3 (sAddT σ a b) (n + 1) o tl pl (ts ++ [H.size]) ps := by
  obtain ⟨h1, h2, h3, ⟨a1, a2, a3⟩, b1, b2, b3⟩ := hX
  obtain ⟨g1, g2, g3⟩ := xAdd (R2 := upR R H.size (9, 0, 0)) (x := H.size) (rne (by decide)) a1 (fun i e h => (a3 i e h).1) hk (fun q hq => upR_lt hq) (upR_ge (Nat.le_refl _))
  refine ⟨_, g1, g2, fun H3 h3' => ?_⟩
  obtain ⟨R3, c2, c, hL3⟩ := g3 H3 h3'
  obtain ⟨k1, k2⟩ := c.o (by rw [h1]; exact rne (by decide)) h3
  obtain ⟨x1, x2⟩ := c2.o (y := H.size) (by rw [upR_ge (Nat.le_refl _)]; exact rne (by decide)) hx
  refine ⟨R3, c, k1.trans h1, h2, k2, ⟨hL3, by rw [List.length_append, a2]; rfl, fun i y hy => ?_⟩, c.ls (rne (by decide)) b1 (fun e he => ?_), b2, fun j y hy => (b3 j y hy).kept c (rne (by decide)) (Or.inr (by decide)) (Nat.le_succ n) (fun k h1 h2 => by rcases k with _ | _ | k <;> simp [sAddT, va_up] <;> omega) (fun _ _ _ => rfl) (fun _ _ => rfl)⟩
  · rcases xAdd_el hy with ⟨e1, e2⟩ | ⟨e1, e2⟩
    · obtain ⟨m1, m2⟩ := a3 i y e2
      obtain ⟨m3, m4⟩ := c.o (by rw [m1]; exact rne (by decide)) m2
      have hne : i ≠ sN σ := by omega
      have e3 : sA (sAddT σ a b) 0 i = sA σ 0 i := upd_ne hne
      have e4 : sA (sAddT σ a b) 1 i = sA σ 1 i := upd_ne hne
      rw [e3, e4]
      exact ⟨m3.trans m1, m4⟩
    · have e3 : sA (sAddT σ a b) 0 (sN σ) = a := upd_eq
      have e4 : sA (sAddT σ a b) 1 (sN σ) = b := upd_eq
      rw [e1, e2, a2, e3, e4]
      exact ⟨x1.trans (upR_ge (Nat.le_refl _)), x2⟩
  · obtain ⟨i, hi⟩ := List.getElem?_of_mem he
    rw [(b3 i e hi).role]
    exact rne (by decide)
/-- a package is added: p just made, of roles R2 -/
theorem xOp.pkg (hX : xOp G H R σ n o tl pl ts ps) {c0 v g k : Int32} {R2 : xRo} {p : Nat} (hk : zKeep H H2) (hR : ∀ q, q < H.size → R2 q = R q) (hx : xPk G H2 R2 (sAddP σ c0 v g k) 0 (sP σ) p) :
    ∃ S : Nat → Prop, zLs G H2 S pl ps ∧ (∀ e ∈ ps ++ [p], ¬ S e) ∧ ∀ H3, jAdd G H2 S pl p ps H3 → ∃ R3, xCh H R (7, 0, 0) H3 R3 ∧ xOp G H3 R3 (sAddP σ c0 v g k) (n + 1) o tl pl ts (ps ++ [p]) := by
  obtain ⟨h1, h2, h3, ⟨a1, a2, a3⟩, b1, b2, b3⟩ := hX
  obtain ⟨g1, g2, g3⟩ := xAdd (R2 := R2) (x := p) (rne (by decide)) b1 (fun i e h => (b3 i e h).role) hk hR hx.role
  refine ⟨_, g1, g2, fun H3 h3' => ?_⟩
  obtain ⟨R3, c2, c, hL3⟩ := g3 H3 h3'
  obtain ⟨k1, k2⟩ := c.o (by rw [h1]; exact rne (by decide)) h3
  refine ⟨R3, c, k1.trans h1, h2, k2, ⟨c.ls (rne (by decide)) a1 (fun e he => ?_), a2, fun i y hy => ?_⟩, hL3, by rw [List.length_append, b2]; rfl, fun j y hy => ?_⟩
  · obtain ⟨i, hi⟩ := List.getElem?_of_mem he
    rw [(a3 i e hi).1]
    exact rne (by decide)
  · obtain ⟨m1, m2⟩ := a3 i y hy
    obtain ⟨m3, m4⟩ := c.o (by rw [m1]; exact rne (by decide)) m2
    exact ⟨m3.trans m1, m4⟩
  · rcases xAdd_el hy with ⟨e1, e2⟩ | ⟨e1, e2⟩
    · have hne : j ≠ sP σ := by omega
      exact xPk.kept (σ := σ) (σ1 := sAddP σ c0 v g k) (n := n) c (rne (by decide)) (Or.inr (by decide)) (Nat.le_succ n) (fun k h1 h2 => by
        have e : k = 2 ∨ k = 3 ∨ k = 4 ∨ k = 5 := by omega
        rcases e with rfl | rfl | rfl | rfl
        · exact upd_ne hne
        · exact upd_ne hne
        · exact upd_ne hne
        · exact upd_ne hne) (fun _ _ _ => rfl) (fun _ _ => rfl) (b3 j y e2)
    · rw [e1, e2, b2]
      exact hx.kept c2 (rne (by decide)) (Or.inr (by decide)) (Nat.zero_le _) (fun _ _ _ => rfl) (fun _ _ _ => rfl) (fun _ _ => rfl)
/-- a break is noted, or mended -/
theorem xOp.brk (hX : xOp G H R σ n o tl pl ts ps) {j p sl hl br : Nat} (hp : ps[j]? = some p) (hR : R p = (9, 0, 0)) (hO : zO G H p 2 (xPf σ j sl hl br)) (hSb : xSb G H R σ j sl n) (hHs : xHs G H R σ j hl n) (hBr : R br = (6, j, 0)) (hBb : (zHB G).size ≤ br) {bf : Nat → Int32} (hbf : ∀ k, k < 20 → bf k = sB σ j k) {k : Nat} {x : Int32} (hk20 : k < 20) (hI : zI G H1 br 20 (upd bf k x)) (hz : H1.size = H.size) (hq : ∀ q : Nat, q ≠ br → H1[q]? = H[q]?) :
    xNx G H R (sPutB σ j k x) (n + 1) o H1 := by
  have c : xCh H R (6, j, 0) H1 R := ⟨by omega, fun _ _ => rfl, fun q h1 h2 => hq q (fun e => h2 (by rw [e, hBr]))⟩
  obtain ⟨k1, k2⟩ := c.o (by rw [hR]; exact rne (by decide)) hO
  refine xNx.of c (rne (by decide)) (hX.putP (σ1 := sPutB σ j k x) (n1 := n + 1) (Or.inr (Or.inr rfl)) c hp rfl rfl (fun _ _ _ _ => rfl) (fun p' t h => if_neg (fun z => h z.1)) (Nat.le_succ n) ⟨sl, hl, br, hR, k2, hSb.kept c (rne (by decide)) (rne (by decide)) (Nat.le_succ n) (fun _ => rfl), hHs.kept c (rne (by decide)) (rne (by decide)) (fun _ => rne (by decide)) (Nat.le_succ n) (fun _ _ _ => rfl), hBr, hBb, _, hI, fun t ht => ?_⟩).rep
  show upd bf k x t = if j = j ∧ t = k then x else sB σ j t
  simp only [true_and, upd]
  split
  · rfl
  · exact hbf t ht
/-- the day passes -/
theorem xOp.day (hX : xOp G H R σ n o tl pl ts ps) {d : Int32} (hO : zO G H1 o 0 [.ref tl, .ref pl, .int (sT σ + d)]) (hz : H1.size = H.size) (hq : ∀ q : Nat, q ≠ o → H1[q]? = H[q]?) : xCh H R (1, 0, 0) H1 R ∧ xOp G H1 R (sPass σ d) (n + 1) o tl pl ts ps := by
  have hR := hX.1
  have c : xCh H R (1, 0, 0) H1 R := ⟨by omega, fun _ _ => rfl, fun q h1 h2 => hq q (fun e => h2 (by rw [e, hR]))⟩
  obtain ⟨h1, h2, h3, ⟨a1, a2, a3⟩, b1, b2, b3⟩ := hX
  refine ⟨c, h1, h2, hO, ⟨c.ls (rne (by decide)) a1 (fun e he => ?_), a2, fun i y hy => ?_⟩, c.ls (rne (by decide)) b1 (fun e he => ?_), b2, fun j y hy => (b3 j y hy).kept c (rne (by decide)) (Or.inr (by decide)) (Nat.le_succ n) (fun _ _ _ => rfl) (fun _ _ _ => rfl) (fun _ _ => rfl)⟩
  · obtain ⟨i, hi⟩ := List.getElem?_of_mem he
    rw [(a3 i e hi).1]
    exact rne (by decide)
  · obtain ⟨m1, m2⟩ := a3 i y hy
    obtain ⟨m3, m4⟩ := c.o (by rw [m1]; exact rne (by decide)) m2
    exact ⟨m3.trans m1, m4⟩
  · obtain ⟨i, hi⟩ := List.getElem?_of_mem he
    rw [(b3 i e hi).role]
    exact rne (by decide)
end XM
