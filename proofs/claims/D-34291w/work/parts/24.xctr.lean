/-! the component: constructors -/
def upR (R : xRo) (z : Nat) (ρ : Nat × Nat × Nat) : xRo := fun q => if q < z then R q else ρ
theorem upR_lt {R : xRo} {z q : Nat} {ρ : Nat × Nat × Nat} (h : q < z) : upR R z ρ q = R q := if_pos h
theorem upR_ge {R : xRo} {z q : Nat} {ρ : Nat × Nat × Nat} (h : z ≤ q) : upR R z ρ q = ρ := if_neg (by omega)
section XK2
variable {G : zG} {H H1 : Heap} {R R1 : xRo} {ρ : Nat × Nat × Nat} {σ σ1 : zS} {n n1 o tl pl : Nat} {ts ps : List Nat}
/-- what is none of the component's may change -/
theorem xOp.ch (h : xCh H R (0, 0, 0) H1 R1) (hA : xOp G H R σ n o tl pl ts ps) : xOp G H1 R1 σ n o tl pl ts ps := by
  obtain ⟨h1, h2, h3, ⟨a1, a2, a3⟩, b1, b2, b3⟩ := hA
  obtain ⟨c1, c2⟩ := h.o (by rw [h1]; decide) h3
  refine ⟨c1.trans h1, h2, c2, ⟨h.ls (by decide) a1 (fun e he => ?_), a2, fun i y hy => ?_⟩, h.ls (by decide) b1 (fun e he => ?_), b2, fun j y hy => (b3 j y hy).kept h (by decide) (Or.inr (by decide)) (Nat.le_refl _) (fun _ _ _ => rfl) (fun _ _ _ => rfl) (fun _ _ => rfl)⟩
  · obtain ⟨i, hi⟩ := List.getElem?_of_mem he
    rw [(a3 i e hi).1]
    decide
  · obtain ⟨g1, g2⟩ := a3 i y hy
    obtain ⟨k1, k2⟩ := h.o (by rw [g1]; decide) g2
    exact ⟨k1.trans g1, k2⟩
  · obtain ⟨i, hi⟩ := List.getElem?_of_mem he
    rw [(b3 i e hi).role]
    decide
theorem xRep.ch (h : xCh H R (0, 0, 0) H1 R1) (hA : xRep G H R σ n o) : xRep G H1 R1 σ n o := by
  obtain ⟨tl, pl, ts, ps, g⟩ := hA.op
  exact (g.ch h).rep
end XK2
/-- the list's cells, in other words -/
theorem zLs.to {G : zG} {H : Heap} {S S' : Nat → Prop} {a : Nat} {es : List Nat} (h : zLs G H S a es) (hS : ∀ q, S q → S' q) : zLs G H S' a es := h.kept (fun q hq _ => ⟨hS q hq, rfl⟩) (fun _ _ h => h)
theorem zLs.nil {G : zG} {H : Heap} {S : Nat → Prop} {a : Nat} {m : Int32} (hS : S a) (ha : (zHB G).size ≤ a) (hO : zO G H a 6 [.int m, .ref (zdE G), .int 0]) : zLs G H S a [] := ⟨hS, ha, fun _ h => absurd h List.not_mem_nil, m, _, hO, Or.inl ⟨rfl, rfl⟩⟩
theorem rne {a b : Nat} (h : a ≠ b) {j c d e : Nat} : (a, j, c) ≠ (b, d, e) := fun z => h (congrArg Prod.fst z)
/-- a package half made: m lists for titles -/
def xPc (G : zG) (H0 : Heap) (R0 : xRo) (a j sl hl br : Nat) (fs : List Value) (m : Nat) (H : Heap) (R : xRo) : Prop :=
  zO G H a 2 (fs ++ [.ref sl, .ref hl, .ref br]) ∧ zLs G H (fun q => H0.size ≤ q ∧ R q = (3, j, 0)) sl [] ∧ ((zHB G).size ≤ br ∧ H0.size ≤ br ∧ R br = (6, j, 0) ∧ zI G H br 20 (fun _ => 0)) ∧
  (∃ hs, zLs G H (fun q => H0.size ≤ q ∧ R q = (4, j, 0)) hl hs ∧ hs.length = m ∧ ∀ i h, hs[i]? = some h → zLs G H (fun q => H0.size ≤ q ∧ R q = (5, j, i)) h []) ∧
  H0.size ≤ H.size ∧ (∀ q, q < H0.size → R q = R0 q) ∧ (∀ q, q < H0.size → q ≠ a → H[q]? = H0[q]?) ∧ a < H0.size ∧ (zHB G).size ≤ H0.size
theorem xPc.step {G : zG} {H0 H H1 : Heap} {R0 R : xRo} {a j sl hl br m : Nat} {fs : List Value} (h : xPc G H0 R0 a j sl hl br fs m H R) (hO : zO G H1 H.size 6 [.int 0, .ref (zdE G), .int 0]) (hz : H1.size = H.size + 1) (hq : ∀ q, q < H.size → H1[q]? = H[q]?) :
    ∃ (hs : List Nat) (S : Nat → Prop), zLs G H1 S hl hs ∧ (∀ e ∈ hs ++ [H.size], ¬ S e) ∧ hs.length = m ∧ ∀ H2, jAdd G H1 S hl H.size hs H2 → ∃ R2, xPc G H0 R0 a j sl hl br fs (m + 1) H2 R2 := by
  obtain ⟨h1, h2, ⟨b1, b2, b3, b4⟩, ⟨hs, c1, c2, c3⟩, h5, h6, h7, h8, h9⟩ := h
  have hk : zKeep H H1 := ⟨by omega, hq⟩
  have c0 := c1.keep hk
  obtain ⟨R1, hR1⟩ : ∃ R1, R1 = upR R H.size (5, j, m) := ⟨_, rfl⟩
  have r1 : ∀ q, q < H.size → R1 q = R q := fun q hq => by rw [hR1, upR_lt hq]
  have r2 : R1 H.size = (5, j, m) := by rw [hR1, upR_ge (Nat.le_refl _)]
  have hsl : ∀ e ∈ hs, e < H.size ∧ ∃ i, R e = (5, j, i) := by
    intro e he
    obtain ⟨i, hi⟩ := List.getElem?_of_mem he
    have g := c3 i e hi
    obtain ⟨g1, -, -, m9, d9, g2, -⟩ := g
    exact ⟨g2.lt, i, g1.2⟩
  refine ⟨hs, fun q => H0.size ≤ q ∧ R1 q = (4, j, 0), c1.kept (fun q hq1 hl => ⟨⟨hq1.1, (r1 q hl).trans hq1.2⟩, hq q hl⟩) (fun e he hE => hE.kept (hq e hE.lt)), fun e he => ?_, c2, fun H2 ha => ?_⟩
  · rcases List.mem_append.mp he with g | g
    · obtain ⟨g1, i, g2⟩ := hsl e g
      rintro ⟨-, z⟩
      rw [r1 e g1, g2] at z
      exact rne (by decide) z
    · rw [List.mem_singleton.mp g]
      rintro ⟨-, z⟩
      rw [r2] at z
      exact rne (by decide) z
  · obtain ⟨a1, a2, a3⟩ := ha
    obtain ⟨R2, hR2⟩ : ∃ R2, R2 = upR R1 H1.size (4, j, 0) := ⟨_, rfl⟩
    have t1 : ∀ q, q < H1.size → R2 q = R1 q := fun q hq => by rw [hR2, upR_lt hq]
    have t2 : ∀ q, H1.size ≤ q → R2 q = (4, j, 0) := fun q hq => by rw [hR2, upR_ge hq]
    have kp : ∀ q, q < H.size → R q ≠ (4, j, 0) ∨ q < H0.size → H2[q]? = H[q]? ∧ R2 q = R q := fun q h1 h2 =>
      ⟨(a3 q (by omega) (fun z => by
        rcases h2 with h2 | h2
        · exact h2 ((r1 q h1).symm.trans z.2)
        · have := z.1
          omega)).trans (hq q h1), (t1 q (by omega)).trans (r1 q h1)⟩
    refine ⟨R2, h1.kept (kp a (by omega) (Or.inr h8)).1, h2.kept (fun q z1 z2 => ?_) (fun e he => absurd he List.not_mem_nil), ⟨b1, b2, ?_, ?_⟩, ⟨hs ++ [H.size], a1.to (fun q z => ?_), by rw [List.length_append, c2]; rfl, fun i h9 hi => ?_⟩, by omega, fun q z => ?_, fun q z1 z2 => (kp q (by omega) (Or.inr z1)).1.trans (h7 q z1 z2), h8, h9⟩
    · have g := kp q z2 (Or.inl (by rw [z1.2]; exact rne (by decide)))
      exact ⟨⟨z1.1, g.2.trans z1.2⟩, g.1⟩
    · exact (kp br b4.lt (Or.inl (by rw [b3]; exact rne (by decide)))).2.trans b3
    · exact b4.kept (kp br b4.lt (Or.inl (by rw [b3]; exact rne (by decide)))).1
    · rcases z with z | z
      · rcases Nat.lt_or_ge q H1.size with g | g
        · exact ⟨z.1, (t1 q g).trans z.2⟩
        · exact ⟨z.1, t2 q g⟩
      · exact ⟨by omega, t2 q z⟩
    · rcases Nat.lt_or_ge i hs.length with g | g
      · rw [List.getElem?_append_left g] at hi
        refine (c3 i h9 hi).kept (fun q z1 z2 => ?_) (fun e he => absurd he List.not_mem_nil)
        have g := kp q z2 (Or.inl (by rw [z1.2]; exact rne (by decide)))
        exact ⟨⟨z1.1, g.2.trans z1.2⟩, g.1⟩
      · rw [List.getElem?_append_right g] at hi
        have e : i = m := by
          rcases Nat.lt_or_ge (i - hs.length) 1 with z | z
          · omega
          · rw [List.getElem?_eq_none z] at hi
            cases hi
        subst e
        rw [c2, Nat.sub_self] at hi
        have hi : some H.size = some h9 := hi
        injection hi with hi
        subst hi
        refine zLs.nil ⟨by omega, (t1 _ (by omega)).trans r2⟩ (by omega) (hO.kept (a3 _ (by omega) (fun z => ?_)))
        exact rne (by decide) (r2.symm.trans z.2)
    · rw [(kp q (by omega) (Or.inr z)).2]
      exact h6 q z
/-- .. and made -/
theorem xPc.done {G : zG} {H0 H : Heap} {R0 R : xRo} {a j sl hl br : Nat} {σ : zS} (h : xPc G H0 R0 a j sl hl br [.int (nI j), .int (sA σ 2 j), .int (sA σ 3 j), .int (sA σ 4 j), .int (sA σ 5 j)] 20 H R) (hRa : R0 a = (9, 0, 0)) (hL : ∀ k d, k ≤ 20 → sL σ j k d = none) (hB : ∀ t, t < 20 → sB σ j t = 0) : xPk G H R σ 0 j a := by
  obtain ⟨h1, h2, ⟨b1, b2, b3, b4⟩, ⟨hs, c1, c2, c3⟩, h5, h6, h7, h8, h9⟩ := h
  refine ⟨sl, hl, br, (h6 a h8).trans hRa, h1, ⟨[], fun _ => (0, 0, 0, 0, 0), h2.to (fun _ z => z.2), Nat.le_refl _, fun i y hy => (by cases hy), fun _ => Or.inl rfl, fun d => hL 20 d (Nat.le_refl _)⟩, ⟨hs, c1.to (fun _ z => z.2), c2, fun k h hk => ?_⟩, b3, b1, fun _ => 0, b4, fun k hk => (hB k hk).symm⟩
  have hk20 : k < 20 := by rw [← c2]; exact (List.getElem?_eq_some_iff.mp hk).1
  exact ⟨[], fun _ => (0, 0, 0, 0, 0), (c3 k h hk).to (fun _ z => z.2), Nat.le_refl _, fun i y hy => (by cases hy), fun _ => Or.inl rfl, fun d => hL k d (by omega)⟩
set_option maxHeartbeats 4000000 in
set_option maxRecDepth 100000 in
theorem r_init (G : zG) (l : Launch) (H : Heap) (a : Nat) : zMp0 G l yJ8_init cJ8_init 1 none 1 [.ref a] H := by
  refine zM.of (by decide +kernel) (Nat.le_of_ble_eq_true rfl) ?_
  intro p0 e0 s0 m0 args0 below0 meth0 c0 Z hr hH hn0 ls hl
  have Z : zC G p0 s0 m0 args0 meth0 c0 RJ8 cJ8_init 1 := Z
  have hl : lv_has ls 1 [(0, .ref a)] := hl
  have hL : zL G [] := zL.nil
  have hin2 : meth0.name = "<init>" := hn0 rfl
  refine lv_aload_n Z.hx Z.hb dJ8_init_0 rfl (lv_at hl 0 rfl) ?_
  refine z_obj Z q214 q59 q60 hl.1 dJ8_init_1 (Nat.le_of_ble_eq_true rfl) (Nat.le_of_ble_eq_true rfl) ?_
  exact z_vret Z hr hL (⟨rfl, rfl⟩) (Nat.le_of_ble_eq_true rfl) (Nat.le_of_ble_eq_true rfl) dJ8_init_4
set_option maxHeartbeats 4000000 in
set_option maxRecDepth 100000 in
theorem t_init (G : zG) (l : Launch) (H : Heap) (a : Nat) (haB : (zHB G).size ≤ a) (hO : zO G H a 1 [.int 0, .int 0]) (f0 f1 : Int32) : zMg0 G l yX3_init cX3_init 3 none 2 0 0 [.ref a, .int f0, .int f1] H (fun H1 => zO G H1 a 1 [.int f0, .int f1] ∧ H1.size = H.size ∧ ∀ q : Nat, q ≠ a → H1[q]? = H[q]?) := by
  refine zM.of (by decide +kernel) (Nat.le_of_ble_eq_true rfl) ?_
  intro p0 e0 s0 m0 args0 below0 meth0 c0 Z hr hH hn0 ls hl
  have Z : zC G p0 s0 m0 args0 meth0 c0 RX3 cX3_init 3 := Z
  have hl : lv_has ls 3 [(0, .ref a), (1, .int f0), (2, .int f1)] := hl
  have hL : zL G [] := zL.nil
  have hin2 : meth0.name = "<init>" := hn0 rfl
  refine lv_aload_n Z.hx Z.hb dX3_init_0 rfl (lv_at hl 0 rfl) ?_
  -- java/lang/Record.<init>
  refine z_pcallI (rest := []) (As := []) Z (r_init G l H a) gw_X3_1 q39 q211 q212 rfl gd_X3_1 rfl hl.1 (Nat.le_of_ble_eq_true rfl) rfl dX3_init_1 ⟨⟨Nat.le_of_ble_eq_true rfl, Nat.le_of_ble_eq_true rfl⟩, Nat.le_of_ble_eq_true rfl, Nat.le_of_ble_eq_true rfl⟩ hL (fun locs hL => ?_)
  refine lv_aload_n Z.hx Z.hb dX3_init_4 rfl (lv_at hl 0 rfl) ?_
  refine lv_iload_n Z.hx Z.hb dX3_init_5 rfl (lv_at hl 1 rfl) ?_
  refine pf_X3_7 Z hin2 hO (Nat.le_of_ble_eq_true rfl) hL haB dX3_init_6 (fun H_1 locs hL hO1_ hz1_ hq1_ => ?_)
  refine lv_aload_n Z.hx Z.hb dX3_init_9 rfl (lv_at hl 0 rfl) ?_
  refine lv_iload_n Z.hx Z.hb dX3_init_10 rfl (lv_at hl 2 rfl) ?_
  refine pf_X3_13 Z hin2 hO1_ (Nat.le_of_ble_eq_true rfl) hL haB dX3_init_11 (fun H_2 locs hL hO2_ hz2_ hq2_ => ?_)
  exact z_vret Z hr hL (⟨rfl, hO2_, (hz2_).trans hz1_, fun q hq => (hq2_ q hq).trans (hq1_ q hq)⟩) (Nat.le_of_ble_eq_true rfl) (Nat.le_of_ble_eq_true rfl) dX3_init_14
set_option maxHeartbeats 4000000 in
set_option maxRecDepth 100000 in
theorem s_init (G : zG) (l : Launch) (H : Heap) (a : Nat) (haB : (zHB G).size ≤ a) (hO : zO G H a 3 [.int 0, .int 0]) (f0 f1 : Int32) (h101 : f1 = 0 ∨ f1 = 1) : zMg0 G l yX5_init cX5_init 3 none 2 0 0 [.ref a, .int f0, .int f1] H (fun H1 => zO G H1 a 3 [.int f0, .int f1] ∧ H1.size = H.size ∧ ∀ q : Nat, q ≠ a → H1[q]? = H[q]?) := by
  refine zM.of (by decide +kernel) (Nat.le_of_ble_eq_true rfl) ?_
  intro p0 e0 s0 m0 args0 below0 meth0 c0 Z hr hH hn0 ls hl
  have Z : zC G p0 s0 m0 args0 meth0 c0 RX5 cX5_init 3 := Z
  have hl : lv_has ls 3 [(0, .ref a), (1, .int f0), (2, .int f1)] := hl
  have hL : zL G [] := zL.nil
  have hin2 : meth0.name = "<init>" := hn0 rfl
  refine lv_aload_n Z.hx Z.hb dX5_init_0 rfl (lv_at hl 0 rfl) ?_
  -- java/lang/Record.<init>
  refine z_pcallI (rest := []) (As := []) Z (r_init G l H a) gw_X5_1 q39 q460 q212 rfl gd_X5_1 rfl hl.1 (Nat.le_of_ble_eq_true rfl) rfl dX5_init_1 ⟨⟨Nat.le_of_ble_eq_true rfl, Nat.le_of_ble_eq_true rfl⟩, Nat.le_of_ble_eq_true rfl, Nat.le_of_ble_eq_true rfl⟩ hL (fun locs hL => ?_)
  refine lv_aload_n Z.hx Z.hb dX5_init_4 rfl (lv_at hl 0 rfl) ?_
  refine lv_iload_n Z.hx Z.hb dX5_init_5 rfl (lv_at hl 1 rfl) ?_
  refine pf_X5_7 Z hin2 hO (Nat.le_of_ble_eq_true rfl) hL haB dX5_init_6 (fun H_1 locs hL hO1_ hz1_ hq1_ => ?_)
  refine lv_aload_n Z.hx Z.hb dX5_init_9 rfl (lv_at hl 0 rfl) ?_
  refine lv_iload_n Z.hx Z.hb dX5_init_10 rfl (lv_at hl 2 rfl) ?_
  refine pf_X5_13 Z hin2 h101 hO1_ (Nat.le_of_ble_eq_true rfl) hL haB dX5_init_11 (fun H_2 locs hL hO2_ hz2_ hq2_ => ?_)
  exact z_vret Z hr hL (⟨rfl, hO2_, (hz2_).trans hz1_, fun q hq => (hq2_ q hq).trans (hq1_ q hq)⟩) (Nat.le_of_ble_eq_true rfl) (Nat.le_of_ble_eq_true rfl) dX5_init_14
set_option maxHeartbeats 4000000 in
set_option maxRecDepth 100000 in
theorem h_init (G : zG) (l : Launch) (H : Heap) (a : Nat) (haB : (zHB G).size ≤ a) (hO : zO G H a 4 [.int 0, .int 0, .int 0, .int 0, .int 0]) (f0 f1 f2 f3 f4 : Int32) (h101 : f1 = 0 ∨ f1 = 1) : zMg0 G l yX6_init cX6_init 6 none 2 0 0 [.ref a, .int f0, .int f1, .int f2, .int f3, .int f4] H (fun H1 => zO G H1 a 4 [.int f0, .int f1, .int f2, .int f3, .int f4] ∧ H1.size = H.size ∧ ∀ q : Nat, q ≠ a → H1[q]? = H[q]?) := by
  refine zM.of (by decide +kernel) (Nat.le_of_ble_eq_true rfl) ?_
  intro p0 e0 s0 m0 args0 below0 meth0 c0 Z hr hH hn0 ls hl
  have Z : zC G p0 s0 m0 args0 meth0 c0 RX6 cX6_init 6 := Z
  have hl : lv_has ls 6 [(0, .ref a), (1, .int f0), (2, .int f1), (3, .int f2), (4, .int f3), (5, .int f4)] := hl
  have hL : zL G [] := zL.nil
  have hin2 : meth0.name = "<init>" := hn0 rfl
  refine lv_aload_n Z.hx Z.hb dX6_init_0 rfl (lv_at hl 0 rfl) ?_
  -- java/lang/Record.<init>
  refine z_pcallI (rest := []) (As := []) Z (r_init G l H a) gw_X6_1 q39 q503 q212 rfl gd_X6_1 rfl hl.1 (Nat.le_of_ble_eq_true rfl) rfl dX6_init_1 ⟨⟨Nat.le_of_ble_eq_true rfl, Nat.le_of_ble_eq_true rfl⟩, Nat.le_of_ble_eq_true rfl, Nat.le_of_ble_eq_true rfl⟩ hL (fun locs hL => ?_)
  refine lv_aload_n Z.hx Z.hb dX6_init_4 rfl (lv_at hl 0 rfl) ?_
  refine lv_iload_n Z.hx Z.hb dX6_init_5 rfl (lv_at hl 1 rfl) ?_
  refine pf_X6_7 Z hin2 hO (Nat.le_of_ble_eq_true rfl) hL haB dX6_init_6 (fun H_1 locs hL hO1_ hz1_ hq1_ => ?_)
  refine lv_aload_n Z.hx Z.hb dX6_init_9 rfl (lv_at hl 0 rfl) ?_
  refine lv_iload_n Z.hx Z.hb dX6_init_10 rfl (lv_at hl 2 rfl) ?_
  refine pf_X6_13 Z hin2 h101 hO1_ (Nat.le_of_ble_eq_true rfl) hL haB dX6_init_11 (fun H_2 locs hL hO2_ hz2_ hq2_ => ?_)
  refine lv_aload_n Z.hx Z.hb dX6_init_14 rfl (lv_at hl 0 rfl) ?_
  refine lv_iload_n Z.hx Z.hb dX6_init_15 rfl (lv_at hl 3 rfl) ?_
  refine pf_X6_17 Z hin2 hO2_ (Nat.le_of_ble_eq_true rfl) hL haB dX6_init_16 (fun H_3 locs hL hO3_ hz3_ hq3_ => ?_)
  refine lv_aload_n Z.hx Z.hb dX6_init_19 rfl (lv_at hl 0 rfl) ?_
  refine lv_iload Z.hx Z.hb dX6_init_20 (lv_at hl 4 rfl) ?_
  refine pf_X6_20 Z hin2 hO3_ (Nat.le_of_ble_eq_true rfl) hL haB dX6_init_22 (fun H_4 locs hL hO4_ hz4_ hq4_ => ?_)
  refine lv_aload_n Z.hx Z.hb dX6_init_25 rfl (lv_at hl 0 rfl) ?_
  refine lv_iload Z.hx Z.hb dX6_init_26 (lv_at hl 5 rfl) ?_
  refine pf_X6_23 Z hin2 hO4_ (Nat.le_of_ble_eq_true rfl) hL haB dX6_init_28 (fun H_5 locs hL hO5_ hz5_ hq5_ => ?_)
  exact z_vret Z hr hL (⟨rfl, hO5_, ((((hz5_).trans hz4_).trans hz3_).trans hz2_).trans hz1_, fun q hq => ((((hq5_ q hq).trans (hq4_ q hq)).trans (hq3_ q hq)).trans (hq2_ q hq)).trans (hq1_ q hq)⟩) (Nat.le_of_ble_eq_true rfl) (Nat.le_of_ble_eq_true rfl) dX6_init_31
set_option maxHeartbeats 4000000 in
set_option maxRecDepth 100000 in
theorem p_init (G : zG) (l : Launch) (H : Heap) (R : xRo) (σ : zS) (a j : Nat) (haB : (zHB G).size ≤ a) (hRa : R a = (9, 0, 0)) (hO : zO G H a 2 [.int 0, .int 0, .int 0, .int 0, .int 0, .null, .null, .null]) (hk01 : sA σ 5 j = 0 ∨ sA σ 5 j = 1) (hLn : ∀ k d, k ≤ 20 → sL σ j k d = none) (hBn : ∀ t, t < 20 → sB σ j t = 0) : zMg0 G l yX4_init cX4_init 7 none 8 43 3286 [.ref a, .int (nI j), .int (sA σ 2 j), .int (sA σ 3 j), .int (sA σ 4 j), .int (sA σ 5 j)] H (fun H1 => ∃ R1, xPk G H1 R1 σ 0 j a ∧ H.size ≤ H1.size ∧ (∀ q, q < H.size → R1 q = R q) ∧ ∀ q, q < H.size → q ≠ a → H1[q]? = H[q]?) := by
  refine zM.of (by decide +kernel) (Nat.le_of_ble_eq_true rfl) ?_
  intro p0 e0 s0 m0 args0 below0 meth0 c0 Z hr hH hn0 ls hl
  have Z : zC G p0 s0 m0 args0 meth0 c0 RX4 cX4_init 7 := Z
  have hl : lv_has ls 7 [(0, .ref a), (1, .int (nI j)), (2, .int (sA σ 2 j)), (3, .int (sA σ 3 j)), (4, .int (sA σ 4 j)), (5, .int (sA σ 5 j))] := hl
  have hL : zL G [] := zL.nil
  have hin2 : meth0.name = "<init>" := hn0 rfl
  refine z_base Z hL (fun hB9 => ?_)
  have hB1 := hB9.1
  have ha : a < H.size := hO.lt
  have hg9 : ∀ q : Nat, q < H.size → q ≠ a → H[q]? = H[q]? := fun _ _ _ => rfl
  refine lv_aload_n Z.hx Z.hb dX4_init_0 rfl (lv_at hl 0 rfl) ?_
  refine z_obj Z q393 q59 q60 hl.1 dX4_init_1 (Nat.le_of_ble_eq_true rfl) (Nat.le_of_ble_eq_true rfl) ?_
  refine lv_aload_n Z.hx Z.hb dX4_init_4 rfl (lv_at hl 0 rfl) ?_
  refine z_new Z (C := RJ2) (T := TJ2) (N := 3) (ci := 6) rfl in_J2 tyJ2 tyJ2_ok q394 q62 q32 (fs := [.int 0, .null, .int 0]) (fun j hj => by
      rcases j with _ | _ | _ | j
      all_goals first | rfl | (exact absurd hj (by omega))) (Nat.le_of_ble_eq_true rfl) (Nat.le_of_ble_eq_true rfl) dX4_init_5 (fun H_1 hO1_ hz1_ hq1_ => ?_)
  have hO := hO.kept (hq1_ _ (by omega))
  have hg9 : ∀ q : Nat, q < H.size → q ≠ a → H_1[q]? = H[q]? := fun q h1 h2 => (hq1_ q (by omega)).trans (hg9 q h1 h2)
  refine lv_dup Z.hx Z.hb dX4_init_8 rfl ?_
  -- java/util/ArrayList.<init>
  refine z_gcallI (rest := [.ref H.size, .ref a]) (As := []) Z (j_init G l H_1 H.size (by omega) hO1_) gw_X4_11 q32 q395 q64 rfl gd_X4_11 rfl hl.1 (Nat.le_of_ble_eq_true rfl) rfl dX4_init_9 ⟨⟨Nat.le_of_ble_eq_true rfl, Nat.le_of_ble_eq_true rfl⟩, Nat.le_of_ble_eq_true rfl, Nat.le_of_ble_eq_true rfl⟩ hL (fun H_2 locs hL hP2_ => ?_)
  obtain ⟨hO2_, hz2_, hq2_⟩ := hP2_
  have hO := hO.kept (hq2_ _ (by omega))
  have hg9 : ∀ q : Nat, q < H.size → q ≠ a → H_2[q]? = H[q]? := fun q h1 h2 => (hq2_ q (by omega)).trans (hg9 q h1 h2)
  have hsl := hO2_
  refine pf_X4_12 Z hin2 hO (Nat.le_of_ble_eq_true rfl) hL haB dX4_init_12 (fun H_3 locs hL hO3_ hz3_ hq3_ => ?_)
  have hO : zO G H_3 a 2 [.int 0, .int 0, .int 0, .int 0, .int 0, .ref H.size, .null, .null] := hO3_
  have hsl := hsl.kept (hq3_ _ (by omega))
  have hg9 : ∀ q : Nat, q < H.size → q ≠ a → H_3[q]? = H[q]? := fun q h1 h2 => (hq3_ q (by omega)).trans (hg9 q h1 h2)
  refine lv_aload_n Z.hx Z.hb dX4_init_15 rfl (lv_at hl 0 rfl) ?_
  refine z_new Z (C := RJ2) (T := TJ2) (N := 3) (ci := 6) rfl in_J2 tyJ2 tyJ2_ok q394 q62 q32 (fs := [.int 0, .null, .int 0]) (fun j hj => by
      rcases j with _ | _ | _ | j
      all_goals first | rfl | (exact absurd hj (by omega))) (Nat.le_of_ble_eq_true rfl) (Nat.le_of_ble_eq_true rfl) dX4_init_16 (fun H_4 hO4_ hz4_ hq4_ => ?_)
  have hO := hO.kept (hq4_ _ (by omega))
  have hsl := hsl.kept (hq4_ _ (by omega))
  have hg9 : ∀ q : Nat, q < H.size → q ≠ a → H_4[q]? = H[q]? := fun q h1 h2 => (hq4_ q (by omega)).trans (hg9 q h1 h2)
  refine lv_dup Z.hx Z.hb dX4_init_19 rfl ?_
  -- java/util/ArrayList.<init>
  refine z_gcallI (rest := [.ref H_3.size, .ref a]) (As := []) Z (j_init G l H_4 H_3.size (by omega) hO4_) gw_X4_11 q32 q395 q64 rfl gd_X4_11 rfl hl.1 (Nat.le_of_ble_eq_true rfl) rfl dX4_init_20 ⟨⟨Nat.le_of_ble_eq_true rfl, Nat.le_of_ble_eq_true rfl⟩, Nat.le_of_ble_eq_true rfl, Nat.le_of_ble_eq_true rfl⟩ hL (fun H_5 locs hL hP5_ => ?_)
  obtain ⟨hO5_, hz5_, hq5_⟩ := hP5_
  have hO := hO.kept (hq5_ _ (by omega))
  have hsl := hsl.kept (hq5_ _ (by omega))
  have hg9 : ∀ q : Nat, q < H.size → q ≠ a → H_5[q]? = H[q]? := fun q h1 h2 => (hq5_ q (by omega)).trans (hg9 q h1 h2)
  have hhl := hO5_
  refine pf_X4_18 Z hin2 hO (Nat.le_of_ble_eq_true rfl) hL haB dX4_init_23 (fun H_6 locs hL hO6_ hz6_ hq6_ => ?_)
  have hO : zO G H_6 a 2 [.int 0, .int 0, .int 0, .int 0, .int 0, .ref H.size, .ref H_3.size, .null] := hO6_
  have hsl := hsl.kept (hq6_ _ (by omega))
  have hhl := hhl.kept (hq6_ _ (by omega))
  have hg9 : ∀ q : Nat, q < H.size → q ≠ a → H_6[q]? = H[q]? := fun q h1 h2 => (hq6_ q (by omega)).trans (hg9 q h1 h2)
  refine lv_aload_n Z.hx Z.hb dX4_init_26 rfl (lv_at hl 0 rfl) ?_
  refine lv_bipush (v := 20) Z.hx Z.hb dX4_init_27 (by decide) ?_
  refine z_newI Z q426 (n := 20) (N := 20) (by decide) (by decide) (Nat.le_of_ble_eq_true rfl) (Nat.le_of_ble_eq_true rfl) (Nat.le_of_ble_eq_true rfl) dX4_init_29 (fun H_7 hbr hz7_ hq7_ => ?_)
  have hO := hO.kept (hq7_ _ (by omega))
  have hsl := hsl.kept (hq7_ _ (by omega))
  have hhl := hhl.kept (hq7_ _ (by omega))
  have hg9 : ∀ q : Nat, q < H.size → q ≠ a → H_7[q]? = H[q]? := fun q h1 h2 => (hq7_ q (by omega)).trans (hg9 q h1 h2)
  refine pf_X4_21 Z hin2 hO (Nat.le_of_ble_eq_true rfl) hL haB dX4_init_31 (fun H_8 locs hL hO8_ hz8_ hq8_ => ?_)
  have hO : zO G H_8 a 2 [.int 0, .int 0, .int 0, .int 0, .int 0, .ref H.size, .ref H_3.size, .ref H_6.size] := hO8_
  have hsl := hsl.kept (hq8_ _ (by omega))
  have hhl := hhl.kept (hq8_ _ (by omega))
  have hbr := hbr.kept (hq8_ _ (by omega))
  have hg9 : ∀ q : Nat, q < H.size → q ≠ a → H_8[q]? = H[q]? := fun q h1 h2 => (hq8_ q (by omega)).trans (hg9 q h1 h2)
  refine lv_aload_n Z.hx Z.hb dX4_init_34 rfl (lv_at hl 0 rfl) ?_
  refine lv_iload_n Z.hx Z.hb dX4_init_35 rfl (lv_at hl 1 rfl) ?_
  refine pf_X4_25 Z hin2 hO (Nat.le_of_ble_eq_true rfl) hL haB dX4_init_36 (fun H_9 locs hL hO9_ hz9_ hq9_ => ?_)
  have hO : zO G H_9 a 2 [.int (nI j), .int 0, .int 0, .int 0, .int 0, .ref H.size, .ref H_3.size, .ref H_6.size] := hO9_
  have hsl := hsl.kept (hq9_ _ (by omega))
  have hhl := hhl.kept (hq9_ _ (by omega))
  have hbr := hbr.kept (hq9_ _ (by omega))
  have hg9 : ∀ q : Nat, q < H.size → q ≠ a → H_9[q]? = H[q]? := fun q h1 h2 => (hq9_ q (by omega)).trans (hg9 q h1 h2)
  refine lv_aload_n Z.hx Z.hb dX4_init_39 rfl (lv_at hl 0 rfl) ?_
  refine lv_iload_n Z.hx Z.hb dX4_init_40 rfl (lv_at hl 2 rfl) ?_
  refine pf_X4_29 Z hin2 hO (Nat.le_of_ble_eq_true rfl) hL haB dX4_init_41 (fun H_10 locs hL hO10_ hz10_ hq10_ => ?_)
  have hO : zO G H_10 a 2 [.int (nI j), .int (sA σ 2 j), .int 0, .int 0, .int 0, .ref H.size, .ref H_3.size, .ref H_6.size] := hO10_
  have hsl := hsl.kept (hq10_ _ (by omega))
  have hhl := hhl.kept (hq10_ _ (by omega))
  have hbr := hbr.kept (hq10_ _ (by omega))
  have hg9 : ∀ q : Nat, q < H.size → q ≠ a → H_10[q]? = H[q]? := fun q h1 h2 => (hq10_ q (by omega)).trans (hg9 q h1 h2)
  refine lv_aload_n Z.hx Z.hb dX4_init_44 rfl (lv_at hl 0 rfl) ?_
  refine lv_iload_n Z.hx Z.hb dX4_init_45 rfl (lv_at hl 3 rfl) ?_
  refine pf_X4_32 Z hin2 hO (Nat.le_of_ble_eq_true rfl) hL haB dX4_init_46 (fun H_11 locs hL hO11_ hz11_ hq11_ => ?_)
  have hO : zO G H_11 a 2 [.int (nI j), .int (sA σ 2 j), .int (sA σ 3 j), .int 0, .int 0, .ref H.size, .ref H_3.size, .ref H_6.size] := hO11_
  have hsl := hsl.kept (hq11_ _ (by omega))
  have hhl := hhl.kept (hq11_ _ (by omega))
  have hbr := hbr.kept (hq11_ _ (by omega))
  have hg9 : ∀ q : Nat, q < H.size → q ≠ a → H_11[q]? = H[q]? := fun q h1 h2 => (hq11_ q (by omega)).trans (hg9 q h1 h2)
  refine lv_aload_n Z.hx Z.hb dX4_init_49 rfl (lv_at hl 0 rfl) ?_
  refine lv_iload Z.hx Z.hb dX4_init_50 (lv_at hl 4 rfl) ?_
  refine pf_X4_35 Z hin2 hO (Nat.le_of_ble_eq_true rfl) hL haB dX4_init_52 (fun H_12 locs hL hO12_ hz12_ hq12_ => ?_)
  have hO : zO G H_12 a 2 [.int (nI j), .int (sA σ 2 j), .int (sA σ 3 j), .int (sA σ 4 j), .int 0, .ref H.size, .ref H_3.size, .ref H_6.size] := hO12_
  have hsl := hsl.kept (hq12_ _ (by omega))
  have hhl := hhl.kept (hq12_ _ (by omega))
  have hbr := hbr.kept (hq12_ _ (by omega))
  have hg9 : ∀ q : Nat, q < H.size → q ≠ a → H_12[q]? = H[q]? := fun q h1 h2 => (hq12_ q (by omega)).trans (hg9 q h1 h2)
  refine lv_aload_n Z.hx Z.hb dX4_init_55 rfl (lv_at hl 0 rfl) ?_
  refine lv_iload Z.hx Z.hb dX4_init_56 (lv_at hl 5 rfl) ?_
  refine pf_X4_38 Z hin2 hk01 hO (Nat.le_of_ble_eq_true rfl) hL haB dX4_init_58 (fun H_13 locs hL hO13_ hz13_ hq13_ => ?_)
  have hO : zO G H_13 a 2 [.int (nI j), .int (sA σ 2 j), .int (sA σ 3 j), .int (sA σ 4 j), .int (sA σ 5 j), .ref H.size, .ref H_3.size, .ref H_6.size] := hO13_
  have hsl := hsl.kept (hq13_ _ (by omega))
  have hhl := hhl.kept (hq13_ _ (by omega))
  have hbr := hbr.kept (hq13_ _ (by omega))
  have hg9 : ∀ q : Nat, q < H.size → q ≠ a → H_13[q]? = H[q]? := fun q h1 h2 => (hq13_ q (by omega)).trans (hg9 q h1 h2)
  refine lv_iconst (v := 0) Z.hx Z.hb dX4_init_61 (by decide) ?_
  refine lv_istore (lv' := [(6, .int 0), (0, .ref a), (1, .int (nI j)), (2, .int (sA σ 2 j)), (3, .int (sA σ 3 j)), (4, .int (sA σ 4 j)), (5, .int (sA σ 5 j))]) Z.hx Z.hb dX4_init_62 hl (by decide) rfl (fun ls hl => ?_)
  have hPc : ∃ R_0, xPc G H R a j H.size H_3.size H_6.size [.int (nI j), .int (sA σ 2 j), .int (sA σ 3 j), .int (sA σ 4 j), .int (sA σ 5 j)] 0 H_13 R_0 := ⟨fun q => if q < H.size then R q else if q = H.size then (3, j, 0) else if q = H_3.size then (4, j, 0) else (6, j, 0), hO, zLs.nil ⟨by omega, by dsimp only; rw [if_neg (by omega), if_pos rfl]⟩ (by omega) hsl, ⟨by omega, by omega, by dsimp only; rw [if_neg (by omega), if_neg (by omega), if_neg (by omega)], hbr⟩, ⟨[], zLs.nil ⟨by omega, by dsimp only; rw [if_neg (by omega), if_neg (by omega), if_pos rfl]⟩ (by omega) hhl, rfl, fun i h9 hi => (by cases hi)⟩, by omega, fun q hq => by dsimp only; rw [if_pos hq], hg9, ha, by omega⟩
  obtain ⟨R_0, hPc⟩ := hPc
  refine lv_iload Z.hx Z.hb dX4_init_64 (lv_at hl 0 rfl) ?_
  refine lv_bipush (v := 20) Z.hx Z.hb dX4_init_66 (by decide) ?_
  refine lv_icmp_ge (tgt := 94) Z.hx Z.hb dX4_init_68 (by decide) (fun c68 => ?_) (fun c68 => ?_)
  · exact absurd c68 (by decide)
  · skip
    refine lv_aload_n Z.hx Z.hb dX4_init_71 rfl (lv_at hl 1 rfl) ?_
    refine gf_X4_18 Z hPc.1 (v := .ref H_3.size) rfl dX4_init_72 ?_
    refine z_new Z (C := RJ2) (T := TJ2) (N := 3) (ci := 6) rfl in_J2 tyJ2 tyJ2_ok q394 q62 q32 (fs := [.int 0, .null, .int 0]) (fun j hj => by
      rcases j with _ | _ | _ | j
      all_goals first | rfl | (exact absurd hj (by omega))) (Nat.le_of_ble_eq_true rfl) (Nat.le_of_ble_eq_true rfl) dX4_init_75 (fun H_14 hO14_ hz14_ hq14_ => ?_)
    refine lv_dup Z.hx Z.hb dX4_init_78 rfl ?_
    have hb_ := hPc.2.2.2.2.2.2.2.2
    have hb2_ := hPc.2.2.2.2.1
    -- java/util/ArrayList.<init>
    refine z_gcallI (rest := [.ref H_13.size, .ref H_3.size]) (As := []) Z (j_init G l H_14 H_13.size (by omega) hO14_) gw_X4_11 q32 q395 q64 rfl gd_X4_11 rfl hl.1 (Nat.le_of_ble_eq_true rfl) rfl dX4_init_79 ⟨⟨Nat.le_of_ble_eq_true rfl, Nat.le_of_ble_eq_true rfl⟩, Nat.le_of_ble_eq_true rfl, Nat.le_of_ble_eq_true rfl⟩ hL (fun H_15 locs hL hP15_ => ?_)
    obtain ⟨hO15_, hz15_, hq15_⟩ := hP15_
    obtain ⟨hs_, S_, hA_, hns_, hlen_, hnext_⟩ := hPc.step hO15_ (by omega) (fun q h1 => (hq15_ q (by omega)).trans (hq14_ q h1))
    have hOh_ := hA_.2.2.2.choose_spec.choose_spec.1
    -- java/util/List.add
    refine z_gcallF (rest := []) (As := [.ref H_13.size]) Z (j_add G l H_15 S_ H_3.size H_13.size hs_ hA_ (zEl.o6 hO15_) hns_ (by omega)) gw_X4_42 Z.K.2.2.1.2.1 gd_L_add hOh_ rfl hl.1 (Nat.le_of_ble_eq_true rfl) rfl dX4_init_82 ⟨⟨Nat.le_of_ble_eq_true rfl, Nat.le_of_ble_eq_true rfl⟩, Nat.le_of_ble_eq_true rfl, Nat.le_of_ble_eq_true rfl⟩ hL (fun H_16 locs hL hP_ => ?_)
    obtain ⟨R_1, hPc⟩ := hnext_ _ hP_
    refine lv_pop Z.hx Z.hb dX4_init_87 rfl ?_
    refine lv_iinc (v := 0 + 1) (lv' := [(6, .int (0 + 1)), (0, .ref a), (1, .int (nI j)), (2, .int (sA σ 2 j)), (3, .int (sA σ 3 j)), (4, .int (sA σ 4 j)), (5, .int (sA σ 5 j))]) Z.hx Z.hb dX4_init_88 hl (k := 0) rfl rfl (by decide) rfl (fun ls hl => ?_)
    refine lv_goto (tgt := 64) Z.hx Z.hb dX4_init_91 (by decide) ?_
    have hl := z_loc (l' := [(6, .int 1), (0, .ref a), (1, .int (nI j)), (2, .int (sA σ 2 j)), (3, .int (sA σ 3 j)), (4, .int (sA σ 4 j)), (5, .int (sA σ 5 j))]) hl (by rfl)
    refine lv_iload Z.hx Z.hb dX4_init_64 (lv_at hl 0 rfl) ?_
    refine lv_bipush (v := 20) Z.hx Z.hb dX4_init_66 (by decide) ?_
    refine lv_icmp_ge (tgt := 94) Z.hx Z.hb dX4_init_68 (by decide) (fun c68 => ?_) (fun c68 => ?_)
    · exact absurd c68 (by decide)
    · skip
      refine lv_aload_n Z.hx Z.hb dX4_init_71 rfl (lv_at hl 1 rfl) ?_
      refine gf_X4_18 Z hPc.1 (v := .ref H_3.size) rfl dX4_init_72 ?_
      refine z_new Z (C := RJ2) (T := TJ2) (N := 3) (ci := 6) rfl in_J2 tyJ2 tyJ2_ok q394 q62 q32 (fs := [.int 0, .null, .int 0]) (fun j hj => by
      rcases j with _ | _ | _ | j
      all_goals first | rfl | (exact absurd hj (by omega))) (Nat.le_of_ble_eq_true rfl) (Nat.le_of_ble_eq_true rfl) dX4_init_75 (fun H_17 hO17_ hz17_ hq17_ => ?_)
      refine lv_dup Z.hx Z.hb dX4_init_78 rfl ?_
      have hb_ := hPc.2.2.2.2.2.2.2.2
      have hb2_ := hPc.2.2.2.2.1
      -- java/util/ArrayList.<init>
      refine z_gcallI (rest := [.ref H_16.size, .ref H_3.size]) (As := []) Z (j_init G l H_17 H_16.size (by omega) hO17_) gw_X4_11 q32 q395 q64 rfl gd_X4_11 rfl hl.1 (Nat.le_of_ble_eq_true rfl) rfl dX4_init_79 ⟨⟨Nat.le_of_ble_eq_true rfl, Nat.le_of_ble_eq_true rfl⟩, Nat.le_of_ble_eq_true rfl, Nat.le_of_ble_eq_true rfl⟩ hL (fun H_18 locs hL hP18_ => ?_)
      obtain ⟨hO18_, hz18_, hq18_⟩ := hP18_
      obtain ⟨hs_, S_, hA_, hns_, hlen_, hnext_⟩ := hPc.step hO18_ (by omega) (fun q h1 => (hq18_ q (by omega)).trans (hq17_ q h1))
      have hOh_ := hA_.2.2.2.choose_spec.choose_spec.1
      -- java/util/List.add
      refine z_gcallF (rest := []) (As := [.ref H_16.size]) Z (j_add G l H_18 S_ H_3.size H_16.size hs_ hA_ (zEl.o6 hO18_) hns_ (by omega)) gw_X4_42 Z.K.2.2.1.2.1 gd_L_add hOh_ rfl hl.1 (Nat.le_of_ble_eq_true rfl) rfl dX4_init_82 ⟨⟨Nat.le_of_ble_eq_true rfl, Nat.le_of_ble_eq_true rfl⟩, Nat.le_of_ble_eq_true rfl, Nat.le_of_ble_eq_true rfl⟩ hL (fun H_19 locs hL hP_ => ?_)
      obtain ⟨R_2, hPc⟩ := hnext_ _ hP_
      refine lv_pop Z.hx Z.hb dX4_init_87 rfl ?_
      refine lv_iinc (v := 1 + 1) (lv' := [(6, .int (1 + 1)), (0, .ref a), (1, .int (nI j)), (2, .int (sA σ 2 j)), (3, .int (sA σ 3 j)), (4, .int (sA σ 4 j)), (5, .int (sA σ 5 j))]) Z.hx Z.hb dX4_init_88 hl (k := 0) rfl rfl (by decide) rfl (fun ls hl => ?_)
      refine lv_goto (tgt := 64) Z.hx Z.hb dX4_init_91 (by decide) ?_
      have hl := z_loc (l' := [(6, .int 2), (0, .ref a), (1, .int (nI j)), (2, .int (sA σ 2 j)), (3, .int (sA σ 3 j)), (4, .int (sA σ 4 j)), (5, .int (sA σ 5 j))]) hl (by rfl)
      refine lv_iload Z.hx Z.hb dX4_init_64 (lv_at hl 0 rfl) ?_
      refine lv_bipush (v := 20) Z.hx Z.hb dX4_init_66 (by decide) ?_
      refine lv_icmp_ge (tgt := 94) Z.hx Z.hb dX4_init_68 (by decide) (fun c68 => ?_) (fun c68 => ?_)
      · exact absurd c68 (by decide)
      · skip
        refine lv_aload_n Z.hx Z.hb dX4_init_71 rfl (lv_at hl 1 rfl) ?_
        refine gf_X4_18 Z hPc.1 (v := .ref H_3.size) rfl dX4_init_72 ?_
        refine z_new Z (C := RJ2) (T := TJ2) (N := 3) (ci := 6) rfl in_J2 tyJ2 tyJ2_ok q394 q62 q32 (fs := [.int 0, .null, .int 0]) (fun j hj => by
      rcases j with _ | _ | _ | j
      all_goals first | rfl | (exact absurd hj (by omega))) (Nat.le_of_ble_eq_true rfl) (Nat.le_of_ble_eq_true rfl) dX4_init_75 (fun H_20 hO20_ hz20_ hq20_ => ?_)
        refine lv_dup Z.hx Z.hb dX4_init_78 rfl ?_
        have hb_ := hPc.2.2.2.2.2.2.2.2
        have hb2_ := hPc.2.2.2.2.1
        -- java/util/ArrayList.<init>
        refine z_gcallI (rest := [.ref H_19.size, .ref H_3.size]) (As := []) Z (j_init G l H_20 H_19.size (by omega) hO20_) gw_X4_11 q32 q395 q64 rfl gd_X4_11 rfl hl.1 (Nat.le_of_ble_eq_true rfl) rfl dX4_init_79 ⟨⟨Nat.le_of_ble_eq_true rfl, Nat.le_of_ble_eq_true rfl⟩, Nat.le_of_ble_eq_true rfl, Nat.le_of_ble_eq_true rfl⟩ hL (fun H_21 locs hL hP21_ => ?_)
        obtain ⟨hO21_, hz21_, hq21_⟩ := hP21_
        obtain ⟨hs_, S_, hA_, hns_, hlen_, hnext_⟩ := hPc.step hO21_ (by omega) (fun q h1 => (hq21_ q (by omega)).trans (hq20_ q h1))
        have hOh_ := hA_.2.2.2.choose_spec.choose_spec.1
        -- java/util/List.add
        refine z_gcallF (rest := []) (As := [.ref H_19.size]) Z (j_add G l H_21 S_ H_3.size H_19.size hs_ hA_ (zEl.o6 hO21_) hns_ (by omega)) gw_X4_42 Z.K.2.2.1.2.1 gd_L_add hOh_ rfl hl.1 (Nat.le_of_ble_eq_true rfl) rfl dX4_init_82 ⟨⟨Nat.le_of_ble_eq_true rfl, Nat.le_of_ble_eq_true rfl⟩, Nat.le_of_ble_eq_true rfl, Nat.le_of_ble_eq_true rfl⟩ hL (fun H_22 locs hL hP_ => ?_)
        obtain ⟨R_3, hPc⟩ := hnext_ _ hP_
        refine lv_pop Z.hx Z.hb dX4_init_87 rfl ?_
        refine lv_iinc (v := 2 + 1) (lv' := [(6, .int (2 + 1)), (0, .ref a), (1, .int (nI j)), (2, .int (sA σ 2 j)), (3, .int (sA σ 3 j)), (4, .int (sA σ 4 j)), (5, .int (sA σ 5 j))]) Z.hx Z.hb dX4_init_88 hl (k := 0) rfl rfl (by decide) rfl (fun ls hl => ?_)
        refine lv_goto (tgt := 64) Z.hx Z.hb dX4_init_91 (by decide) ?_
        have hl := z_loc (l' := [(6, .int 3), (0, .ref a), (1, .int (nI j)), (2, .int (sA σ 2 j)), (3, .int (sA σ 3 j)), (4, .int (sA σ 4 j)), (5, .int (sA σ 5 j))]) hl (by rfl)
        refine lv_iload Z.hx Z.hb dX4_init_64 (lv_at hl 0 rfl) ?_
        refine lv_bipush (v := 20) Z.hx Z.hb dX4_init_66 (by decide) ?_
        refine lv_icmp_ge (tgt := 94) Z.hx Z.hb dX4_init_68 (by decide) (fun c68 => ?_) (fun c68 => ?_)
        · exact absurd c68 (by decide)
        · skip
          refine lv_aload_n Z.hx Z.hb dX4_init_71 rfl (lv_at hl 1 rfl) ?_
          refine gf_X4_18 Z hPc.1 (v := .ref H_3.size) rfl dX4_init_72 ?_
          refine z_new Z (C := RJ2) (T := TJ2) (N := 3) (ci := 6) rfl in_J2 tyJ2 tyJ2_ok q394 q62 q32 (fs := [.int 0, .null, .int 0]) (fun j hj => by
      rcases j with _ | _ | _ | j
      all_goals first | rfl | (exact absurd hj (by omega))) (Nat.le_of_ble_eq_true rfl) (Nat.le_of_ble_eq_true rfl) dX4_init_75 (fun H_23 hO23_ hz23_ hq23_ => ?_)
          refine lv_dup Z.hx Z.hb dX4_init_78 rfl ?_
          have hb_ := hPc.2.2.2.2.2.2.2.2
          have hb2_ := hPc.2.2.2.2.1
          -- java/util/ArrayList.<init>
          refine z_gcallI (rest := [.ref H_22.size, .ref H_3.size]) (As := []) Z (j_init G l H_23 H_22.size (by omega) hO23_) gw_X4_11 q32 q395 q64 rfl gd_X4_11 rfl hl.1 (Nat.le_of_ble_eq_true rfl) rfl dX4_init_79 ⟨⟨Nat.le_of_ble_eq_true rfl, Nat.le_of_ble_eq_true rfl⟩, Nat.le_of_ble_eq_true rfl, Nat.le_of_ble_eq_true rfl⟩ hL (fun H_24 locs hL hP24_ => ?_)
          obtain ⟨hO24_, hz24_, hq24_⟩ := hP24_
          obtain ⟨hs_, S_, hA_, hns_, hlen_, hnext_⟩ := hPc.step hO24_ (by omega) (fun q h1 => (hq24_ q (by omega)).trans (hq23_ q h1))
          have hOh_ := hA_.2.2.2.choose_spec.choose_spec.1
          -- java/util/List.add
          refine z_gcallF (rest := []) (As := [.ref H_22.size]) Z (j_add G l H_24 S_ H_3.size H_22.size hs_ hA_ (zEl.o6 hO24_) hns_ (by omega)) gw_X4_42 Z.K.2.2.1.2.1 gd_L_add hOh_ rfl hl.1 (Nat.le_of_ble_eq_true rfl) rfl dX4_init_82 ⟨⟨Nat.le_of_ble_eq_true rfl, Nat.le_of_ble_eq_true rfl⟩, Nat.le_of_ble_eq_true rfl, Nat.le_of_ble_eq_true rfl⟩ hL (fun H_25 locs hL hP_ => ?_)
          obtain ⟨R_4, hPc⟩ := hnext_ _ hP_
          refine lv_pop Z.hx Z.hb dX4_init_87 rfl ?_
          refine lv_iinc (v := 3 + 1) (lv' := [(6, .int (3 + 1)), (0, .ref a), (1, .int (nI j)), (2, .int (sA σ 2 j)), (3, .int (sA σ 3 j)), (4, .int (sA σ 4 j)), (5, .int (sA σ 5 j))]) Z.hx Z.hb dX4_init_88 hl (k := 0) rfl rfl (by decide) rfl (fun ls hl => ?_)
          refine lv_goto (tgt := 64) Z.hx Z.hb dX4_init_91 (by decide) ?_
          have hl := z_loc (l' := [(6, .int 4), (0, .ref a), (1, .int (nI j)), (2, .int (sA σ 2 j)), (3, .int (sA σ 3 j)), (4, .int (sA σ 4 j)), (5, .int (sA σ 5 j))]) hl (by rfl)
          refine lv_iload Z.hx Z.hb dX4_init_64 (lv_at hl 0 rfl) ?_
          refine lv_bipush (v := 20) Z.hx Z.hb dX4_init_66 (by decide) ?_
          refine lv_icmp_ge (tgt := 94) Z.hx Z.hb dX4_init_68 (by decide) (fun c68 => ?_) (fun c68 => ?_)
          · exact absurd c68 (by decide)
          · skip
            refine lv_aload_n Z.hx Z.hb dX4_init_71 rfl (lv_at hl 1 rfl) ?_
            refine gf_X4_18 Z hPc.1 (v := .ref H_3.size) rfl dX4_init_72 ?_
            refine z_new Z (C := RJ2) (T := TJ2) (N := 3) (ci := 6) rfl in_J2 tyJ2 tyJ2_ok q394 q62 q32 (fs := [.int 0, .null, .int 0]) (fun j hj => by
      rcases j with _ | _ | _ | j
      all_goals first | rfl | (exact absurd hj (by omega))) (Nat.le_of_ble_eq_true rfl) (Nat.le_of_ble_eq_true rfl) dX4_init_75 (fun H_26 hO26_ hz26_ hq26_ => ?_)
            refine lv_dup Z.hx Z.hb dX4_init_78 rfl ?_
            have hb_ := hPc.2.2.2.2.2.2.2.2
            have hb2_ := hPc.2.2.2.2.1
            -- java/util/ArrayList.<init>
            refine z_gcallI (rest := [.ref H_25.size, .ref H_3.size]) (As := []) Z (j_init G l H_26 H_25.size (by omega) hO26_) gw_X4_11 q32 q395 q64 rfl gd_X4_11 rfl hl.1 (Nat.le_of_ble_eq_true rfl) rfl dX4_init_79 ⟨⟨Nat.le_of_ble_eq_true rfl, Nat.le_of_ble_eq_true rfl⟩, Nat.le_of_ble_eq_true rfl, Nat.le_of_ble_eq_true rfl⟩ hL (fun H_27 locs hL hP27_ => ?_)
            obtain ⟨hO27_, hz27_, hq27_⟩ := hP27_
            obtain ⟨hs_, S_, hA_, hns_, hlen_, hnext_⟩ := hPc.step hO27_ (by omega) (fun q h1 => (hq27_ q (by omega)).trans (hq26_ q h1))
            have hOh_ := hA_.2.2.2.choose_spec.choose_spec.1
            -- java/util/List.add
            refine z_gcallF (rest := []) (As := [.ref H_25.size]) Z (j_add G l H_27 S_ H_3.size H_25.size hs_ hA_ (zEl.o6 hO27_) hns_ (by omega)) gw_X4_42 Z.K.2.2.1.2.1 gd_L_add hOh_ rfl hl.1 (Nat.le_of_ble_eq_true rfl) rfl dX4_init_82 ⟨⟨Nat.le_of_ble_eq_true rfl, Nat.le_of_ble_eq_true rfl⟩, Nat.le_of_ble_eq_true rfl, Nat.le_of_ble_eq_true rfl⟩ hL (fun H_28 locs hL hP_ => ?_)
            obtain ⟨R_5, hPc⟩ := hnext_ _ hP_
            refine lv_pop Z.hx Z.hb dX4_init_87 rfl ?_
            refine lv_iinc (v := 4 + 1) (lv' := [(6, .int (4 + 1)), (0, .ref a), (1, .int (nI j)), (2, .int (sA σ 2 j)), (3, .int (sA σ 3 j)), (4, .int (sA σ 4 j)), (5, .int (sA σ 5 j))]) Z.hx Z.hb dX4_init_88 hl (k := 0) rfl rfl (by decide) rfl (fun ls hl => ?_)
            refine lv_goto (tgt := 64) Z.hx Z.hb dX4_init_91 (by decide) ?_
            have hl := z_loc (l' := [(6, .int 5), (0, .ref a), (1, .int (nI j)), (2, .int (sA σ 2 j)), (3, .int (sA σ 3 j)), (4, .int (sA σ 4 j)), (5, .int (sA σ 5 j))]) hl (by rfl)
            refine lv_iload Z.hx Z.hb dX4_init_64 (lv_at hl 0 rfl) ?_
            refine lv_bipush (v := 20) Z.hx Z.hb dX4_init_66 (by decide) ?_
            refine lv_icmp_ge (tgt := 94) Z.hx Z.hb dX4_init_68 (by decide) (fun c68 => ?_) (fun c68 => ?_)
            · exact absurd c68 (by decide)
            · skip
              refine lv_aload_n Z.hx Z.hb dX4_init_71 rfl (lv_at hl 1 rfl) ?_
              refine gf_X4_18 Z hPc.1 (v := .ref H_3.size) rfl dX4_init_72 ?_
              refine z_new Z (C := RJ2) (T := TJ2) (N := 3) (ci := 6) rfl in_J2 tyJ2 tyJ2_ok q394 q62 q32 (fs := [.int 0, .null, .int 0]) (fun j hj => by
      rcases j with _ | _ | _ | j
      all_goals first | rfl | (exact absurd hj (by omega))) (Nat.le_of_ble_eq_true rfl) (Nat.le_of_ble_eq_true rfl) dX4_init_75 (fun H_29 hO29_ hz29_ hq29_ => ?_)
              refine lv_dup Z.hx Z.hb dX4_init_78 rfl ?_
              have hb_ := hPc.2.2.2.2.2.2.2.2
              have hb2_ := hPc.2.2.2.2.1
              -- java/util/ArrayList.<init>
              refine z_gcallI (rest := [.ref H_28.size, .ref H_3.size]) (As := []) Z (j_init G l H_29 H_28.size (by omega) hO29_) gw_X4_11 q32 q395 q64 rfl gd_X4_11 rfl hl.1 (Nat.le_of_ble_eq_true rfl) rfl dX4_init_79 ⟨⟨Nat.le_of_ble_eq_true rfl, Nat.le_of_ble_eq_true rfl⟩, Nat.le_of_ble_eq_true rfl, Nat.le_of_ble_eq_true rfl⟩ hL (fun H_30 locs hL hP30_ => ?_)
              obtain ⟨hO30_, hz30_, hq30_⟩ := hP30_
              obtain ⟨hs_, S_, hA_, hns_, hlen_, hnext_⟩ := hPc.step hO30_ (by omega) (fun q h1 => (hq30_ q (by omega)).trans (hq29_ q h1))
              have hOh_ := hA_.2.2.2.choose_spec.choose_spec.1
              -- java/util/List.add
              refine z_gcallF (rest := []) (As := [.ref H_28.size]) Z (j_add G l H_30 S_ H_3.size H_28.size hs_ hA_ (zEl.o6 hO30_) hns_ (by omega)) gw_X4_42 Z.K.2.2.1.2.1 gd_L_add hOh_ rfl hl.1 (Nat.le_of_ble_eq_true rfl) rfl dX4_init_82 ⟨⟨Nat.le_of_ble_eq_true rfl, Nat.le_of_ble_eq_true rfl⟩, Nat.le_of_ble_eq_true rfl, Nat.le_of_ble_eq_true rfl⟩ hL (fun H_31 locs hL hP_ => ?_)
              obtain ⟨R_6, hPc⟩ := hnext_ _ hP_
              refine lv_pop Z.hx Z.hb dX4_init_87 rfl ?_
              refine lv_iinc (v := 5 + 1) (lv' := [(6, .int (5 + 1)), (0, .ref a), (1, .int (nI j)), (2, .int (sA σ 2 j)), (3, .int (sA σ 3 j)), (4, .int (sA σ 4 j)), (5, .int (sA σ 5 j))]) Z.hx Z.hb dX4_init_88 hl (k := 0) rfl rfl (by decide) rfl (fun ls hl => ?_)
              refine lv_goto (tgt := 64) Z.hx Z.hb dX4_init_91 (by decide) ?_
              have hl := z_loc (l' := [(6, .int 6), (0, .ref a), (1, .int (nI j)), (2, .int (sA σ 2 j)), (3, .int (sA σ 3 j)), (4, .int (sA σ 4 j)), (5, .int (sA σ 5 j))]) hl (by rfl)
              refine lv_iload Z.hx Z.hb dX4_init_64 (lv_at hl 0 rfl) ?_
              refine lv_bipush (v := 20) Z.hx Z.hb dX4_init_66 (by decide) ?_
              refine lv_icmp_ge (tgt := 94) Z.hx Z.hb dX4_init_68 (by decide) (fun c68 => ?_) (fun c68 => ?_)
              · exact absurd c68 (by decide)
              · skip
                refine lv_aload_n Z.hx Z.hb dX4_init_71 rfl (lv_at hl 1 rfl) ?_
                refine gf_X4_18 Z hPc.1 (v := .ref H_3.size) rfl dX4_init_72 ?_
                refine z_new Z (C := RJ2) (T := TJ2) (N := 3) (ci := 6) rfl in_J2 tyJ2 tyJ2_ok q394 q62 q32 (fs := [.int 0, .null, .int 0]) (fun j hj => by
      rcases j with _ | _ | _ | j
      all_goals first | rfl | (exact absurd hj (by omega))) (Nat.le_of_ble_eq_true rfl) (Nat.le_of_ble_eq_true rfl) dX4_init_75 (fun H_32 hO32_ hz32_ hq32_ => ?_)
                refine lv_dup Z.hx Z.hb dX4_init_78 rfl ?_
                have hb_ := hPc.2.2.2.2.2.2.2.2
                have hb2_ := hPc.2.2.2.2.1
                -- java/util/ArrayList.<init>
                refine z_gcallI (rest := [.ref H_31.size, .ref H_3.size]) (As := []) Z (j_init G l H_32 H_31.size (by omega) hO32_) gw_X4_11 q32 q395 q64 rfl gd_X4_11 rfl hl.1 (Nat.le_of_ble_eq_true rfl) rfl dX4_init_79 ⟨⟨Nat.le_of_ble_eq_true rfl, Nat.le_of_ble_eq_true rfl⟩, Nat.le_of_ble_eq_true rfl, Nat.le_of_ble_eq_true rfl⟩ hL (fun H_33 locs hL hP33_ => ?_)
                obtain ⟨hO33_, hz33_, hq33_⟩ := hP33_
                obtain ⟨hs_, S_, hA_, hns_, hlen_, hnext_⟩ := hPc.step hO33_ (by omega) (fun q h1 => (hq33_ q (by omega)).trans (hq32_ q h1))
                have hOh_ := hA_.2.2.2.choose_spec.choose_spec.1
                -- java/util/List.add
                refine z_gcallF (rest := []) (As := [.ref H_31.size]) Z (j_add G l H_33 S_ H_3.size H_31.size hs_ hA_ (zEl.o6 hO33_) hns_ (by omega)) gw_X4_42 Z.K.2.2.1.2.1 gd_L_add hOh_ rfl hl.1 (Nat.le_of_ble_eq_true rfl) rfl dX4_init_82 ⟨⟨Nat.le_of_ble_eq_true rfl, Nat.le_of_ble_eq_true rfl⟩, Nat.le_of_ble_eq_true rfl, Nat.le_of_ble_eq_true rfl⟩ hL (fun H_34 locs hL hP_ => ?_)
                obtain ⟨R_7, hPc⟩ := hnext_ _ hP_
                refine lv_pop Z.hx Z.hb dX4_init_87 rfl ?_
                refine lv_iinc (v := 6 + 1) (lv' := [(6, .int (6 + 1)), (0, .ref a), (1, .int (nI j)), (2, .int (sA σ 2 j)), (3, .int (sA σ 3 j)), (4, .int (sA σ 4 j)), (5, .int (sA σ 5 j))]) Z.hx Z.hb dX4_init_88 hl (k := 0) rfl rfl (by decide) rfl (fun ls hl => ?_)
                refine lv_goto (tgt := 64) Z.hx Z.hb dX4_init_91 (by decide) ?_
                have hl := z_loc (l' := [(6, .int 7), (0, .ref a), (1, .int (nI j)), (2, .int (sA σ 2 j)), (3, .int (sA σ 3 j)), (4, .int (sA σ 4 j)), (5, .int (sA σ 5 j))]) hl (by rfl)
                refine lv_iload Z.hx Z.hb dX4_init_64 (lv_at hl 0 rfl) ?_
                refine lv_bipush (v := 20) Z.hx Z.hb dX4_init_66 (by decide) ?_
                refine lv_icmp_ge (tgt := 94) Z.hx Z.hb dX4_init_68 (by decide) (fun c68 => ?_) (fun c68 => ?_)
                · exact absurd c68 (by decide)
                · skip
                  refine lv_aload_n Z.hx Z.hb dX4_init_71 rfl (lv_at hl 1 rfl) ?_
                  refine gf_X4_18 Z hPc.1 (v := .ref H_3.size) rfl dX4_init_72 ?_
                  refine z_new Z (C := RJ2) (T := TJ2) (N := 3) (ci := 6) rfl in_J2 tyJ2 tyJ2_ok q394 q62 q32 (fs := [.int 0, .null, .int 0]) (fun j hj => by
      rcases j with _ | _ | _ | j
      all_goals first | rfl | (exact absurd hj (by omega))) (Nat.le_of_ble_eq_true rfl) (Nat.le_of_ble_eq_true rfl) dX4_init_75 (fun H_35 hO35_ hz35_ hq35_ => ?_)
                  refine lv_dup Z.hx Z.hb dX4_init_78 rfl ?_
                  have hb_ := hPc.2.2.2.2.2.2.2.2
                  have hb2_ := hPc.2.2.2.2.1
                  -- java/util/ArrayList.<init>
                  refine z_gcallI (rest := [.ref H_34.size, .ref H_3.size]) (As := []) Z (j_init G l H_35 H_34.size (by omega) hO35_) gw_X4_11 q32 q395 q64 rfl gd_X4_11 rfl hl.1 (Nat.le_of_ble_eq_true rfl) rfl dX4_init_79 ⟨⟨Nat.le_of_ble_eq_true rfl, Nat.le_of_ble_eq_true rfl⟩, Nat.le_of_ble_eq_true rfl, Nat.le_of_ble_eq_true rfl⟩ hL (fun H_36 locs hL hP36_ => ?_)
                  obtain ⟨hO36_, hz36_, hq36_⟩ := hP36_
                  obtain ⟨hs_, S_, hA_, hns_, hlen_, hnext_⟩ := hPc.step hO36_ (by omega) (fun q h1 => (hq36_ q (by omega)).trans (hq35_ q h1))
                  have hOh_ := hA_.2.2.2.choose_spec.choose_spec.1
                  -- java/util/List.add
                  refine z_gcallF (rest := []) (As := [.ref H_34.size]) Z (j_add G l H_36 S_ H_3.size H_34.size hs_ hA_ (zEl.o6 hO36_) hns_ (by omega)) gw_X4_42 Z.K.2.2.1.2.1 gd_L_add hOh_ rfl hl.1 (Nat.le_of_ble_eq_true rfl) rfl dX4_init_82 ⟨⟨Nat.le_of_ble_eq_true rfl, Nat.le_of_ble_eq_true rfl⟩, Nat.le_of_ble_eq_true rfl, Nat.le_of_ble_eq_true rfl⟩ hL (fun H_37 locs hL hP_ => ?_)
                  obtain ⟨R_8, hPc⟩ := hnext_ _ hP_
                  refine lv_pop Z.hx Z.hb dX4_init_87 rfl ?_
                  refine lv_iinc (v := 7 + 1) (lv' := [(6, .int (7 + 1)), (0, .ref a), (1, .int (nI j)), (2, .int (sA σ 2 j)), (3, .int (sA σ 3 j)), (4, .int (sA σ 4 j)), (5, .int (sA σ 5 j))]) Z.hx Z.hb dX4_init_88 hl (k := 0) rfl rfl (by decide) rfl (fun ls hl => ?_)
                  refine lv_goto (tgt := 64) Z.hx Z.hb dX4_init_91 (by decide) ?_
                  have hl := z_loc (l' := [(6, .int 8), (0, .ref a), (1, .int (nI j)), (2, .int (sA σ 2 j)), (3, .int (sA σ 3 j)), (4, .int (sA σ 4 j)), (5, .int (sA σ 5 j))]) hl (by rfl)
                  refine lv_iload Z.hx Z.hb dX4_init_64 (lv_at hl 0 rfl) ?_
                  refine lv_bipush (v := 20) Z.hx Z.hb dX4_init_66 (by decide) ?_
                  refine lv_icmp_ge (tgt := 94) Z.hx Z.hb dX4_init_68 (by decide) (fun c68 => ?_) (fun c68 => ?_)
                  · exact absurd c68 (by decide)
                  · skip
                    refine lv_aload_n Z.hx Z.hb dX4_init_71 rfl (lv_at hl 1 rfl) ?_
                    refine gf_X4_18 Z hPc.1 (v := .ref H_3.size) rfl dX4_init_72 ?_
                    refine z_new Z (C := RJ2) (T := TJ2) (N := 3) (ci := 6) rfl in_J2 tyJ2 tyJ2_ok q394 q62 q32 (fs := [.int 0, .null, .int 0]) (fun j hj => by
      rcases j with _ | _ | _ | j
      all_goals first | rfl | (exact absurd hj (by omega))) (Nat.le_of_ble_eq_true rfl) (Nat.le_of_ble_eq_true rfl) dX4_init_75 (fun H_38 hO38_ hz38_ hq38_ => ?_)
                    refine lv_dup Z.hx Z.hb dX4_init_78 rfl ?_
                    have hb_ := hPc.2.2.2.2.2.2.2.2
                    have hb2_ := hPc.2.2.2.2.1
                    -- java/util/ArrayList.<init>
                    refine z_gcallI (rest := [.ref H_37.size, .ref H_3.size]) (As := []) Z (j_init G l H_38 H_37.size (by omega) hO38_) gw_X4_11 q32 q395 q64 rfl gd_X4_11 rfl hl.1 (Nat.le_of_ble_eq_true rfl) rfl dX4_init_79 ⟨⟨Nat.le_of_ble_eq_true rfl, Nat.le_of_ble_eq_true rfl⟩, Nat.le_of_ble_eq_true rfl, Nat.le_of_ble_eq_true rfl⟩ hL (fun H_39 locs hL hP39_ => ?_)
                    obtain ⟨hO39_, hz39_, hq39_⟩ := hP39_
                    obtain ⟨hs_, S_, hA_, hns_, hlen_, hnext_⟩ := hPc.step hO39_ (by omega) (fun q h1 => (hq39_ q (by omega)).trans (hq38_ q h1))
                    have hOh_ := hA_.2.2.2.choose_spec.choose_spec.1
                    -- java/util/List.add
                    refine z_gcallF (rest := []) (As := [.ref H_37.size]) Z (j_add G l H_39 S_ H_3.size H_37.size hs_ hA_ (zEl.o6 hO39_) hns_ (by omega)) gw_X4_42 Z.K.2.2.1.2.1 gd_L_add hOh_ rfl hl.1 (Nat.le_of_ble_eq_true rfl) rfl dX4_init_82 ⟨⟨Nat.le_of_ble_eq_true rfl, Nat.le_of_ble_eq_true rfl⟩, Nat.le_of_ble_eq_true rfl, Nat.le_of_ble_eq_true rfl⟩ hL (fun H_40 locs hL hP_ => ?_)
                    obtain ⟨R_9, hPc⟩ := hnext_ _ hP_
                    refine lv_pop Z.hx Z.hb dX4_init_87 rfl ?_
                    refine lv_iinc (v := 8 + 1) (lv' := [(6, .int (8 + 1)), (0, .ref a), (1, .int (nI j)), (2, .int (sA σ 2 j)), (3, .int (sA σ 3 j)), (4, .int (sA σ 4 j)), (5, .int (sA σ 5 j))]) Z.hx Z.hb dX4_init_88 hl (k := 0) rfl rfl (by decide) rfl (fun ls hl => ?_)
                    refine lv_goto (tgt := 64) Z.hx Z.hb dX4_init_91 (by decide) ?_
                    have hl := z_loc (l' := [(6, .int 9), (0, .ref a), (1, .int (nI j)), (2, .int (sA σ 2 j)), (3, .int (sA σ 3 j)), (4, .int (sA σ 4 j)), (5, .int (sA σ 5 j))]) hl (by rfl)
                    refine lv_iload Z.hx Z.hb dX4_init_64 (lv_at hl 0 rfl) ?_
                    refine lv_bipush (v := 20) Z.hx Z.hb dX4_init_66 (by decide) ?_
                    refine lv_icmp_ge (tgt := 94) Z.hx Z.hb dX4_init_68 (by decide) (fun c68 => ?_) (fun c68 => ?_)
                    · exact absurd c68 (by decide)
                    · skip
                      refine lv_aload_n Z.hx Z.hb dX4_init_71 rfl (lv_at hl 1 rfl) ?_
                      refine gf_X4_18 Z hPc.1 (v := .ref H_3.size) rfl dX4_init_72 ?_
                      refine z_new Z (C := RJ2) (T := TJ2) (N := 3) (ci := 6) rfl in_J2 tyJ2 tyJ2_ok q394 q62 q32 (fs := [.int 0, .null, .int 0]) (fun j hj => by
      rcases j with _ | _ | _ | j
      all_goals first | rfl | (exact absurd hj (by omega))) (Nat.le_of_ble_eq_true rfl) (Nat.le_of_ble_eq_true rfl) dX4_init_75 (fun H_41 hO41_ hz41_ hq41_ => ?_)
                      refine lv_dup Z.hx Z.hb dX4_init_78 rfl ?_
                      have hb_ := hPc.2.2.2.2.2.2.2.2
                      have hb2_ := hPc.2.2.2.2.1
                      -- java/util/ArrayList.<init>
                      refine z_gcallI (rest := [.ref H_40.size, .ref H_3.size]) (As := []) Z (j_init G l H_41 H_40.size (by omega) hO41_) gw_X4_11 q32 q395 q64 rfl gd_X4_11 rfl hl.1 (Nat.le_of_ble_eq_true rfl) rfl dX4_init_79 ⟨⟨Nat.le_of_ble_eq_true rfl, Nat.le_of_ble_eq_true rfl⟩, Nat.le_of_ble_eq_true rfl, Nat.le_of_ble_eq_true rfl⟩ hL (fun H_42 locs hL hP42_ => ?_)
                      obtain ⟨hO42_, hz42_, hq42_⟩ := hP42_
                      obtain ⟨hs_, S_, hA_, hns_, hlen_, hnext_⟩ := hPc.step hO42_ (by omega) (fun q h1 => (hq42_ q (by omega)).trans (hq41_ q h1))
                      have hOh_ := hA_.2.2.2.choose_spec.choose_spec.1
                      -- java/util/List.add
                      refine z_gcallF (rest := []) (As := [.ref H_40.size]) Z (j_add G l H_42 S_ H_3.size H_40.size hs_ hA_ (zEl.o6 hO42_) hns_ (by omega)) gw_X4_42 Z.K.2.2.1.2.1 gd_L_add hOh_ rfl hl.1 (Nat.le_of_ble_eq_true rfl) rfl dX4_init_82 ⟨⟨Nat.le_of_ble_eq_true rfl, Nat.le_of_ble_eq_true rfl⟩, Nat.le_of_ble_eq_true rfl, Nat.le_of_ble_eq_true rfl⟩ hL (fun H_43 locs hL hP_ => ?_)
                      obtain ⟨R_10, hPc⟩ := hnext_ _ hP_
                      refine lv_pop Z.hx Z.hb dX4_init_87 rfl ?_
                      refine lv_iinc (v := 9 + 1) (lv' := [(6, .int (9 + 1)), (0, .ref a), (1, .int (nI j)), (2, .int (sA σ 2 j)), (3, .int (sA σ 3 j)), (4, .int (sA σ 4 j)), (5, .int (sA σ 5 j))]) Z.hx Z.hb dX4_init_88 hl (k := 0) rfl rfl (by decide) rfl (fun ls hl => ?_)
                      refine lv_goto (tgt := 64) Z.hx Z.hb dX4_init_91 (by decide) ?_
                      have hl := z_loc (l' := [(6, .int 10), (0, .ref a), (1, .int (nI j)), (2, .int (sA σ 2 j)), (3, .int (sA σ 3 j)), (4, .int (sA σ 4 j)), (5, .int (sA σ 5 j))]) hl (by rfl)
                      refine lv_iload Z.hx Z.hb dX4_init_64 (lv_at hl 0 rfl) ?_
                      refine lv_bipush (v := 20) Z.hx Z.hb dX4_init_66 (by decide) ?_
                      refine lv_icmp_ge (tgt := 94) Z.hx Z.hb dX4_init_68 (by decide) (fun c68 => ?_) (fun c68 => ?_)
                      · exact absurd c68 (by decide)
                      · skip
                        refine lv_aload_n Z.hx Z.hb dX4_init_71 rfl (lv_at hl 1 rfl) ?_
                        refine gf_X4_18 Z hPc.1 (v := .ref H_3.size) rfl dX4_init_72 ?_
                        refine z_new Z (C := RJ2) (T := TJ2) (N := 3) (ci := 6) rfl in_J2 tyJ2 tyJ2_ok q394 q62 q32 (fs := [.int 0, .null, .int 0]) (fun j hj => by
      rcases j with _ | _ | _ | j
      all_goals first | rfl | (exact absurd hj (by omega))) (Nat.le_of_ble_eq_true rfl) (Nat.le_of_ble_eq_true rfl) dX4_init_75 (fun H_44 hO44_ hz44_ hq44_ => ?_)
                        refine lv_dup Z.hx Z.hb dX4_init_78 rfl ?_
                        have hb_ := hPc.2.2.2.2.2.2.2.2
                        have hb2_ := hPc.2.2.2.2.1
                        -- java/util/ArrayList.<init>
                        refine z_gcallI (rest := [.ref H_43.size, .ref H_3.size]) (As := []) Z (j_init G l H_44 H_43.size (by omega) hO44_) gw_X4_11 q32 q395 q64 rfl gd_X4_11 rfl hl.1 (Nat.le_of_ble_eq_true rfl) rfl dX4_init_79 ⟨⟨Nat.le_of_ble_eq_true rfl, Nat.le_of_ble_eq_true rfl⟩, Nat.le_of_ble_eq_true rfl, Nat.le_of_ble_eq_true rfl⟩ hL (fun H_45 locs hL hP45_ => ?_)
                        obtain ⟨hO45_, hz45_, hq45_⟩ := hP45_
                        obtain ⟨hs_, S_, hA_, hns_, hlen_, hnext_⟩ := hPc.step hO45_ (by omega) (fun q h1 => (hq45_ q (by omega)).trans (hq44_ q h1))
                        have hOh_ := hA_.2.2.2.choose_spec.choose_spec.1
                        -- java/util/List.add
                        refine z_gcallF (rest := []) (As := [.ref H_43.size]) Z (j_add G l H_45 S_ H_3.size H_43.size hs_ hA_ (zEl.o6 hO45_) hns_ (by omega)) gw_X4_42 Z.K.2.2.1.2.1 gd_L_add hOh_ rfl hl.1 (Nat.le_of_ble_eq_true rfl) rfl dX4_init_82 ⟨⟨Nat.le_of_ble_eq_true rfl, Nat.le_of_ble_eq_true rfl⟩, Nat.le_of_ble_eq_true rfl, Nat.le_of_ble_eq_true rfl⟩ hL (fun H_46 locs hL hP_ => ?_)
                        obtain ⟨R_11, hPc⟩ := hnext_ _ hP_
                        refine lv_pop Z.hx Z.hb dX4_init_87 rfl ?_
                        refine lv_iinc (v := 10 + 1) (lv' := [(6, .int (10 + 1)), (0, .ref a), (1, .int (nI j)), (2, .int (sA σ 2 j)), (3, .int (sA σ 3 j)), (4, .int (sA σ 4 j)), (5, .int (sA σ 5 j))]) Z.hx Z.hb dX4_init_88 hl (k := 0) rfl rfl (by decide) rfl (fun ls hl => ?_)
                        refine lv_goto (tgt := 64) Z.hx Z.hb dX4_init_91 (by decide) ?_
                        have hl := z_loc (l' := [(6, .int 11), (0, .ref a), (1, .int (nI j)), (2, .int (sA σ 2 j)), (3, .int (sA σ 3 j)), (4, .int (sA σ 4 j)), (5, .int (sA σ 5 j))]) hl (by rfl)
                        refine lv_iload Z.hx Z.hb dX4_init_64 (lv_at hl 0 rfl) ?_
                        refine lv_bipush (v := 20) Z.hx Z.hb dX4_init_66 (by decide) ?_
                        refine lv_icmp_ge (tgt := 94) Z.hx Z.hb dX4_init_68 (by decide) (fun c68 => ?_) (fun c68 => ?_)
                        · exact absurd c68 (by decide)
                        · skip
                          refine lv_aload_n Z.hx Z.hb dX4_init_71 rfl (lv_at hl 1 rfl) ?_
                          refine gf_X4_18 Z hPc.1 (v := .ref H_3.size) rfl dX4_init_72 ?_
                          refine z_new Z (C := RJ2) (T := TJ2) (N := 3) (ci := 6) rfl in_J2 tyJ2 tyJ2_ok q394 q62 q32 (fs := [.int 0, .null, .int 0]) (fun j hj => by
      rcases j with _ | _ | _ | j
      all_goals first | rfl | (exact absurd hj (by omega))) (Nat.le_of_ble_eq_true rfl) (Nat.le_of_ble_eq_true rfl) dX4_init_75 (fun H_47 hO47_ hz47_ hq47_ => ?_)
                          refine lv_dup Z.hx Z.hb dX4_init_78 rfl ?_
                          have hb_ := hPc.2.2.2.2.2.2.2.2
                          have hb2_ := hPc.2.2.2.2.1
                          -- java/util/ArrayList.<init>
                          refine z_gcallI (rest := [.ref H_46.size, .ref H_3.size]) (As := []) Z (j_init G l H_47 H_46.size (by omega) hO47_) gw_X4_11 q32 q395 q64 rfl gd_X4_11 rfl hl.1 (Nat.le_of_ble_eq_true rfl) rfl dX4_init_79 ⟨⟨Nat.le_of_ble_eq_true rfl, Nat.le_of_ble_eq_true rfl⟩, Nat.le_of_ble_eq_true rfl, Nat.le_of_ble_eq_true rfl⟩ hL (fun H_48 locs hL hP48_ => ?_)
                          obtain ⟨hO48_, hz48_, hq48_⟩ := hP48_
                          obtain ⟨hs_, S_, hA_, hns_, hlen_, hnext_⟩ := hPc.step hO48_ (by omega) (fun q h1 => (hq48_ q (by omega)).trans (hq47_ q h1))
                          have hOh_ := hA_.2.2.2.choose_spec.choose_spec.1
                          -- java/util/List.add
                          refine z_gcallF (rest := []) (As := [.ref H_46.size]) Z (j_add G l H_48 S_ H_3.size H_46.size hs_ hA_ (zEl.o6 hO48_) hns_ (by omega)) gw_X4_42 Z.K.2.2.1.2.1 gd_L_add hOh_ rfl hl.1 (Nat.le_of_ble_eq_true rfl) rfl dX4_init_82 ⟨⟨Nat.le_of_ble_eq_true rfl, Nat.le_of_ble_eq_true rfl⟩, Nat.le_of_ble_eq_true rfl, Nat.le_of_ble_eq_true rfl⟩ hL (fun H_49 locs hL hP_ => ?_)
                          obtain ⟨R_12, hPc⟩ := hnext_ _ hP_
                          refine lv_pop Z.hx Z.hb dX4_init_87 rfl ?_
                          refine lv_iinc (v := 11 + 1) (lv' := [(6, .int (11 + 1)), (0, .ref a), (1, .int (nI j)), (2, .int (sA σ 2 j)), (3, .int (sA σ 3 j)), (4, .int (sA σ 4 j)), (5, .int (sA σ 5 j))]) Z.hx Z.hb dX4_init_88 hl (k := 0) rfl rfl (by decide) rfl (fun ls hl => ?_)
                          refine lv_goto (tgt := 64) Z.hx Z.hb dX4_init_91 (by decide) ?_
                          have hl := z_loc (l' := [(6, .int 12), (0, .ref a), (1, .int (nI j)), (2, .int (sA σ 2 j)), (3, .int (sA σ 3 j)), (4, .int (sA σ 4 j)), (5, .int (sA σ 5 j))]) hl (by rfl)
                          refine lv_iload Z.hx Z.hb dX4_init_64 (lv_at hl 0 rfl) ?_
                          refine lv_bipush (v := 20) Z.hx Z.hb dX4_init_66 (by decide) ?_
                          refine lv_icmp_ge (tgt := 94) Z.hx Z.hb dX4_init_68 (by decide) (fun c68 => ?_) (fun c68 => ?_)
                          · exact absurd c68 (by decide)
                          · skip
                            refine lv_aload_n Z.hx Z.hb dX4_init_71 rfl (lv_at hl 1 rfl) ?_
                            refine gf_X4_18 Z hPc.1 (v := .ref H_3.size) rfl dX4_init_72 ?_
                            refine z_new Z (C := RJ2) (T := TJ2) (N := 3) (ci := 6) rfl in_J2 tyJ2 tyJ2_ok q394 q62 q32 (fs := [.int 0, .null, .int 0]) (fun j hj => by
      rcases j with _ | _ | _ | j
      all_goals first | rfl | (exact absurd hj (by omega))) (Nat.le_of_ble_eq_true rfl) (Nat.le_of_ble_eq_true rfl) dX4_init_75 (fun H_50 hO50_ hz50_ hq50_ => ?_)
                            refine lv_dup Z.hx Z.hb dX4_init_78 rfl ?_
                            have hb_ := hPc.2.2.2.2.2.2.2.2
                            have hb2_ := hPc.2.2.2.2.1
                            -- java/util/ArrayList.<init>
                            refine z_gcallI (rest := [.ref H_49.size, .ref H_3.size]) (As := []) Z (j_init G l H_50 H_49.size (by omega) hO50_) gw_X4_11 q32 q395 q64 rfl gd_X4_11 rfl hl.1 (Nat.le_of_ble_eq_true rfl) rfl dX4_init_79 ⟨⟨Nat.le_of_ble_eq_true rfl, Nat.le_of_ble_eq_true rfl⟩, Nat.le_of_ble_eq_true rfl, Nat.le_of_ble_eq_true rfl⟩ hL (fun H_51 locs hL hP51_ => ?_)
                            obtain ⟨hO51_, hz51_, hq51_⟩ := hP51_
                            obtain ⟨hs_, S_, hA_, hns_, hlen_, hnext_⟩ := hPc.step hO51_ (by omega) (fun q h1 => (hq51_ q (by omega)).trans (hq50_ q h1))
                            have hOh_ := hA_.2.2.2.choose_spec.choose_spec.1
                            -- java/util/List.add
                            refine z_gcallF (rest := []) (As := [.ref H_49.size]) Z (j_add G l H_51 S_ H_3.size H_49.size hs_ hA_ (zEl.o6 hO51_) hns_ (by omega)) gw_X4_42 Z.K.2.2.1.2.1 gd_L_add hOh_ rfl hl.1 (Nat.le_of_ble_eq_true rfl) rfl dX4_init_82 ⟨⟨Nat.le_of_ble_eq_true rfl, Nat.le_of_ble_eq_true rfl⟩, Nat.le_of_ble_eq_true rfl, Nat.le_of_ble_eq_true rfl⟩ hL (fun H_52 locs hL hP_ => ?_)
                            obtain ⟨R_13, hPc⟩ := hnext_ _ hP_
                            refine lv_pop Z.hx Z.hb dX4_init_87 rfl ?_
                            refine lv_iinc (v := 12 + 1) (lv' := [(6, .int (12 + 1)), (0, .ref a), (1, .int (nI j)), (2, .int (sA σ 2 j)), (3, .int (sA σ 3 j)), (4, .int (sA σ 4 j)), (5, .int (sA σ 5 j))]) Z.hx Z.hb dX4_init_88 hl (k := 0) rfl rfl (by decide) rfl (fun ls hl => ?_)
                            refine lv_goto (tgt := 64) Z.hx Z.hb dX4_init_91 (by decide) ?_
                            have hl := z_loc (l' := [(6, .int 13), (0, .ref a), (1, .int (nI j)), (2, .int (sA σ 2 j)), (3, .int (sA σ 3 j)), (4, .int (sA σ 4 j)), (5, .int (sA σ 5 j))]) hl (by rfl)
                            refine lv_iload Z.hx Z.hb dX4_init_64 (lv_at hl 0 rfl) ?_
                            refine lv_bipush (v := 20) Z.hx Z.hb dX4_init_66 (by decide) ?_
                            refine lv_icmp_ge (tgt := 94) Z.hx Z.hb dX4_init_68 (by decide) (fun c68 => ?_) (fun c68 => ?_)
                            · exact absurd c68 (by decide)
                            · skip
                              refine lv_aload_n Z.hx Z.hb dX4_init_71 rfl (lv_at hl 1 rfl) ?_
                              refine gf_X4_18 Z hPc.1 (v := .ref H_3.size) rfl dX4_init_72 ?_
                              refine z_new Z (C := RJ2) (T := TJ2) (N := 3) (ci := 6) rfl in_J2 tyJ2 tyJ2_ok q394 q62 q32 (fs := [.int 0, .null, .int 0]) (fun j hj => by
      rcases j with _ | _ | _ | j
      all_goals first | rfl | (exact absurd hj (by omega))) (Nat.le_of_ble_eq_true rfl) (Nat.le_of_ble_eq_true rfl) dX4_init_75 (fun H_53 hO53_ hz53_ hq53_ => ?_)
                              refine lv_dup Z.hx Z.hb dX4_init_78 rfl ?_
                              have hb_ := hPc.2.2.2.2.2.2.2.2
                              have hb2_ := hPc.2.2.2.2.1
                              -- java/util/ArrayList.<init>
                              refine z_gcallI (rest := [.ref H_52.size, .ref H_3.size]) (As := []) Z (j_init G l H_53 H_52.size (by omega) hO53_) gw_X4_11 q32 q395 q64 rfl gd_X4_11 rfl hl.1 (Nat.le_of_ble_eq_true rfl) rfl dX4_init_79 ⟨⟨Nat.le_of_ble_eq_true rfl, Nat.le_of_ble_eq_true rfl⟩, Nat.le_of_ble_eq_true rfl, Nat.le_of_ble_eq_true rfl⟩ hL (fun H_54 locs hL hP54_ => ?_)
                              obtain ⟨hO54_, hz54_, hq54_⟩ := hP54_
                              obtain ⟨hs_, S_, hA_, hns_, hlen_, hnext_⟩ := hPc.step hO54_ (by omega) (fun q h1 => (hq54_ q (by omega)).trans (hq53_ q h1))
                              have hOh_ := hA_.2.2.2.choose_spec.choose_spec.1
                              -- java/util/List.add
                              refine z_gcallF (rest := []) (As := [.ref H_52.size]) Z (j_add G l H_54 S_ H_3.size H_52.size hs_ hA_ (zEl.o6 hO54_) hns_ (by omega)) gw_X4_42 Z.K.2.2.1.2.1 gd_L_add hOh_ rfl hl.1 (Nat.le_of_ble_eq_true rfl) rfl dX4_init_82 ⟨⟨Nat.le_of_ble_eq_true rfl, Nat.le_of_ble_eq_true rfl⟩, Nat.le_of_ble_eq_true rfl, Nat.le_of_ble_eq_true rfl⟩ hL (fun H_55 locs hL hP_ => ?_)
                              obtain ⟨R_14, hPc⟩ := hnext_ _ hP_
                              refine lv_pop Z.hx Z.hb dX4_init_87 rfl ?_
                              refine lv_iinc (v := 13 + 1) (lv' := [(6, .int (13 + 1)), (0, .ref a), (1, .int (nI j)), (2, .int (sA σ 2 j)), (3, .int (sA σ 3 j)), (4, .int (sA σ 4 j)), (5, .int (sA σ 5 j))]) Z.hx Z.hb dX4_init_88 hl (k := 0) rfl rfl (by decide) rfl (fun ls hl => ?_)
                              refine lv_goto (tgt := 64) Z.hx Z.hb dX4_init_91 (by decide) ?_
                              have hl := z_loc (l' := [(6, .int 14), (0, .ref a), (1, .int (nI j)), (2, .int (sA σ 2 j)), (3, .int (sA σ 3 j)), (4, .int (sA σ 4 j)), (5, .int (sA σ 5 j))]) hl (by rfl)
                              refine lv_iload Z.hx Z.hb dX4_init_64 (lv_at hl 0 rfl) ?_
                              refine lv_bipush (v := 20) Z.hx Z.hb dX4_init_66 (by decide) ?_
                              refine lv_icmp_ge (tgt := 94) Z.hx Z.hb dX4_init_68 (by decide) (fun c68 => ?_) (fun c68 => ?_)
                              · exact absurd c68 (by decide)
                              · skip
                                refine lv_aload_n Z.hx Z.hb dX4_init_71 rfl (lv_at hl 1 rfl) ?_
                                refine gf_X4_18 Z hPc.1 (v := .ref H_3.size) rfl dX4_init_72 ?_
                                refine z_new Z (C := RJ2) (T := TJ2) (N := 3) (ci := 6) rfl in_J2 tyJ2 tyJ2_ok q394 q62 q32 (fs := [.int 0, .null, .int 0]) (fun j hj => by
      rcases j with _ | _ | _ | j
      all_goals first | rfl | (exact absurd hj (by omega))) (Nat.le_of_ble_eq_true rfl) (Nat.le_of_ble_eq_true rfl) dX4_init_75 (fun H_56 hO56_ hz56_ hq56_ => ?_)
                                refine lv_dup Z.hx Z.hb dX4_init_78 rfl ?_
                                have hb_ := hPc.2.2.2.2.2.2.2.2
                                have hb2_ := hPc.2.2.2.2.1
                                -- java/util/ArrayList.<init>
                                refine z_gcallI (rest := [.ref H_55.size, .ref H_3.size]) (As := []) Z (j_init G l H_56 H_55.size (by omega) hO56_) gw_X4_11 q32 q395 q64 rfl gd_X4_11 rfl hl.1 (Nat.le_of_ble_eq_true rfl) rfl dX4_init_79 ⟨⟨Nat.le_of_ble_eq_true rfl, Nat.le_of_ble_eq_true rfl⟩, Nat.le_of_ble_eq_true rfl, Nat.le_of_ble_eq_true rfl⟩ hL (fun H_57 locs hL hP57_ => ?_)
                                obtain ⟨hO57_, hz57_, hq57_⟩ := hP57_
                                obtain ⟨hs_, S_, hA_, hns_, hlen_, hnext_⟩ := hPc.step hO57_ (by omega) (fun q h1 => (hq57_ q (by omega)).trans (hq56_ q h1))
                                have hOh_ := hA_.2.2.2.choose_spec.choose_spec.1
                                -- java/util/List.add
                                refine z_gcallF (rest := []) (As := [.ref H_55.size]) Z (j_add G l H_57 S_ H_3.size H_55.size hs_ hA_ (zEl.o6 hO57_) hns_ (by omega)) gw_X4_42 Z.K.2.2.1.2.1 gd_L_add hOh_ rfl hl.1 (Nat.le_of_ble_eq_true rfl) rfl dX4_init_82 ⟨⟨Nat.le_of_ble_eq_true rfl, Nat.le_of_ble_eq_true rfl⟩, Nat.le_of_ble_eq_true rfl, Nat.le_of_ble_eq_true rfl⟩ hL (fun H_58 locs hL hP_ => ?_)
                                obtain ⟨R_15, hPc⟩ := hnext_ _ hP_
                                refine lv_pop Z.hx Z.hb dX4_init_87 rfl ?_
                                refine lv_iinc (v := 14 + 1) (lv' := [(6, .int (14 + 1)), (0, .ref a), (1, .int (nI j)), (2, .int (sA σ 2 j)), (3, .int (sA σ 3 j)), (4, .int (sA σ 4 j)), (5, .int (sA σ 5 j))]) Z.hx Z.hb dX4_init_88 hl (k := 0) rfl rfl (by decide) rfl (fun ls hl => ?_)
                                refine lv_goto (tgt := 64) Z.hx Z.hb dX4_init_91 (by decide) ?_
                                have hl := z_loc (l' := [(6, .int 15), (0, .ref a), (1, .int (nI j)), (2, .int (sA σ 2 j)), (3, .int (sA σ 3 j)), (4, .int (sA σ 4 j)), (5, .int (sA σ 5 j))]) hl (by rfl)
                                refine lv_iload Z.hx Z.hb dX4_init_64 (lv_at hl 0 rfl) ?_
                                refine lv_bipush (v := 20) Z.hx Z.hb dX4_init_66 (by decide) ?_
                                refine lv_icmp_ge (tgt := 94) Z.hx Z.hb dX4_init_68 (by decide) (fun c68 => ?_) (fun c68 => ?_)
                                · exact absurd c68 (by decide)
                                · skip
                                  refine lv_aload_n Z.hx Z.hb dX4_init_71 rfl (lv_at hl 1 rfl) ?_
                                  refine gf_X4_18 Z hPc.1 (v := .ref H_3.size) rfl dX4_init_72 ?_
                                  refine z_new Z (C := RJ2) (T := TJ2) (N := 3) (ci := 6) rfl in_J2 tyJ2 tyJ2_ok q394 q62 q32 (fs := [.int 0, .null, .int 0]) (fun j hj => by
      rcases j with _ | _ | _ | j
      all_goals first | rfl | (exact absurd hj (by omega))) (Nat.le_of_ble_eq_true rfl) (Nat.le_of_ble_eq_true rfl) dX4_init_75 (fun H_59 hO59_ hz59_ hq59_ => ?_)
                                  refine lv_dup Z.hx Z.hb dX4_init_78 rfl ?_
                                  have hb_ := hPc.2.2.2.2.2.2.2.2
                                  have hb2_ := hPc.2.2.2.2.1
                                  -- java/util/ArrayList.<init>
                                  refine z_gcallI (rest := [.ref H_58.size, .ref H_3.size]) (As := []) Z (j_init G l H_59 H_58.size (by omega) hO59_) gw_X4_11 q32 q395 q64 rfl gd_X4_11 rfl hl.1 (Nat.le_of_ble_eq_true rfl) rfl dX4_init_79 ⟨⟨Nat.le_of_ble_eq_true rfl, Nat.le_of_ble_eq_true rfl⟩, Nat.le_of_ble_eq_true rfl, Nat.le_of_ble_eq_true rfl⟩ hL (fun H_60 locs hL hP60_ => ?_)
                                  obtain ⟨hO60_, hz60_, hq60_⟩ := hP60_
                                  obtain ⟨hs_, S_, hA_, hns_, hlen_, hnext_⟩ := hPc.step hO60_ (by omega) (fun q h1 => (hq60_ q (by omega)).trans (hq59_ q h1))
                                  have hOh_ := hA_.2.2.2.choose_spec.choose_spec.1
                                  -- java/util/List.add
                                  refine z_gcallF (rest := []) (As := [.ref H_58.size]) Z (j_add G l H_60 S_ H_3.size H_58.size hs_ hA_ (zEl.o6 hO60_) hns_ (by omega)) gw_X4_42 Z.K.2.2.1.2.1 gd_L_add hOh_ rfl hl.1 (Nat.le_of_ble_eq_true rfl) rfl dX4_init_82 ⟨⟨Nat.le_of_ble_eq_true rfl, Nat.le_of_ble_eq_true rfl⟩, Nat.le_of_ble_eq_true rfl, Nat.le_of_ble_eq_true rfl⟩ hL (fun H_61 locs hL hP_ => ?_)
                                  obtain ⟨R_16, hPc⟩ := hnext_ _ hP_
                                  refine lv_pop Z.hx Z.hb dX4_init_87 rfl ?_
                                  refine lv_iinc (v := 15 + 1) (lv' := [(6, .int (15 + 1)), (0, .ref a), (1, .int (nI j)), (2, .int (sA σ 2 j)), (3, .int (sA σ 3 j)), (4, .int (sA σ 4 j)), (5, .int (sA σ 5 j))]) Z.hx Z.hb dX4_init_88 hl (k := 0) rfl rfl (by decide) rfl (fun ls hl => ?_)
                                  refine lv_goto (tgt := 64) Z.hx Z.hb dX4_init_91 (by decide) ?_
                                  have hl := z_loc (l' := [(6, .int 16), (0, .ref a), (1, .int (nI j)), (2, .int (sA σ 2 j)), (3, .int (sA σ 3 j)), (4, .int (sA σ 4 j)), (5, .int (sA σ 5 j))]) hl (by rfl)
                                  refine lv_iload Z.hx Z.hb dX4_init_64 (lv_at hl 0 rfl) ?_
                                  refine lv_bipush (v := 20) Z.hx Z.hb dX4_init_66 (by decide) ?_
                                  refine lv_icmp_ge (tgt := 94) Z.hx Z.hb dX4_init_68 (by decide) (fun c68 => ?_) (fun c68 => ?_)
                                  · exact absurd c68 (by decide)
                                  · skip
                                    refine lv_aload_n Z.hx Z.hb dX4_init_71 rfl (lv_at hl 1 rfl) ?_
                                    refine gf_X4_18 Z hPc.1 (v := .ref H_3.size) rfl dX4_init_72 ?_
                                    refine z_new Z (C := RJ2) (T := TJ2) (N := 3) (ci := 6) rfl in_J2 tyJ2 tyJ2_ok q394 q62 q32 (fs := [.int 0, .null, .int 0]) (fun j hj => by
      rcases j with _ | _ | _ | j
      all_goals first | rfl | (exact absurd hj (by omega))) (Nat.le_of_ble_eq_true rfl) (Nat.le_of_ble_eq_true rfl) dX4_init_75 (fun H_62 hO62_ hz62_ hq62_ => ?_)
                                    refine lv_dup Z.hx Z.hb dX4_init_78 rfl ?_
                                    have hb_ := hPc.2.2.2.2.2.2.2.2
                                    have hb2_ := hPc.2.2.2.2.1
                                    -- java/util/ArrayList.<init>
                                    refine z_gcallI (rest := [.ref H_61.size, .ref H_3.size]) (As := []) Z (j_init G l H_62 H_61.size (by omega) hO62_) gw_X4_11 q32 q395 q64 rfl gd_X4_11 rfl hl.1 (Nat.le_of_ble_eq_true rfl) rfl dX4_init_79 ⟨⟨Nat.le_of_ble_eq_true rfl, Nat.le_of_ble_eq_true rfl⟩, Nat.le_of_ble_eq_true rfl, Nat.le_of_ble_eq_true rfl⟩ hL (fun H_63 locs hL hP63_ => ?_)
                                    obtain ⟨hO63_, hz63_, hq63_⟩ := hP63_
                                    obtain ⟨hs_, S_, hA_, hns_, hlen_, hnext_⟩ := hPc.step hO63_ (by omega) (fun q h1 => (hq63_ q (by omega)).trans (hq62_ q h1))
                                    have hOh_ := hA_.2.2.2.choose_spec.choose_spec.1
                                    -- java/util/List.add
                                    refine z_gcallF (rest := []) (As := [.ref H_61.size]) Z (j_add G l H_63 S_ H_3.size H_61.size hs_ hA_ (zEl.o6 hO63_) hns_ (by omega)) gw_X4_42 Z.K.2.2.1.2.1 gd_L_add hOh_ rfl hl.1 (Nat.le_of_ble_eq_true rfl) rfl dX4_init_82 ⟨⟨Nat.le_of_ble_eq_true rfl, Nat.le_of_ble_eq_true rfl⟩, Nat.le_of_ble_eq_true rfl, Nat.le_of_ble_eq_true rfl⟩ hL (fun H_64 locs hL hP_ => ?_)
                                    obtain ⟨R_17, hPc⟩ := hnext_ _ hP_
                                    refine lv_pop Z.hx Z.hb dX4_init_87 rfl ?_
                                    refine lv_iinc (v := 16 + 1) (lv' := [(6, .int (16 + 1)), (0, .ref a), (1, .int (nI j)), (2, .int (sA σ 2 j)), (3, .int (sA σ 3 j)), (4, .int (sA σ 4 j)), (5, .int (sA σ 5 j))]) Z.hx Z.hb dX4_init_88 hl (k := 0) rfl rfl (by decide) rfl (fun ls hl => ?_)
                                    refine lv_goto (tgt := 64) Z.hx Z.hb dX4_init_91 (by decide) ?_
                                    have hl := z_loc (l' := [(6, .int 17), (0, .ref a), (1, .int (nI j)), (2, .int (sA σ 2 j)), (3, .int (sA σ 3 j)), (4, .int (sA σ 4 j)), (5, .int (sA σ 5 j))]) hl (by rfl)
                                    refine lv_iload Z.hx Z.hb dX4_init_64 (lv_at hl 0 rfl) ?_
                                    refine lv_bipush (v := 20) Z.hx Z.hb dX4_init_66 (by decide) ?_
                                    refine lv_icmp_ge (tgt := 94) Z.hx Z.hb dX4_init_68 (by decide) (fun c68 => ?_) (fun c68 => ?_)
                                    · exact absurd c68 (by decide)
                                    · skip
                                      refine lv_aload_n Z.hx Z.hb dX4_init_71 rfl (lv_at hl 1 rfl) ?_
                                      refine gf_X4_18 Z hPc.1 (v := .ref H_3.size) rfl dX4_init_72 ?_
                                      refine z_new Z (C := RJ2) (T := TJ2) (N := 3) (ci := 6) rfl in_J2 tyJ2 tyJ2_ok q394 q62 q32 (fs := [.int 0, .null, .int 0]) (fun j hj => by
      rcases j with _ | _ | _ | j
      all_goals first | rfl | (exact absurd hj (by omega))) (Nat.le_of_ble_eq_true rfl) (Nat.le_of_ble_eq_true rfl) dX4_init_75 (fun H_65 hO65_ hz65_ hq65_ => ?_)
                                      refine lv_dup Z.hx Z.hb dX4_init_78 rfl ?_
                                      have hb_ := hPc.2.2.2.2.2.2.2.2
                                      have hb2_ := hPc.2.2.2.2.1
                                      -- java/util/ArrayList.<init>
                                      refine z_gcallI (rest := [.ref H_64.size, .ref H_3.size]) (As := []) Z (j_init G l H_65 H_64.size (by omega) hO65_) gw_X4_11 q32 q395 q64 rfl gd_X4_11 rfl hl.1 (Nat.le_of_ble_eq_true rfl) rfl dX4_init_79 ⟨⟨Nat.le_of_ble_eq_true rfl, Nat.le_of_ble_eq_true rfl⟩, Nat.le_of_ble_eq_true rfl, Nat.le_of_ble_eq_true rfl⟩ hL (fun H_66 locs hL hP66_ => ?_)
                                      obtain ⟨hO66_, hz66_, hq66_⟩ := hP66_
                                      obtain ⟨hs_, S_, hA_, hns_, hlen_, hnext_⟩ := hPc.step hO66_ (by omega) (fun q h1 => (hq66_ q (by omega)).trans (hq65_ q h1))
                                      have hOh_ := hA_.2.2.2.choose_spec.choose_spec.1
                                      -- java/util/List.add
                                      refine z_gcallF (rest := []) (As := [.ref H_64.size]) Z (j_add G l H_66 S_ H_3.size H_64.size hs_ hA_ (zEl.o6 hO66_) hns_ (by omega)) gw_X4_42 Z.K.2.2.1.2.1 gd_L_add hOh_ rfl hl.1 (Nat.le_of_ble_eq_true rfl) rfl dX4_init_82 ⟨⟨Nat.le_of_ble_eq_true rfl, Nat.le_of_ble_eq_true rfl⟩, Nat.le_of_ble_eq_true rfl, Nat.le_of_ble_eq_true rfl⟩ hL (fun H_67 locs hL hP_ => ?_)
                                      obtain ⟨R_18, hPc⟩ := hnext_ _ hP_
                                      refine lv_pop Z.hx Z.hb dX4_init_87 rfl ?_
                                      refine lv_iinc (v := 17 + 1) (lv' := [(6, .int (17 + 1)), (0, .ref a), (1, .int (nI j)), (2, .int (sA σ 2 j)), (3, .int (sA σ 3 j)), (4, .int (sA σ 4 j)), (5, .int (sA σ 5 j))]) Z.hx Z.hb dX4_init_88 hl (k := 0) rfl rfl (by decide) rfl (fun ls hl => ?_)
                                      refine lv_goto (tgt := 64) Z.hx Z.hb dX4_init_91 (by decide) ?_
                                      have hl := z_loc (l' := [(6, .int 18), (0, .ref a), (1, .int (nI j)), (2, .int (sA σ 2 j)), (3, .int (sA σ 3 j)), (4, .int (sA σ 4 j)), (5, .int (sA σ 5 j))]) hl (by rfl)
                                      refine lv_iload Z.hx Z.hb dX4_init_64 (lv_at hl 0 rfl) ?_
                                      refine lv_bipush (v := 20) Z.hx Z.hb dX4_init_66 (by decide) ?_
                                      refine lv_icmp_ge (tgt := 94) Z.hx Z.hb dX4_init_68 (by decide) (fun c68 => ?_) (fun c68 => ?_)
                                      · exact absurd c68 (by decide)
                                      · skip
                                        refine lv_aload_n Z.hx Z.hb dX4_init_71 rfl (lv_at hl 1 rfl) ?_
                                        refine gf_X4_18 Z hPc.1 (v := .ref H_3.size) rfl dX4_init_72 ?_
                                        refine z_new Z (C := RJ2) (T := TJ2) (N := 3) (ci := 6) rfl in_J2 tyJ2 tyJ2_ok q394 q62 q32 (fs := [.int 0, .null, .int 0]) (fun j hj => by
      rcases j with _ | _ | _ | j
      all_goals first | rfl | (exact absurd hj (by omega))) (Nat.le_of_ble_eq_true rfl) (Nat.le_of_ble_eq_true rfl) dX4_init_75 (fun H_68 hO68_ hz68_ hq68_ => ?_)
                                        refine lv_dup Z.hx Z.hb dX4_init_78 rfl ?_
                                        have hb_ := hPc.2.2.2.2.2.2.2.2
                                        have hb2_ := hPc.2.2.2.2.1
                                        -- java/util/ArrayList.<init>
                                        refine z_gcallI (rest := [.ref H_67.size, .ref H_3.size]) (As := []) Z (j_init G l H_68 H_67.size (by omega) hO68_) gw_X4_11 q32 q395 q64 rfl gd_X4_11 rfl hl.1 (Nat.le_of_ble_eq_true rfl) rfl dX4_init_79 ⟨⟨Nat.le_of_ble_eq_true rfl, Nat.le_of_ble_eq_true rfl⟩, Nat.le_of_ble_eq_true rfl, Nat.le_of_ble_eq_true rfl⟩ hL (fun H_69 locs hL hP69_ => ?_)
                                        obtain ⟨hO69_, hz69_, hq69_⟩ := hP69_
                                        obtain ⟨hs_, S_, hA_, hns_, hlen_, hnext_⟩ := hPc.step hO69_ (by omega) (fun q h1 => (hq69_ q (by omega)).trans (hq68_ q h1))
                                        have hOh_ := hA_.2.2.2.choose_spec.choose_spec.1
                                        -- java/util/List.add
                                        refine z_gcallF (rest := []) (As := [.ref H_67.size]) Z (j_add G l H_69 S_ H_3.size H_67.size hs_ hA_ (zEl.o6 hO69_) hns_ (by omega)) gw_X4_42 Z.K.2.2.1.2.1 gd_L_add hOh_ rfl hl.1 (Nat.le_of_ble_eq_true rfl) rfl dX4_init_82 ⟨⟨Nat.le_of_ble_eq_true rfl, Nat.le_of_ble_eq_true rfl⟩, Nat.le_of_ble_eq_true rfl, Nat.le_of_ble_eq_true rfl⟩ hL (fun H_70 locs hL hP_ => ?_)
                                        obtain ⟨R_19, hPc⟩ := hnext_ _ hP_
                                        refine lv_pop Z.hx Z.hb dX4_init_87 rfl ?_
                                        refine lv_iinc (v := 18 + 1) (lv' := [(6, .int (18 + 1)), (0, .ref a), (1, .int (nI j)), (2, .int (sA σ 2 j)), (3, .int (sA σ 3 j)), (4, .int (sA σ 4 j)), (5, .int (sA σ 5 j))]) Z.hx Z.hb dX4_init_88 hl (k := 0) rfl rfl (by decide) rfl (fun ls hl => ?_)
                                        refine lv_goto (tgt := 64) Z.hx Z.hb dX4_init_91 (by decide) ?_
                                        have hl := z_loc (l' := [(6, .int 19), (0, .ref a), (1, .int (nI j)), (2, .int (sA σ 2 j)), (3, .int (sA σ 3 j)), (4, .int (sA σ 4 j)), (5, .int (sA σ 5 j))]) hl (by rfl)
                                        refine lv_iload Z.hx Z.hb dX4_init_64 (lv_at hl 0 rfl) ?_
                                        refine lv_bipush (v := 20) Z.hx Z.hb dX4_init_66 (by decide) ?_
                                        refine lv_icmp_ge (tgt := 94) Z.hx Z.hb dX4_init_68 (by decide) (fun c68 => ?_) (fun c68 => ?_)
                                        · exact absurd c68 (by decide)
                                        · skip
                                          refine lv_aload_n Z.hx Z.hb dX4_init_71 rfl (lv_at hl 1 rfl) ?_
                                          refine gf_X4_18 Z hPc.1 (v := .ref H_3.size) rfl dX4_init_72 ?_
                                          refine z_new Z (C := RJ2) (T := TJ2) (N := 3) (ci := 6) rfl in_J2 tyJ2 tyJ2_ok q394 q62 q32 (fs := [.int 0, .null, .int 0]) (fun j hj => by
      rcases j with _ | _ | _ | j
      all_goals first | rfl | (exact absurd hj (by omega))) (Nat.le_of_ble_eq_true rfl) (Nat.le_of_ble_eq_true rfl) dX4_init_75 (fun H_71 hO71_ hz71_ hq71_ => ?_)
                                          refine lv_dup Z.hx Z.hb dX4_init_78 rfl ?_
                                          have hb_ := hPc.2.2.2.2.2.2.2.2
                                          have hb2_ := hPc.2.2.2.2.1
                                          -- java/util/ArrayList.<init>
                                          refine z_gcallI (rest := [.ref H_70.size, .ref H_3.size]) (As := []) Z (j_init G l H_71 H_70.size (by omega) hO71_) gw_X4_11 q32 q395 q64 rfl gd_X4_11 rfl hl.1 (Nat.le_of_ble_eq_true rfl) rfl dX4_init_79 ⟨⟨Nat.le_of_ble_eq_true rfl, Nat.le_of_ble_eq_true rfl⟩, Nat.le_of_ble_eq_true rfl, Nat.le_of_ble_eq_true rfl⟩ hL (fun H_72 locs hL hP72_ => ?_)
                                          obtain ⟨hO72_, hz72_, hq72_⟩ := hP72_
                                          obtain ⟨hs_, S_, hA_, hns_, hlen_, hnext_⟩ := hPc.step hO72_ (by omega) (fun q h1 => (hq72_ q (by omega)).trans (hq71_ q h1))
                                          have hOh_ := hA_.2.2.2.choose_spec.choose_spec.1
                                          -- java/util/List.add
                                          refine z_gcallF (rest := []) (As := [.ref H_70.size]) Z (j_add G l H_72 S_ H_3.size H_70.size hs_ hA_ (zEl.o6 hO72_) hns_ (by omega)) gw_X4_42 Z.K.2.2.1.2.1 gd_L_add hOh_ rfl hl.1 (Nat.le_of_ble_eq_true rfl) rfl dX4_init_82 ⟨⟨Nat.le_of_ble_eq_true rfl, Nat.le_of_ble_eq_true rfl⟩, Nat.le_of_ble_eq_true rfl, Nat.le_of_ble_eq_true rfl⟩ hL (fun H_73 locs hL hP_ => ?_)
                                          obtain ⟨R_20, hPc⟩ := hnext_ _ hP_
                                          refine lv_pop Z.hx Z.hb dX4_init_87 rfl ?_
                                          refine lv_iinc (v := 19 + 1) (lv' := [(6, .int (19 + 1)), (0, .ref a), (1, .int (nI j)), (2, .int (sA σ 2 j)), (3, .int (sA σ 3 j)), (4, .int (sA σ 4 j)), (5, .int (sA σ 5 j))]) Z.hx Z.hb dX4_init_88 hl (k := 0) rfl rfl (by decide) rfl (fun ls hl => ?_)
                                          refine lv_goto (tgt := 64) Z.hx Z.hb dX4_init_91 (by decide) ?_
                                          have hl := z_loc (l' := [(6, .int 20), (0, .ref a), (1, .int (nI j)), (2, .int (sA σ 2 j)), (3, .int (sA σ 3 j)), (4, .int (sA σ 4 j)), (5, .int (sA σ 5 j))]) hl (by rfl)
                                          refine lv_iload Z.hx Z.hb dX4_init_64 (lv_at hl 0 rfl) ?_
                                          refine lv_bipush (v := 20) Z.hx Z.hb dX4_init_66 (by decide) ?_
                                          refine lv_icmp_ge (tgt := 94) Z.hx Z.hb dX4_init_68 (by decide) (fun c68 => ?_) (fun c68 => ?_)
                                          · skip
                                            exact z_vret Z hr hL (⟨rfl, R_20, hPc.done hRa hLn hBn, by have g := hPc.2.2.2.2.1; exact g, hPc.2.2.2.2.2.1, hPc.2.2.2.2.2.2.1⟩) (Nat.le_of_ble_eq_true rfl) (Nat.le_of_ble_eq_true rfl) dX4_init_94
                                          · exact absurd (by decide) c68
/-- nothing yet -/
def s0 : zS := ((0, 0, 0), (fun _ _ => 0), (fun _ _ => 0), fun _ _ _ => none)
theorem s0_wf : sWf s0 := ⟨⟨by decide, by decide⟩, by decide, by decide, fun i h => absurd h (Nat.not_lt_zero _), fun i h => absurd h (Nat.not_lt_zero _), fun _ _ _ => rfl, fun _ _ _ _ => rfl⟩
set_option maxHeartbeats 4000000 in
set_option maxRecDepth 100000 in
theorem x_init (G : zG) (l : Launch) (H : Heap) (a : Nat) (haB : (zHB G).size ≤ a) (hO : zO G H a 0 [.null, .null, .int 0]) : zMg0 G l yX1_init cX1_init 1 none 4 2 6 [.ref a] H (fun H1 => ∃ R1, xRep G H1 R1 s0 0 a ∧ H.size ≤ H1.size ∧ (∀ q, q < H.size → q ≠ a → R1 q = (0, 0, 0)) ∧ ∀ q, q < H.size → q ≠ a → H1[q]? = H[q]?) := by
  refine zM.of (by decide +kernel) (Nat.le_of_ble_eq_true rfl) ?_
  intro p0 e0 s0 m0 args0 below0 meth0 c0 Z hr hH hn0 ls hl
  have Z : zC G p0 s0 m0 args0 meth0 c0 RX1 cX1_init 1 := Z
  have hl : lv_has ls 1 [(0, .ref a)] := hl
  have hL : zL G [] := zL.nil
  have hin2 : meth0.name = "<init>" := hn0 rfl
  refine z_base Z hL (fun hB9 => ?_)
  have hB1 := hB9.1
  have ha : a < H.size := hO.lt
  have hg9 : ∀ q : Nat, q < H.size → q ≠ a → H[q]? = H[q]? := fun _ _ _ => rfl
  refine lv_aload_n Z.hx Z.hb dX1_init_0 rfl (lv_at hl 0 rfl) ?_
  refine z_obj Z q58 q59 q60 hl.1 dX1_init_1 (Nat.le_of_ble_eq_true rfl) (Nat.le_of_ble_eq_true rfl) ?_
  refine lv_aload_n Z.hx Z.hb dX1_init_4 rfl (lv_at hl 0 rfl) ?_
  refine z_new Z (C := RJ2) (T := TJ2) (N := 3) (ci := 6) rfl in_J2 tyJ2 tyJ2_ok q61 q62 q32 (fs := [.int 0, .null, .int 0]) (fun j hj => by
      rcases j with _ | _ | _ | j
      all_goals first | rfl | (exact absurd hj (by omega))) (Nat.le_of_ble_eq_true rfl) (Nat.le_of_ble_eq_true rfl) dX1_init_5 (fun H_1 hO1_ hz1_ hq1_ => ?_)
  have hO := hO.kept (hq1_ _ (by omega))
  have hg9 : ∀ q : Nat, q < H.size → q ≠ a → H_1[q]? = H[q]? := fun q h1 h2 => (hq1_ q (by omega)).trans (hg9 q h1 h2)
  refine lv_dup Z.hx Z.hb dX1_init_8 rfl ?_
  -- java/util/ArrayList.<init>
  refine z_gcallI (rest := [.ref H.size, .ref a]) (As := []) Z (j_init G l H_1 H.size (by omega) hO1_) gw_X1_11 q32 q63 q64 rfl gd_X1_11 rfl hl.1 (Nat.le_of_ble_eq_true rfl) rfl dX1_init_9 ⟨⟨Nat.le_of_ble_eq_true rfl, Nat.le_of_ble_eq_true rfl⟩, Nat.le_of_ble_eq_true rfl, Nat.le_of_ble_eq_true rfl⟩ hL (fun H_2 locs hL hP2_ => ?_)
  obtain ⟨hO2_, hz2_, hq2_⟩ := hP2_
  have hO := hO.kept (hq2_ _ (by omega))
  have hg9 : ∀ q : Nat, q < H.size → q ≠ a → H_2[q]? = H[q]? := fun q h1 h2 => (hq2_ q (by omega)).trans (hg9 q h1 h2)
  have htl := hO2_
  refine pf_X1_12 Z hin2 hO (Nat.le_of_ble_eq_true rfl) hL haB dX1_init_12 (fun H_3 locs hL hO3_ hz3_ hq3_ => ?_)
  have hO : zO G H_3 a 0 [.ref H.size, .null, .int 0] := hO3_
  have htl := htl.kept (hq3_ _ (by omega))
  have hg9 : ∀ q : Nat, q < H.size → q ≠ a → H_3[q]? = H[q]? := fun q h1 h2 => (hq3_ q (by omega)).trans (hg9 q h1 h2)
  refine lv_aload_n Z.hx Z.hb dX1_init_15 rfl (lv_at hl 0 rfl) ?_
  refine z_new Z (C := RJ2) (T := TJ2) (N := 3) (ci := 6) rfl in_J2 tyJ2 tyJ2_ok q61 q62 q32 (fs := [.int 0, .null, .int 0]) (fun j hj => by
      rcases j with _ | _ | _ | j
      all_goals first | rfl | (exact absurd hj (by omega))) (Nat.le_of_ble_eq_true rfl) (Nat.le_of_ble_eq_true rfl) dX1_init_16 (fun H_4 hO4_ hz4_ hq4_ => ?_)
  have hO := hO.kept (hq4_ _ (by omega))
  have htl := htl.kept (hq4_ _ (by omega))
  have hg9 : ∀ q : Nat, q < H.size → q ≠ a → H_4[q]? = H[q]? := fun q h1 h2 => (hq4_ q (by omega)).trans (hg9 q h1 h2)
  refine lv_dup Z.hx Z.hb dX1_init_19 rfl ?_
  -- java/util/ArrayList.<init>
  refine z_gcallI (rest := [.ref H_3.size, .ref a]) (As := []) Z (j_init G l H_4 H_3.size (by omega) hO4_) gw_X1_11 q32 q63 q64 rfl gd_X1_11 rfl hl.1 (Nat.le_of_ble_eq_true rfl) rfl dX1_init_20 ⟨⟨Nat.le_of_ble_eq_true rfl, Nat.le_of_ble_eq_true rfl⟩, Nat.le_of_ble_eq_true rfl, Nat.le_of_ble_eq_true rfl⟩ hL (fun H_5 locs hL hP5_ => ?_)
  obtain ⟨hO5_, hz5_, hq5_⟩ := hP5_
  have hO := hO.kept (hq5_ _ (by omega))
  have htl := htl.kept (hq5_ _ (by omega))
  have hg9 : ∀ q : Nat, q < H.size → q ≠ a → H_5[q]? = H[q]? := fun q h1 h2 => (hq5_ q (by omega)).trans (hg9 q h1 h2)
  have hpl := hO5_
  refine pf_X1_16 Z hin2 hO (Nat.le_of_ble_eq_true rfl) hL haB dX1_init_23 (fun H_6 locs hL hO6_ hz6_ hq6_ => ?_)
  have hO : zO G H_6 a 0 [.ref H.size, .ref H_3.size, .int 0] := hO6_
  have htl := htl.kept (hq6_ _ (by omega))
  have hpl := hpl.kept (hq6_ _ (by omega))
  have hg9 : ∀ q : Nat, q < H.size → q ≠ a → H_6[q]? = H[q]? := fun q h1 h2 => (hq6_ q (by omega)).trans (hg9 q h1 h2)
  have hr9 : ∃ R1 : xRo, R1 a = (1, 0, 0) ∧ R1 H.size = (2, 0, 0) ∧ R1 H_3.size = (7, 0, 0) ∧ ∀ q, q < H.size → q ≠ a → R1 q = (0, 0, 0) := ⟨fun q => if q = a then (1, 0, 0) else if q = H.size then (2, 0, 0) else if q = H_3.size then (7, 0, 0) else (0, 0, 0), if_pos rfl, by dsimp only; rw [if_neg (by omega), if_pos rfl], by dsimp only; rw [if_neg (by omega), if_neg (by omega), if_pos rfl], fun q h1 h2 => by dsimp only; rw [if_neg h2, if_neg (by omega), if_neg (by omega)]⟩
  obtain ⟨R1, r1, r2, r3, r4⟩ := hr9
  exact z_vret Z hr hL (⟨rfl, R1, ⟨H.size, H_3.size, r1, haB, hO, ⟨[], zLs.nil r2 (by omega) htl, rfl, fun i y hy => (by cases hy)⟩, ⟨[], zLs.nil r3 (by omega) hpl, rfl, fun j y hy => (by cases hy)⟩⟩, by omega, r4, hg9⟩) (Nat.le_of_ble_eq_true rfl) (Nat.le_of_ble_eq_true rfl) dX1_init_26
