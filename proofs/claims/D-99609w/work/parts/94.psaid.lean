/-! PURE: what a sentence says -/
theorem cd_12 {n : Nat} {G : Wd} {q x : Nat} {p : Int32} {r : Rec} (h : G.2 q = some (12, r)) : cd_is (n + 1) G q x p = x15_is (cd_is n) G q x p := by
  unfold cd_is
  rw [h]
  rfl
theorem cd_13 {n : Nat} {G : Wd} {q x : Nat} {p : Int32} {r : Rec} (h : G.2 q = some (13, r)) : cd_is (n + 1) G q x p = x16_is G q x p := by
  unfold cd_is
  rw [h]
  rfl
theorem cd_14 {n : Nat} {G : Wd} {q x : Nat} {p : Int32} {r : Rec} (h : G.2 q = some (14, r)) : cd_is (n + 1) G q x p = x17_is G q x p := by
  unfold cd_is
  rw [h]
  rfl
theorem cd_15 {n : Nat} {G : Wd} {q x : Nat} {p : Int32} {r : Rec} (h : G.2 q = some (15, r)) : cd_is (n + 1) G q x p = x18_is (cd_is n) G q x p := by
  unfold cd_is
  rw [h]
  rfl
theorem cd_16 {n : Nat} {G : Wd} {q x : Nat} {p : Int32} {r : Rec} (h : G.2 q = some (16, r)) : cd_is (n + 1) G q x p = x19_is (cd_is n) G q x p := by
  unfold cd_is
  rw [h]
  rfl
/-- how a number stands to another -/
def cmpB (sg nb v : Int32) : Bool := if sg = 60 then !decide (nb ≤ v) else if sg = 61 then decide (v = nb) else !decide (v ≤ nb)
theorem cmp_m (sg nb v : Int32) : (if sg = (60 : Int32) then (if nb ≤ v then some (0 : Int32) else some (1 : Int32)) else (if sg = (61 : Int32) then (if v = nb then some (1 : Int32) else some (0 : Int32)) else (if v ≤ nb then some (0 : Int32) else some (1 : Int32)))) = some (bI (cmpB sg nb v)) := by
  unfold cmpB
  by_cases h1 : sg = 60
  · rw [if_pos h1, if_pos h1]
    by_cases h2 : nb ≤ v
    · rw [if_pos h2, decide_eq_true h2]; rfl
    · rw [if_neg h2, decide_eq_false h2]; rfl
  · rw [if_neg h1, if_neg h1]
    by_cases h3 : sg = 61
    · rw [if_pos h3, if_pos h3]
      by_cases h2 : v = nb
      · rw [if_pos h2, decide_eq_true h2]; rfl
      · rw [if_neg h2, decide_eq_false h2]; rfl
    · rw [if_neg h3, if_neg h3]
      by_cases h2 : v ≤ nb
      · rw [if_pos h2, decide_eq_true h2]; rfl
      · rw [if_neg h2, decide_eq_false h2]; rfl
theorem cmp_c (G : Wd) (sg nb v : Int32) : (if sg = (60 : Int32) then (if nb ≤ v then some ((0 : Int32), G) else some ((1 : Int32), G)) else (if sg = (61 : Int32) then (if v = nb then some ((1 : Int32), G) else some ((0 : Int32), G)) else (if v ≤ nb then some ((0 : Int32), G) else some ((1 : Int32), G)))) = some (bI (cmpB sg nb v), G) := by
  unfold cmpB
  by_cases h1 : sg = 60
  · rw [if_pos h1, if_pos h1]
    by_cases h2 : nb ≤ v
    · rw [if_pos h2, decide_eq_true h2]; rfl
    · rw [if_neg h2, decide_eq_false h2]; rfl
  · rw [if_neg h1, if_neg h1]
    by_cases h3 : sg = 61
    · rw [if_pos h3, if_pos h3]
      by_cases h2 : v = nb
      · rw [if_pos h2, decide_eq_true h2]; rfl
      · rw [if_neg h2, decide_eq_false h2]; rfl
    · rw [if_neg h3, if_neg h3]
      by_cases h2 : v ≤ nb
      · rw [if_pos h2, decide_eq_true h2]; rfl
      · rw [if_neg h2, decide_eq_false h2]; rfl
section OPS
variable {x : Nat} {G : Wd} {m c : Rec} {b : Nat} {e z : Rec} {d : Nat → Nat} {ow : Nat → Nat} {n : Nat} {U : Nat → Nat → Nat}
theorem tells_v (h3 : G.2 (x + 13) = some (3, z)) (hz : ZS z d) (hd : DI d) {s : Rec} (h14 : gA s 14 = RF d) {q : Nat} {r : Rec} (hq : G.2 q = some (13, r)) {u p : Nat} (hu : gI r 1 = nI u) (hp : p < 6) : ∃ B : Bool, x16_tells G q (x + 13) (nI p) = some (bI B, G) ∧ m_tellsOf s (nI p) (nI u) = some (bI B) := by
  have hA := hd.acts
  obtain ⟨-, z8, -, -, z2, -⟩ := id hz
  unfold x16_tells m_tellsOf
  have C : ∀ i, i < d 25 → ∀ rec : Int32 → Option (Int32 × Wd), (fun (rec2 : Int32 → Option (Int32 × Wd)) (v1 : Int32) => RD G (x + 13) 3 (fun s3 => (if (gI s3 8) ≤ v1 then some ((0 : Int32), G) else IX v1 12 (fun i4 => RD G q 13 (fun s5 => (if (gA s3 2 i4) = (gI s5 1) then BD (x4_hasCome s3 (nI p) v1) (fun v7 => (if v7 = 0 then rec2 (v1 + (1 : Int32)) else some ((1 : Int32), G))) else rec2 (v1 + (1 : Int32)))))))) rec (nI i) = if (decide (nI (d (38 + i)) = nI u) && hc d p i) = true then some (1, G) else rec (nI (i + 1)) := by
    intro i hi rec
    dsimp only
    rw [RD_of _ h3, z8, if_neg (nI_ge hi (by omega)), IX_nI _ (by omega) (by omega), RD_of _ hq, z2 i (by omega), hu, x4_hasCome_v hz hd hp (by omega), BD_some, nI_1]
    by_cases g : nI (d (38 + i)) = nI u
    · rw [if_pos g, decide_eq_true g, Bool.true_and]
      cases hh : hc d p i
      · rw [show bI false = (0 : Int32) from rfl, if_pos rfl, if_neg (by decide)]
      · rw [show bI true = (1 : Int32) from rfl, if_neg (show ¬ (1 : Int32) = 0 by decide), if_pos rfl]
    · rw [if_neg g, decide_eq_false g, Bool.false_and, if_neg (by decide)]
  have D : ∀ i, i < d 25 → ∀ rec : Int32 → Option Int32, (fun (rec2 : Int32 → Option Int32) (v1 : Int32) => (if (gA s 14 25) ≤ v1 then some (0 : Int32) else IX ((38 : Int32) + v1) 406 (fun i3 => (if (gA s 14 i3) = nI u then BD (m_hasCome s (nI p) v1) (fun v5 => (if v5 = 0 then rec2 (v1 + (1 : Int32)) else some (1 : Int32))) else rec2 (v1 + (1 : Int32)))))) rec (nI i) = if (decide (nI (d (38 + i)) = nI u) && hc d p i) = true then some 1 else rec (nI (i + 1)) := by
    intro i hi rec
    dsimp only
    rw [h14, RF_a (by omega), if_neg (nI_ge hi (by omega)), show (38 : Int32) + nI i = nI (38 + i) from nI_add _ _, IX_nI _ (by omega) (by omega), RF_a (by omega), m_hasCome_v h14 hd hp (by omega), BD_some, nI_1]
    by_cases g : nI (d (38 + i)) = nI u
    · rw [if_pos g, decide_eq_true g, Bool.true_and]
      cases hh : hc d p i
      · rw [show bI false = (0 : Int32) from rfl, if_pos rfl, if_neg (by decide)]
      · rw [show bI true = (1 : Int32) from rfl, if_neg (show ¬ (1 : Int32) = 0 by decide), if_pos rfl]
    · rw [if_neg g, decide_eq_false g, Bool.false_and, if_neg (by decide)]
  rcases least_cases (fun i => decide (nI (d (38 + i)) = nI u) && hc d p i) (d 25) with ⟨j, j1, j2, j3⟩ | hno
  · refine ⟨true, LP1_run (fun i => nI i) 0 j (by omega) rfl (fun i _ hi rec => ?_) (fun rec => ?_), LP1_run (fun i => nI i) 0 j (by omega) rfl (fun i _ hi rec => ?_) (fun rec => ?_)⟩
    · exact (C i (by omega) rec).trans (if_neg (by rw [j3 i (by omega)]; decide))
    · rw [Nat.zero_add]
      exact (C j j1 rec).trans (if_pos j2)
    · exact (D i (by omega) rec).trans (if_neg (by rw [j3 i (by omega)]; decide))
    · rw [Nat.zero_add]
      exact (D j j1 rec).trans (if_pos j2)
  · refine ⟨false, LP1_run (fun i => nI i) 0 (d 25) (by omega) rfl (fun i _ hi rec => ?_) (fun rec => ?_), LP1_run (fun i => nI i) 0 (d 25) (by omega) rfl (fun i _ hi rec => ?_) (fun rec => ?_)⟩
    · exact (C i (by omega) rec).trans (if_neg (by rw [hno i (by omega)]; decide))
    · rw [Nat.zero_add]
      show RD G (x + 13) 3 _ = _
      rw [RD_of _ h3, z8, if_pos (nI_le (Nat.le_refl _) (by omega))]
      rfl
    · exact (D i (by omega) rec).trans (if_neg (by rw [hno i (by omega)]; decide))
    · rw [Nat.zero_add]
      show (if (gA s 14 25) ≤ nI (d 25) then _ else _) = _
      rw [h14, RF_a (by omega), if_pos (nI_le (Nat.le_refl _) (by omega))]
      rfl
theorem cd_v (h : RR x G m c b e z d ow n U) {s : Rec} (h14 : gA s 14 = RF d) {p : Nat} (hp : p < d 1) : ∀ (n q k n1 n2 : Nat), n ≤ n1 → n ≤ n2 → CTR n G q (fun j => d (166 + j)) k → ∃ B : Bool, cd_is n1 G q x (nI p) = some (bI B, G) ∧ m_holds n2 s (nI k) (nI p) = some (bI B) := by
  have hd := h.di
  have hN := hd.N
  have z1 : ¬ (1 : Int32) = 0 := by decide
  intro n
  induction n with
  | zero => intro q k n1 n2 _ _ hc; exact False.elim hc
  | succ n ih =>
    intro q k n1 n2 hn1 hn2 hc
    obtain ⟨n1, rfl⟩ : ∃ y, n1 = y + 1 := ⟨n1 - 1, by omega⟩
    obtain ⟨n2, rfl⟩ : ∃ y, n2 = y + 1 := ⟨n2 - 1, by omega⟩
    obtain ⟨hk, hc⟩ := hc
    have e0 : (166 : Int32) + (4 : Int32) * nI k = nI (166 + 4 * k) := by rw [show (4 : Int32) * nI k = nI (4 * k) from pk_mul 4 k, show (166 : Int32) = nI 166 from rfl, nI_add]
    have e1 : nI (166 + 4 * k) + (1 : Int32) = nI (166 + 4 * k + 1) := nI_add _ _
    have e2 : nI (166 + 4 * k) + (2 : Int32) = nI (166 + 4 * k + 2) := nI_add _ _
    have e3 : nI (166 + 4 * k) + (3 : Int32) = nI (166 + 4 * k + 3) := nI_add _ _
    have mh : m_holds (n2 + 1) s (nI k) (nI p) = b_holds (m_holds n2) s (nI k) (nI p) := rfl
    rw [mh]
    unfold b_holds
    rw [e0, e1, e2, e3, IX_nI _ (by omega) (by omega), IX_nI _ (by omega) (by omega), IX_nI _ (by omega) (by omega), h14, RF_z (k := 166 + 4 * k + 1) (by omega), RF_z (k := 166 + 4 * k + 2) (by omega), RF_z (k := 166 + 4 * k) (by omega)]
    have f1 : d (166 + (4 * k + 1)) = d (166 + 4 * k + 1) := rfl
    have f2 : d (166 + (4 * k + 2)) = d (166 + 4 * k + 2) := rfl
    have f3 : d (166 + (4 * k + 3)) = d (166 + 4 * k + 3) := rfl
    rcases hc with ⟨r, q1, a, c1, c2, c3⟩ | ⟨r, q1, q2, a, c1, c2, c3, c4, c5⟩ | ⟨r, q1, q2, a, c1, c2, c3, c4, c5⟩ | ⟨r, w, a, w5, c1, c2, c3⟩ | ⟨r, w, a, w3, c1, c2, c3, c4, c5, c6⟩
    · obtain ⟨B, g1, g2⟩ := ih q1 _ n1 n2 (by omega) (by omega) c3
      dsimp only at c1 g2
      rw [f1] at g2
      rw [cd_12 a, c1, if_pos (show nI 1 = (1 : Int32) from rfl), g2, BD_some]
      unfold x15_is
      rw [RD_of _ a, c2, BD_some, g1, BD2_some, MG_of _ (Nat.le_refl _)]
      cases B
      · rw [show bI false = (0 : Int32) from rfl, if_pos rfl, if_pos rfl]; exact ⟨true, rfl, rfl⟩
      · rw [show bI true = (1 : Int32) from rfl, if_neg z1, if_neg z1]; exact ⟨false, rfl, rfl⟩
    · obtain ⟨B, g1, g2⟩ := ih q1 _ n1 n2 (by omega) (by omega) c4
      obtain ⟨B', g3, g4⟩ := ih q2 _ n1 n2 (by omega) (by omega) c5
      dsimp only at c1 g2 g4
      rw [f1] at g2
      rw [f2] at g4
      rw [cd_15 a, c1, if_neg (show ¬ nI 2 = (1 : Int32) by decide), if_pos (show nI 2 = (2 : Int32) from rfl), g2, BD_some]
      unfold x18_is
      rw [RD_of _ a, c2, BD_some, g1, BD2_some, MG_of _ (Nat.le_refl _)]
      cases B
      · rw [show bI false = (0 : Int32) from rfl, if_pos rfl, if_pos rfl]; exact ⟨false, rfl, rfl⟩
      · rw [show bI true = (1 : Int32) from rfl, if_neg z1, if_neg z1, RD_of _ a, c3, BD_some, g3, BD2_some, MG_of _ (Nat.le_refl _), g4, BD_some]
        cases B'
        · rw [show bI false = (0 : Int32) from rfl, if_pos rfl, if_pos rfl]; exact ⟨false, rfl, rfl⟩
        · rw [show bI true = (1 : Int32) from rfl, if_neg z1, if_neg z1]; exact ⟨true, rfl, rfl⟩
    · obtain ⟨B, g1, g2⟩ := ih q1 _ n1 n2 (by omega) (by omega) c4
      obtain ⟨B', g3, g4⟩ := ih q2 _ n1 n2 (by omega) (by omega) c5
      dsimp only at c1 g2 g4
      rw [f1] at g2
      rw [f2] at g4
      rw [cd_16 a, c1, if_neg (show ¬ nI 3 = (1 : Int32) by decide), if_neg (show ¬ nI 3 = (2 : Int32) by decide), if_pos (show nI 3 = (3 : Int32) from rfl), g2, BD_some]
      unfold x19_is
      rw [RD_of _ a, c2, BD_some, g1, BD2_some, MG_of _ (Nat.le_refl _)]
      cases B
      · rw [show bI false = (0 : Int32) from rfl, if_pos rfl, if_pos rfl, RD_of _ a, c3, BD_some, g3, BD2_some, MG_of _ (Nat.le_refl _), g4, BD_some]
        cases B'
        · rw [show bI false = (0 : Int32) from rfl, if_pos rfl, if_pos rfl]; exact ⟨false, rfl, rfl⟩
        · rw [show bI true = (1 : Int32) from rfl, if_neg z1, if_neg z1]; exact ⟨true, rfl, rfl⟩
      · rw [show bI true = (1 : Int32) from rfl, if_neg z1, if_neg z1]; exact ⟨true, rfl, rfl⟩
    · dsimp only at c2 c3
      rw [f1] at c3
      rw [cd_13 a]
      unfold x16_is
      rw [RD_of _ a, c1]
      simp only [RD_of _ h.hx, h.hb, BD_some, RD_of _ h.g3, RD_of _ h.g2]
      rw [c2]
      have ss := x4_sees_v h.he h.hz hd hp
      have ms := m_seesOf_v h14 hd (p := p) (k := 0) hp (by omega)
      have sl := sees_lt hd (p := p) (k := 0) hp
      have hf := hd.ferns
      rcases (show w = 0 ∨ w = 1 ∨ w = 2 ∨ w = 3 ∨ w = 4 by omega) with rfl | rfl | rfl | rfl | rfl
      · rw [if_pos (show nI 0 = (0 : Int32) from rfl), ss, BD_some, if_neg (show ¬ nI (64 + 0) = (1 : Int32) by decide), if_neg (show ¬ nI (64 + 0) = (2 : Int32) by decide), if_neg (show ¬ nI (64 + 0) = (3 : Int32) by decide), if_pos (show nI (64 + 0) = (64 : Int32) from rfl), show m_seesOf s (nI p) (0 : Int32) = some (nI (sees d p 0)) from ms, BD_some]
        by_cases g : nI (sees d p 0) = 0
        · rw [if_pos g, if_pos g]; exact ⟨true, rfl, rfl⟩
        · rw [if_neg g, if_neg g]; exact ⟨false, rfl, rfl⟩
      · rw [if_neg (show ¬ nI 1 = (0 : Int32) by decide), if_pos (show nI 1 = (1 : Int32) from rfl), h.he.2.2.2.2.1, x1_has_v, BD_some, BZ_b, if_neg (show ¬ nI (64 + 1) = (1 : Int32) by decide), if_neg (show ¬ nI (64 + 1) = (2 : Int32) by decide), if_neg (show ¬ nI (64 + 1) = (3 : Int32) by decide), if_neg (show ¬ nI (64 + 1) = (64 : Int32) by decide), if_pos (show nI (64 + 1) = (65 : Int32) from rfl), m_isFern_v h14 hd (by omega), BD_some, BZ_b, hs_nI (by omega) (by omega)]
        exact ⟨_, rfl, rfl⟩
      · obtain ⟨u1, u2⟩ := c3 (by omega)
        rw [if_neg (show ¬ nI 2 = (0 : Int32) by decide), if_neg (show ¬ nI 2 = (1 : Int32) by decide), if_pos (show nI 2 = (2 : Int32) from rfl), IX_nI _ (by omega) (by omega), h.hz.2.2.1 p (by omega), u1, if_neg (show ¬ nI (64 + 2) = (1 : Int32) by decide), if_neg (show ¬ nI (64 + 2) = (2 : Int32) by decide), if_neg (show ¬ nI (64 + 2) = (3 : Int32) by decide), if_neg (show ¬ nI (64 + 2) = (64 : Int32) by decide), if_neg (show ¬ nI (64 + 2) = (65 : Int32) by decide), if_pos (show nI (64 + 2) = (66 : Int32) from rfl), show (26 : Int32) + nI p = nI (26 + p) from nI_add _ _, IX_nI _ (by omega) (by omega), RF_a (k := 26 + p) (by omega)]
        by_cases g : nI (d (26 + p)) = nI (d (166 + 4 * k + 1))
        · rw [if_pos g, if_pos g]; exact ⟨true, rfl, rfl⟩
        · rw [if_neg g, if_neg g]; exact ⟨false, rfl, rfl⟩
      · obtain ⟨u1, u2⟩ := c3 (by omega)
        rw [if_neg (show ¬ nI 3 = (0 : Int32) by decide), if_neg (show ¬ nI 3 = (1 : Int32) by decide), if_neg (show ¬ nI 3 = (2 : Int32) by decide), if_pos (show nI 3 = (3 : Int32) from rfl), ss, BD_some, u1, x1_has_v, BD_some, BZ_b, if_neg (show ¬ nI (64 + 3) = (1 : Int32) by decide), if_neg (show ¬ nI (64 + 3) = (2 : Int32) by decide), if_neg (show ¬ nI (64 + 3) = (3 : Int32) by decide), if_neg (show ¬ nI (64 + 3) = (64 : Int32) by decide), if_neg (show ¬ nI (64 + 3) = (65 : Int32) by decide), if_neg (show ¬ nI (64 + 3) = (66 : Int32) by decide), if_pos (show nI (64 + 3) = (67 : Int32) from rfl), show m_seesOf s (nI p) (0 : Int32) = some (nI (sees d p 0)) from ms, BD_some, m_has_v, BD_some, BZ_b]
        exact ⟨_, rfl, rfl⟩
      · obtain ⟨u1, u2⟩ := c3 (by omega)
        obtain ⟨B, g1, g2⟩ := tells_v h.g3 h.hz hd h14 a u1 (p := p) (by omega)
        rw [if_neg (show ¬ nI 4 = (0 : Int32) by decide), if_neg (show ¬ nI 4 = (1 : Int32) by decide), if_neg (show ¬ nI 4 = (2 : Int32) by decide), if_neg (show ¬ nI 4 = (3 : Int32) by decide), g1, BD2_some, MG_of _ (Nat.le_refl _), BZ_b, if_neg (show ¬ nI (64 + 4) = (1 : Int32) by decide), if_neg (show ¬ nI (64 + 4) = (2 : Int32) by decide), if_neg (show ¬ nI (64 + 4) = (3 : Int32) by decide), if_neg (show ¬ nI (64 + 4) = (64 : Int32) by decide), if_neg (show ¬ nI (64 + 4) = (65 : Int32) by decide), if_neg (show ¬ nI (64 + 4) = (66 : Int32) by decide), if_neg (show ¬ nI (64 + 4) = (67 : Int32) by decide), if_pos (show nI (64 + 4) = (68 : Int32) from rfl), g2, BD_some, BZ_b]
        exact ⟨_, rfl, rfl⟩
    · dsimp only at c2 c3 c4
      rw [f3] at c3
      rw [f2] at c4
      have l1 : x4_leaves z (nI p) (1 : Int32) = some (nI (s_hw d true p)) := x4_leaves_v h.hz hd true (by omega)
      have m1 : m_shownBy s (nI p) (1 : Int32) = some (nI (setN (hw d true p) (d 25))) := m_shownBy_v h14 hd true (by omega)
      have b1 : m_bits (nI (setN (hw d true p) (d 25))) = some (nI (s_hw d true p)) := m_bits_set hd.acts
      rw [cd_14 a]
      unfold x17_is
      rw [RD_of _ a, c1, JN1]
      simp only [RD_of _ h.hx, RD_of _ h.g3, RD_of _ a]
      rw [c2]
      rcases (show w = 0 ∨ w = 1 ∨ w = 2 by omega) with rfl | rfl | rfl
      · rw [if_pos (show nI 0 = (0 : Int32) from rfl), l1, BD_some, c3, c4, cmp_c, if_neg (show ¬ nI (69 + 0) = (1 : Int32) by decide), if_neg (show ¬ nI (69 + 0) = (2 : Int32) by decide), if_neg (show ¬ nI (69 + 0) = (3 : Int32) by decide), if_neg (show ¬ nI (69 + 0) = (64 : Int32) by decide), if_neg (show ¬ nI (69 + 0) = (65 : Int32) by decide), if_neg (show ¬ nI (69 + 0) = (66 : Int32) by decide), if_neg (show ¬ nI (69 + 0) = (67 : Int32) by decide), if_neg (show ¬ nI (69 + 0) = (68 : Int32) by decide), JN1, if_pos (show nI (69 + 0) - (50 : Int32) = (19 : Int32) by decide), m1, BD_some, b1, BD_some]
        try dsimp only
        rw [IX_nI _ (by omega) (by omega), RF_z (by omega), cmp_m]
        exact ⟨_, rfl, rfl⟩
      · rw [if_neg (show ¬ nI 1 = (0 : Int32) by decide), if_pos (show nI 1 = (1 : Int32) from rfl), IX_nI _ (by omega) (by omega), h.hz.2.2.2.1 p (by omega)]
        try dsimp only
        rw [c3, c4, cmp_c, if_neg (show ¬ nI (69 + 1) = (1 : Int32) by decide), if_neg (show ¬ nI (69 + 1) = (2 : Int32) by decide), if_neg (show ¬ nI (69 + 1) = (3 : Int32) by decide), if_neg (show ¬ nI (69 + 1) = (64 : Int32) by decide), if_neg (show ¬ nI (69 + 1) = (65 : Int32) by decide), if_neg (show ¬ nI (69 + 1) = (66 : Int32) by decide), if_neg (show ¬ nI (69 + 1) = (67 : Int32) by decide), if_neg (show ¬ nI (69 + 1) = (68 : Int32) by decide), JN1, if_neg (show ¬ nI (69 + 1) - (50 : Int32) = (19 : Int32) by decide), if_pos (show nI (69 + 1) - (50 : Int32) = (20 : Int32) by decide), show (32 : Int32) + nI p = nI (32 + p) from nI_add _ _, IX_nI _ (by omega) (by omega), RF_a (k := 32 + p) (by omega)]
        try dsimp only
        rw [IX_nI _ (by omega) (by omega), RF_z (by omega), cmp_m]
        exact ⟨_, rfl, rfl⟩
      · rw [if_neg (show ¬ nI 2 = (0 : Int32) by decide), if_neg (show ¬ nI 2 = (1 : Int32) by decide)]
        try dsimp only
        rw [c3, c4, cmp_c, if_neg (show ¬ nI (69 + 2) = (1 : Int32) by decide), if_neg (show ¬ nI (69 + 2) = (2 : Int32) by decide), if_neg (show ¬ nI (69 + 2) = (3 : Int32) by decide), if_neg (show ¬ nI (69 + 2) = (64 : Int32) by decide), if_neg (show ¬ nI (69 + 2) = (65 : Int32) by decide), if_neg (show ¬ nI (69 + 2) = (66 : Int32) by decide), if_neg (show ¬ nI (69 + 2) = (67 : Int32) by decide), if_neg (show ¬ nI (69 + 2) = (68 : Int32) by decide), JN1, if_neg (show ¬ nI (69 + 2) - (50 : Int32) = (19 : Int32) by decide), if_neg (show ¬ nI (69 + 2) - (50 : Int32) = (20 : Int32) by decide)]
        try dsimp only
        rw [IX_nI _ (by omega) (by omega), RF_z (by omega), cmp_m]
        exact ⟨_, rfl, rfl⟩
theorem op_said (h : RR x G m c b e z d ow n U) (x1 : Int32) : ANS x G (x1_said G x x1) (m_said m x1) := by
  have hd := h.di
  have hN := hd.N
  have h1 := h.t0 0
  unfold x1_said m_said
  rw [LT]
  generalize sI m 0 0 = s at h1 ⊢
  rw [RD_of _ h.hx, h1.h14, RF_z (by omega), RF_a (by omega)]
  rcases h.2.2.2.2.2 with ⟨a1, a2⟩ | ⟨q, a1, a2, a3, a4⟩
  · rw [if_pos a1, a2, if_pos (show nI 0 = (0 : Int32) from rfl)]
    exact h1.ans (v := -1) rfl rfl
  · rw [if_neg (by rw [a1]; simp), a2, if_neg (show ¬ nI 1 = (0 : Int32) by decide), RF_z (by omega)]
    obtain ⟨B, hB⟩ : ∃ B : Nat → Bool, ∀ p, p < d 1 → cd_is 60 G q x (nI p) = some (bI (B p), G) ∧ m_holds 59 s (nI (d 165)) (nI p) = some (bI (B p)) := by
      refine ⟨fun p => if hp : p < d 1 then Classical.choose (cd_v h h1.h14 hp 50 q (d 165) 60 59 (by omega) (by omega) a4) else false, fun p hp => ?_⟩
      dsimp only
      rw [dif_pos hp]
      exact Classical.choose_spec (cd_v h h1.h14 hp 50 q (d 165) 60 59 (by omega) (by omega) a4)
    have e8 := h.he.2.1
    have cB : ∀ i, i < d 1 → ∀ rec : Int32 → Int32 → Wd → Option (Int32 × Wd), (fun (rec5 : Int32 → Int32 → Wd → Option (Int32 × Wd)) (v2 : Int32) (v3 : Int32) (s4 : Wd) => RD s4 x 0 (fun s6 => BD (gP s6 6) (fun b7 => RD s4 b7 2 (fun s8 => (if (gI s8 8) ≤ v3 then (if x1 = (-1 : Int32) then some (v2, s4) else some ((-1 : Int32), s4)) else BD (gP s6 31) (fun b9 => BD2 (cd_is 60 s4 b9 x v3) (fun v13 w10 => MG s4 w10 ((if v13 = 0 then rec5 v2 (v3 + (1 : Int32)) w10 else (if v2 = x1 then some (v3, w10) else rec5 (v2 + (1 : Int32)) (v3 + (1 : Int32)) w10)))))))))) rec (nI (cntN B i)) (nI i) G = if (B i && decide (nI (cntN B i) = x1)) = true then some (nI i, G) else rec (nI (cntN B (i + 1))) (nI (i + 1)) G := by
      intro i hi rec
      dsimp only
      rw [RD_of _ h.hx, h.hb, BD_some, RD_of _ h.g2, e8, if_neg (nI_ge hi (by omega)), a1, BD_some, (hB i hi).1, BD2_some, MG_of _ (Nat.le_refl _), nI_1, nI_1]
      cases hb : B i
      · rw [cntN_f hb, show bI false = (0 : Int32) from rfl, if_pos rfl, Bool.false_and, if_neg (by decide)]
      · rw [cntN_t hb, show bI true = (1 : Int32) from rfl, if_neg (show ¬ (1 : Int32) = 0 by decide), Bool.true_and]
        by_cases g : nI (cntN B i) = x1
        · rw [if_pos g, decide_eq_true g, if_pos rfl]
        · rw [if_neg g, decide_eq_false g, if_neg (by decide)]
    have mB' : ∀ i, i < d 1 → ∀ rec : Int32 → Int32 → Option (Int32 × Rec), (fun (rec4 : Int32 → Int32 → Option (Int32 × Rec)) (v2 : Int32) (v3 : Int32) => (if nI (d 1) ≤ v3 then (if x1 = (-1 : Int32) then some (v2, s) else some ((-1 : Int32), s)) else BD (m_holds 59 s (nI (d 165)) v3) (fun v6 => (if v6 = 0 then rec4 v2 (v3 + (1 : Int32)) else (if v2 = x1 then some (v3, s) else rec4 (v2 + (1 : Int32)) (v3 + (1 : Int32))))))) rec (nI (cntN B i)) (nI i) = if (B i && decide (nI (cntN B i) = x1)) = true then some (nI i, s) else rec (nI (cntN B (i + 1))) (nI (i + 1)) := by
      intro i hi rec
      dsimp only
      rw [if_neg (nI_ge hi (by omega)), (hB i hi).2, BD_some, nI_1, nI_1]
      cases hb : B i
      · rw [cntN_f hb, show bI false = (0 : Int32) from rfl, if_pos rfl, Bool.false_and, if_neg (by decide)]
      · rw [cntN_t hb, show bI true = (1 : Int32) from rfl, if_neg (show ¬ (1 : Int32) = 0 by decide), Bool.true_and]
        by_cases g : nI (cntN B i) = x1
        · rw [if_pos g, decide_eq_true g, if_pos rfl]
        · rw [if_neg g, decide_eq_false g, if_neg (by decide)]
    have c0 : (0 : Int32) = nI (cntN B 0) := rfl
    -- nothing found: the end
    have mEnd : (∀ i, i < d 1 → (B i && decide (nI (cntN B i) = x1)) = false) → LP2 (fun (rec4 : Int32 → Int32 → Option (Int32 × Rec)) (v2 : Int32) (v3 : Int32) => (if nI (d 1) ≤ v3 then (if x1 = (-1 : Int32) then some (v2, s) else some ((-1 : Int32), s)) else BD (m_holds 59 s (nI (d 165)) v3) (fun v6 => (if v6 = 0 then rec4 v2 (v3 + (1 : Int32)) else (if v2 = x1 then some (v3, s) else rec4 (v2 + (1 : Int32)) (v3 + (1 : Int32))))))) FU (0 : Int32) (0 : Int32) = (if x1 = (-1 : Int32) then some (nI (cntN B (d 1)), s) else some ((-1 : Int32), s)) := by
      intro hno
      refine LP2_run (fun i => nI (cntN B i)) (fun i => nI i) 0 (d 1) (by omega) c0 rfl (fun i _ hi rec => ?_) (fun rec => ?_)
      · exact (mB' i (by omega) rec).trans (if_neg (by rw [hno i (by omega)]; decide))
      · rw [Nat.zero_add]
        show (if nI (d 1) ≤ nI (d 1) then _ else _) = _
        rw [if_pos (nI_le (Nat.le_refl _) (by omega))]
    by_cases hx1 : (-1 : Int32) ≤ x1
    · rw [if_pos hx1]
      rcases least_cases (fun i => B i && decide (nI (cntN B i) = x1)) (d 1) with ⟨j, j1, j2, j3⟩ | hno
      · refine h1.ans (v := nI j) ?_ ?_
        · refine LP3_run (fun i => nI (cntN B i)) (fun i => nI i) (fun _ => G) 0 j (by omega) c0 rfl rfl (fun i _ hi rec => ?_) (fun rec => ?_)
          · exact (cB i (by omega) rec).trans (if_neg (by rw [j3 i (by omega)]; decide))
          · rw [Nat.zero_add]
            exact (cB j j1 rec).trans (if_pos j2)
        · refine LP2_run (fun i => nI (cntN B i)) (fun i => nI i) 0 j (by omega) c0 rfl (fun i _ hi rec => ?_) (fun rec => ?_)
          · exact (mB' i (by omega) rec).trans (if_neg (by rw [j3 i (by omega)]; decide))
          · rw [Nat.zero_add]
            exact (mB' j j1 rec).trans (if_pos j2)
      · have cE : LP3 (fun (rec5 : Int32 → Int32 → Wd → Option (Int32 × Wd)) (v2 : Int32) (v3 : Int32) (s4 : Wd) => RD s4 x 0 (fun s6 => BD (gP s6 6) (fun b7 => RD s4 b7 2 (fun s8 => (if (gI s8 8) ≤ v3 then (if x1 = (-1 : Int32) then some (v2, s4) else some ((-1 : Int32), s4)) else BD (gP s6 31) (fun b9 => BD2 (cd_is 60 s4 b9 x v3) (fun v13 w10 => MG s4 w10 ((if v13 = 0 then rec5 v2 (v3 + (1 : Int32)) w10 else (if v2 = x1 then some (v3, w10) else rec5 (v2 + (1 : Int32)) (v3 + (1 : Int32)) w10)))))))))) FU (0 : Int32) (0 : Int32) G = (if x1 = (-1 : Int32) then some (nI (cntN B (d 1)), G) else some ((-1 : Int32), G)) := by
          refine LP3_run (fun i => nI (cntN B i)) (fun i => nI i) (fun _ => G) 0 (d 1) (by omega) c0 rfl rfl (fun i _ hi rec => ?_) (fun rec => ?_)
          · exact (cB i (by omega) rec).trans (if_neg (by rw [hno i (by omega)]; decide))
          · rw [Nat.zero_add]
            show RD G x 0 _ = _
            rw [RD_of _ h.hx, h.hb, BD_some, RD_of _ h.g2, e8, if_pos (nI_le (Nat.le_refl _) (by omega))]
        rw [cE, mEnd hno]
        by_cases g : x1 = -1
        · rw [if_pos g, if_pos g]
          exact h1.ans (v := nI (cntN B (d 1))) rfl rfl
        · rw [if_neg g, if_neg g]
          exact h1.ans (v := -1) rfl rfl
    · rw [if_neg hx1, mEnd (fun i hi => ?_), if_neg (fun e => hx1 (by rw [e]; exact Int32.le_refl _))]
      · exact h1.ans (v := -1) rfl rfl
      · have hne : ¬ nI (cntN B i) = x1 := fun e => hx1 (by
          have := cntN_le B i
          rw [← e]
          have t := M1_le (n := cntN B i) (by omega)
          exact t.mpr trivial)
        rw [decide_eq_false hne, Bool.and_false]
end OPS
