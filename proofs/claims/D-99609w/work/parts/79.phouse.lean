/-! PURE: a house is read -/
def HR (b : Nat) (c e m : Rec) (h : Nat → Nat) (u5 u6 : Bool) : Prop :=
  gP c 108 = some b ∧ HS e h ∧ NM e (gL m 20) h ∧ DH h ∧ (∀ p, p < h 1 → h (11 + p) < h 0) ∧ (∀ k, k < 24 → gA m 15 k = nI (h k)) ∧ (∃ w, w < 128 ∧ gI c 109 = nI w ∧ w.testBit 5 = u5 ∧ w.testBit 6 = u6) ∧ gA m 23 0 = bI u5 ∧ gA m 23 1 = bI u6
section HOUSE
variable {T : Nat → Nat} {N : Nat} {c m e : Rec} {p a k v b : Nat} {l : List Nat} {h : Nat → Nat} {u5 u6 : Bool}
theorem lf_ne {n : Nat} (h1 : n ≠ 0) (h2 : n < 2 ^ 31) : ¬ lf n = (-1 : Int32) := fun e => (lf_M1 (by omega) h2).mp e
/-- a name not taken -/
theorem fresh_v (hT : TPE T c m) (hX : LX 0 T N c m p a k v l) (hH : HR b c e m h u5 u6) {pos : Nat} (hp : pos < 20) :
    (∃ l2 c' m' p' a' k' v' l', k = 1 ∧ x6_fresh c b e = some (some (lN (p8 l2)), c') ∧ m_readNew m (nI pos) = some (1, m') ∧ WD l2 ∧ FR2 c c' ∧ FM2 (sL m 20 pos (lN (p27 l2))) m' ∧ TPE T c' m' ∧ LX 0 T N c' m' p' a' k' v' l' ∧ p ≤ p') ∨
    (∃ c' m', x6_fresh c b e = some (none, c') ∧ m_readNew m (nI pos) = some (0, m') ∧ FR2 c c' ∧ FM2 m m' ∧ ER c' m') := by
  obtain ⟨hb, ⟨e7, e8, e9, e10, -⟩, ⟨n0, n1, n2, n3⟩, ⟨d0, d1, d2, d3, -⟩, -, hr, -, -, -⟩ := hH
  unfold x6_fresh m_readNew m_isTaken
  rw [x5_isName_v hT hX, m_isName_v hX, BD_some, BD_some]
  cases h0 : (decide (k = 1) && !kwd l)
  · obtain ⟨c', m', f1, f2, f3, f4, f5⟩ := fail_v hX (e := 1) (by omega) (by omega) (by omega)
    rw [show bI false = (0 : Int32) from rfl, show (1 : Int32) = nI 1 from rfl, f1, BX_t, if_pos rfl, f2, BD2_some, BZ_0]
    exact Or.inr ⟨c', m', rfl, rfl, f3, f4, f5⟩
  · have hk : k = 1 := by
      rw [Bool.and_eq_true] at h0
      exact of_decide_eq_true h0.1
    obtain ⟨w1, w2, w3, w4⟩ := hX.wd hk
    obtain ⟨o1, q1⟩ := of_v (c := c) (j := 0) (R := 5) (base := 0) (row := gL e 0) (w := gL m 20) (fun i hi => by rw [Nat.zero_add]; exact n0 i hi) w1 (by omega) (by omega) (by omega) w3
    obtain ⟨o2, q2⟩ := of_v (c := c) (j := 0) (R := 6) (base := 5) (row := gL e 1) (w := gL m 20) n1 w1 (by omega) (by omega) (by omega) w3
    obtain ⟨o3, q3⟩ := of_v (c := c) (j := 0) (R := 4) (base := 11) (row := gL e 2) (w := gL m 20) n2 w1 (by omega) (by omega) (by omega) w3
    obtain ⟨o4, q4⟩ := of_v (c := c) (j := 0) (R := 5) (base := 15) (row := gL e 3) (w := gL m 20) n3 w1 (by omega) (by omega) (by omega) w3
    have g1 := fdc_le (fun i => decide (gL e 0 i = lN (p8 l))) (h 0)
    have g2 := fdc_le (fun i => decide (gL e 1 i = lN (p8 l))) (h 1)
    have g3 := fdc_le (fun i => decide (gL e 2 i = lN (p8 l))) (h 2)
    have g4 := fdc_le (fun i => decide (gL e 3 i = lN (p8 l))) (h 3)
    generalize fdc (fun i => decide (gL e 0 i = lN (p8 l))) (h 0) = y1 at o1 q1 g1
    generalize fdc (fun i => decide (gL e 1 i = lN (p8 l))) (h 1) = y2 at o2 q2 g2
    generalize fdc (fun i => decide (gL e 2 i = lN (p8 l))) (h 2) = y3 at o3 q3 g3
    generalize fdc (fun i => decide (gL e 3 i = lN (p8 l))) (h 3) = y4 at o4 q4 g4
    rw [show bI true = (1 : Int32) from rfl, must_1, BX_r, if_neg (show ¬ (1 : Int32) = 0 by decide), PG_of _ hb, PG_of _ hb, e7, e8, e9, e10, o1, BD_some, hr 0 (by omega), hr 1 (by omega), hr 2 (by omega), hr 3 (by omega), w4]
    rw [show (0 : Int32) = nI 0 from rfl, show (5 : Int32) = nI 5 from rfl, show (11 : Int32) = nI 11 from rfl, show (15 : Int32) = nI 15 from rfl, q1, BD_some, JN1]
    dsimp only
    have hbad : ∃ c' m', x5_must 0 c 0 3 = some (none, c') ∧ m_bad m 3 = some (0, m') ∧ FR2 c c' ∧ FM2 m m' ∧ ER c' m' := fail_v hX (e := 3) (by omega) (by omega) (by omega)
    obtain ⟨c', m', f1, f2, f3, f4, f5⟩ := hbad
    have z1 : ¬ (1 : Int32) = nI 0 := by decide
    by_cases t1 : y1 = 0
    · rw [t1, show lf 0 = (-1 : Int32) by decide, if_pos rfl, if_pos rfl, PG_of _ hb, PG_of _ hb, o2, q2, BD_some, BD_some]
      by_cases t2 : y2 = 0
      · rw [t2, show lf 0 = (-1 : Int32) by decide, if_pos rfl, if_pos rfl, PG_of _ hb, PG_of _ hb, o3, q3, BD_some, BD_some]
        by_cases t3 : y3 = 0
        · rw [t3, show lf 0 = (-1 : Int32) by decide, if_pos rfl, if_pos rfl, PG_of _ hb, PG_of _ hb, o4, q4, BD_some, BD_some]
          by_cases t4 : y4 = 0
          · rw [t4, show lf 0 = (-1 : Int32) by decide, if_pos rfl, if_pos rfl, must_1, BX_r, BD_some, if_pos rfl, IX_nI _ hp (by omega), LT]
            have hX2 : LX 0 T N c (sL m 20 pos (lN (p27 l))) p a k v l := LX_ext hX (fun _ _ => rfl) rfl (fun i h1 h2 => rfl) rfl
            obtain ⟨c2, m2, p', a', k', v', l', n1, n2, n3, n4, n5, n6, n7, n8⟩ := next_v (m := sL m 20 pos (lN (p27 l))) (TPE_ext hT rfl rfl) hX2
            rw [n1, n2, BD_some, BD_some]
            have w3' : gJ c 106 = lN (p8 l) := w3
            exact Or.inl ⟨l, c2, m2, p', a', k', v', l', hk, by rw [w3'], rfl, w1, n3.fr2, n4.fm2, n5, n6, n7⟩
          · rw [if_neg (lf_ne t4 (by omega)), if_neg (lf_ne t4 (by omega)), show nI 0 = (0 : Int32) from rfl, f1, BX_t, BD_some, if_neg (show ¬ (1 : Int32) = 0 by decide), f2, BD2_some, BZ_0]
            exact Or.inr ⟨c', m', rfl, rfl, f3, f4, f5⟩
        · rw [if_neg (lf_ne t3 (by omega)), if_neg (lf_ne t3 (by omega)), show nI 0 = (0 : Int32) from rfl, f1, BX_t, BD_some, if_neg (show ¬ (1 : Int32) = 0 by decide), f2, BD2_some, BZ_0]
          exact Or.inr ⟨c', m', rfl, rfl, f3, f4, f5⟩
      · rw [if_neg (lf_ne t2 (by omega)), if_neg (lf_ne t2 (by omega)), show nI 0 = (0 : Int32) from rfl, f1, BX_t, BD_some, if_neg (show ¬ (1 : Int32) = 0 by decide), f2, BD2_some, BZ_0]
        exact Or.inr ⟨c', m', rfl, rfl, f3, f4, f5⟩
    · rw [if_neg (lf_ne t1 (by omega)), if_neg (lf_ne t1 (by omega)), show nI 0 = (0 : Int32) from rfl, f1, BX_t, BD_some, if_neg (show ¬ (1 : Int32) = 0 by decide), f2, BD2_some, BZ_0]
      exact Or.inr ⟨c', m', rfl, rfl, f3, f4, f5⟩
theorem HR.fr (hH : HR b c e m h u5 u6) {c' m' : Rec} (f : FR2 c c') (g : FM2 m m') : HR b c' e m' h u5 u6 := by
  obtain ⟨a1, a2, a3, a4, a5, a6, ⟨w, a7, a8, a9⟩, a10, a11⟩ := hH
  exact ⟨(f.gP 108).trans a1, a2, by rw [g.gL 20]; exact a3, a4, a5, fun k hk => by rw [g.gA 15]; exact a6 k hk, ⟨w, a7, (f.2.2 109 (by omega)).trans a8, a9⟩, by rw [g.gA 23]; exact a10, by rw [g.gA 23]; exact a11⟩
theorem or_two {w i : Nat} (hw : w < 128) (hi : i < 7) : nI w ||| ((1 : Int32) <<< (nI i &&& 31)) = nI (w ||| 2 ^ i) ∧ w ||| 2 ^ i < 128 := by
  have h2 : 2 ^ i < 128 := Nat.pow_lt_pow_right (by omega) (show i < 7 from hi)
  exact ⟨by rw [shl1 i (by omega), nI_or (by omega) (by omega)], Nat.or_lt_two_pow (n := 7) hw h2⟩
/-- the word of a line is noted -/
theorem HR.once (hH : HR b c e m h u5 u6) {i : Nat} (hi : i < 5) : HR b (sI c 109 (gI c 109 ||| ((1 : Int32) <<< (nI i &&& 31)))) e m h u5 u6 := by
  obtain ⟨a1, a2, a3, a4, a5, a6, ⟨w, a7, a8, a9, b9⟩, a10, a11⟩ := hH
  obtain ⟨o1, o2⟩ := or_two a7 (show i < 7 by omega)
  refine ⟨a1, a2, a3, a4, a5, a6, ⟨w ||| 2 ^ i, o2, by rw [gI_sIs, a8, o1], ?_, ?_⟩, a10, a11⟩
  · rw [Nat.testBit_or, a9, Nat.testBit_two_pow, decide_eq_false (by omega), Bool.or_false]
  · rw [Nat.testBit_or, b9, Nat.testBit_two_pow, decide_eq_false (by omega), Bool.or_false]
theorem HR.once5 (hH : HR b c e m h u5 u6) : HR b (sI c 109 (gI c 109 ||| ((1 : Int32) <<< (nI 5 &&& 31)))) e (sA m 23 0 1) h true u6 := by
  obtain ⟨a1, a2, a3, a4, a5, a6, ⟨w, a7, a8, a9, b9⟩, a10, a11⟩ := hH
  obtain ⟨o1, o2⟩ := or_two a7 (show 5 < 7 by omega)
  refine ⟨a1, a2, a3, a4, a5, fun k hk => by rw [gA_sAn _ _ _ (by omega)]; exact a6 k hk, ⟨w ||| 2 ^ 5, o2, by rw [gI_sIs, a8, o1], ?_, ?_⟩, by rw [gA_sAs]; rfl, by rw [gA_sAi _ _ _ (by omega)]; exact a11⟩
  · rw [Nat.testBit_or, Nat.testBit_two_pow, decide_eq_true rfl, Bool.or_true]
  · rw [Nat.testBit_or, b9, Nat.testBit_two_pow, decide_eq_false (by omega), Bool.or_false]
theorem HR.once6 (hH : HR b c e m h u5 u6) : HR b (sI c 109 (gI c 109 ||| ((1 : Int32) <<< (nI 6 &&& 31)))) e (sA m 23 1 1) h u5 true := by
  obtain ⟨a1, a2, a3, a4, a5, a6, ⟨w, a7, a8, a9, b9⟩, a10, a11⟩ := hH
  obtain ⟨o1, o2⟩ := or_two a7 (show 6 < 7 by omega)
  refine ⟨a1, a2, a3, a4, a5, fun k hk => by rw [gA_sAn _ _ _ (by omega)]; exact a6 k hk, ⟨w ||| 2 ^ 6, o2, by rw [gI_sIs, a8, o1], ?_, ?_⟩, by rw [gA_sAi _ _ _ (by omega)]; exact a10, by rw [gA_sAs]; rfl⟩
  · rw [Nat.testBit_or, a9, Nat.testBit_two_pow, decide_eq_false (by omega), Bool.or_false]
  · rw [Nat.testBit_or, Nat.testBit_two_pow, decide_eq_true rfl, Bool.or_true]
/-- frames of a house's reading -/
def FRh (c c' : Rec) : Prop := c'.2.1 = c.2.1 ∧ c'.2.2.2 = c.2.2.2 ∧ ∀ k, k < 40 → gI c' k = gI c k
def FMh (m m' : Rec) : Prop := (∀ k, k ≠ 15 → k ≠ 23 → gA m' k = gA m k) ∧ (∀ k, k ≠ 20 → gL m' k = gL m k) ∧ ∀ k, (k < 5 ∨ 13 < k) → gI m' k = gI m k
theorem FRh.trans {a b c : Rec} (h : FRh a b) (h2 : FRh b c) : FRh a c := ⟨h2.1.trans h.1, h2.2.1.trans h.2.1, fun k hk => (h2.2.2 k hk).trans (h.2.2 k hk)⟩
theorem FMh.trans {a b c : Rec} (h : FMh a b) (h2 : FMh b c) : FMh a c := ⟨fun k hk hk2 => (h2.1 k hk hk2).trans (h.1 k hk hk2), fun k hk => (h2.2.1 k hk).trans (h.2.1 k hk), fun k hk => (h2.2.2 k hk).trans (h.2.2 k hk)⟩
theorem FRh.refl (c : Rec) : FRh c c := ⟨rfl, rfl, fun _ _ => rfl⟩
theorem FMh.refl (c : Rec) : FMh c c := ⟨fun _ _ _ => rfl, fun _ _ => rfl, fun _ _ => rfl⟩
theorem FR2.toh {c c' : Rec} (f : FR2 c c') : FRh c c' := ⟨f.1, f.2.1, fun k hk => f.2.2 k (by omega)⟩
theorem FM2.toh {c c' : Rec} (f : FM2 c c') : FMh c c' := ⟨fun k _ _ => f.gA k, fun k _ => f.gL k, f.2.2⟩
theorem FRh_sI (c : Rec) {k : Nat} (v : Int32) (h : 40 ≤ k) : FRh c (sI c k v) := ⟨rfl, rfl, fun i hi => gI_sIn _ _ (by omega)⟩
theorem FMh_sA (m : Rec) {k : Nat} (i : Nat) (v : Int32) (h : k = 15 ∨ k = 23) : FMh m (sA m k i v) := ⟨fun q h1 h2 => gA_sAn _ _ _ (by omega), fun _ _ => rfl, fun _ _ => rfl⟩
theorem FMh_sL (m : Rec) (i : Nat) (v : Int64) : FMh m (sL m 20 i v) := ⟨fun _ _ _ => rfl, fun q hq => gL_sLn _ _ _ hq, fun _ _ => rfl⟩
/-- how a line ends -/
def OH (b : Nat) (T : Nat → Nat) (N : Nat) (c m : Rec) (p0 k0 : Nat) (oc : Option (Option Unit × Rec × Rec)) (om : Option (Int32 × Rec)) : Prop :=
  (∃ c' e' m' h' u5 u6 p a k v l, oc = some (some (), e', c') ∧ om = some (1, m') ∧ HR b c' e' m' h' u5 u6 ∧ FRh c c' ∧ FMh m m' ∧ TPE T c' m' ∧ LX 0 T N c' m' p a k v l ∧ p0 ≤ p ∧ (k0 = 1 ∨ k0 = 2)) ∨ (∃ c' e' m', oc = some (none, e', c') ∧ om = some (0, m') ∧ FRh c c' ∧ FMh m m' ∧ ER c' m')
theorem line0_v (hT : TPE T c m) (hX : LX 0 T N c m p a k v l) (hH : HR b c e m h u5 u6) (hlim : h 0 < 5) : OH b T N c m p k (x6_line c b e (0 : Int32)) (BD2 (m_readNew m ((0 : Int32) + gA m 15 0)) (fun v6 s7 => (if v6 = 0 then some ((0 : Int32), s7) else LT (sA s7 15 0 ((gA s7 15 0) + (1 : Int32))) (fun s8 => some ((1 : Int32), s8))))) := by
  obtain ⟨hb, ⟨e7, e8, e9, e10, e11, e12, e13, e14, e15, e16⟩, ⟨n0, n1, n2, n3⟩, ⟨d0, d1, d2, d3, d4, d5, d6, d7, d8, d9⟩, hpl, hr, ho, hv, hv2⟩ := id hH
  unfold x6_line
  rw [if_pos rfl, PG_of _ hb, PG_of _ hb, hr 0 (by omega), show ((0 : Int32) + nI (h 0)) = nI (h 0) from by rw [show (0 : Int32) = nI 0 from rfl, nI_add, Nat.zero_add]]
  rcases fresh_v hT hX hH (pos := h 0) (by omega) with ⟨l2, c', m', p', a', k', v', l', fk, f1, f2, w1, f3, f4, f5, f6, f7⟩ | ⟨c', m', f1, f2, f3, f4, f5⟩
  · have hr' : gA m' 15 0 = nI (h 0) := by rw [f4.gA 15]; exact hr 0 (by omega)
    have hb' : gP c' 108 = some b := (f3.gP 108).trans hb
    obtain ⟨h', hx1, hx⟩ : ∃ h' : Nat → Nat, h' 0 = h 0 + 1 ∧ ∀ k, k ≠ 0 → h' k = h k := ⟨fun k => if k = 0 then h 0 + 1 else h k, if_pos rfl, fun k hk => if_neg hk⟩
    have g20 : gL m' 20 (h 0) = lN (p27 l2) := by rw [f4.gL 20, gL_sLs]
    have g20n : ∀ q, q ≠ h 0 → gL m' 20 q = gL m 20 q := fun q hq => by rw [f4.gL 20, gL_sLi _ _ _ (by omega)]
    have e7' : gI (sL e 0 (h 0) (lN (p8 l2))) 7 = nI (h 0) := e7
    rw [f1, BX_r, e7, IX_nI _ hlim (by omega), LT, PG_of _ hb', LT, f2, BD2_some, if_neg (show ¬ (1 : Int32) = 0 by decide), LT, hr', e7', nI_1]
    refine Or.inl ⟨c', _, _, h', u5, u6, p', a', k', v', l', rfl, rfl, ⟨hb', ⟨by rw [gI_sIs, hx1], by rw [gI_sIn _ _ (by omega), hx _ (by omega)]; exact e8, by rw [gI_sIn _ _ (by omega), hx _ (by omega)]; exact e9, by rw [gI_sIn _ _ (by omega), hx _ (by omega)]; exact e10, by rw [gI_sIn _ _ (by omega), hx _ (by omega)]; exact e11, by rw [gI_sIn _ _ (by omega), hx _ (by omega)]; exact e12, by rw [gI_sIn _ _ (by omega), hx _ (by omega)]; exact e13, fun q hq => by rw [hx _ (by omega)]; exact e14 q hq, fun q hq => by rw [hx _ (by omega)]; exact e15 q hq, fun q hq => by rw [hx _ (by omega)]; exact e16 q hq⟩, ⟨fun q hq => by
        rw [hx1] at hq
        show NM1 (gL (sL e 0 (h 0) (lN (p8 l2))) 0 q) _
        by_cases hqe : q = h 0
        · rw [hqe, gL_sLs, gL_sA, g20]; exact ⟨l2, w1, rfl, rfl⟩
        · rw [gL_sLi _ _ _ (by omega), gL_sA, g20n _ (by omega)]; exact n0 q (by omega), fun q hq => by rw [hx _ (by omega)] at hq; show NM1 (gL (sL e 0 (h 0) (lN (p8 l2))) 1 q) _; rw [gL_sLn _ _ _ (by omega), gL_sA, g20n _ (by omega)]; exact n1 q hq, fun q hq => by rw [hx _ (by omega)] at hq; show NM1 (gL (sL e 0 (h 0) (lN (p8 l2))) 2 q) _; rw [gL_sLn _ _ _ (by omega), gL_sA, g20n _ (by omega)]; exact n2 q hq, fun q hq => by rw [hx _ (by omega)] at hq; show NM1 (gL (sL e 0 (h 0) (lN (p8 l2))) 3 q) _; rw [gL_sLn _ _ _ (by omega), gL_sA, g20n _ (by omega)]; exact n3 q hq⟩, ⟨by rw [hx1]; omega, by rw [hx _ (by omega)]; omega, by rw [hx _ (by omega)]; omega, by rw [hx _ (by omega)]; omega, by rw [hx _ (by omega)]; exact d4, by rw [hx _ (by omega)]; exact d5, fun q hq => by rw [hx _ (by omega), hx1, Nat.pow_succ]; have := d6 q hq; omega, fun q hq => by rw [hx _ (by omega)] at hq; rw [hx _ (by omega)]; exact d7 q hq, fun q hq => by rw [hx _ (by omega)]; exact d8 q hq, by rw [hx _ (by omega)]; exact d9⟩, fun q hq => by rw [hx _ (by omega)] at hq; rw [hx _ (by omega), hx1]; have := hpl q hq; omega, fun q hq => ?_, ?_, ?_, ?_⟩, f3.toh, ((FMh_sL m _ _).trans f4.toh).trans (FMh_sA _ _ _ (by omega)), TPE_ext f5 rfl (by rw [gA_sAn _ _ _ (by omega)]), LX_ext f6 (fun _ _ => rfl) rfl (fun _ _ _ => rfl) rfl, f7, by omega⟩
    · by_cases hqe : q = 0
      · rw [hqe, gA_sAs, hx1]
      · rw [gA_sAi _ _ _ (by omega), hx _ hqe, f4.gA 15]; exact hr q hq
    · obtain ⟨w, o1, o2, o3⟩ := ho
      exact ⟨w, o1, (f3.2.2 109 (by omega)).trans o2, o3⟩
    · rw [gA_sAn _ _ _ (by omega), f4.gA 23]; exact hv
    · rw [gA_sAn _ _ _ (by omega), f4.gA 23]; exact hv2
  · rw [f1, BX_t, f2, BD2_some, if_pos rfl]
    exact Or.inr ⟨c', e, m', rfl, rfl, f3.toh, f4.toh, f5⟩
theorem line3_v (hT : TPE T c m) (hX : LX 0 T N c m p a k v l) (hH : HR b c e m h u5 u6) (hlim : h 2 < 4) : OH b T N c m p k (x6_line c b e (3 : Int32)) (BD2 (m_readNew m ((11 : Int32) + gA m 15 2)) (fun v6 s7 => (if v6 = 0 then some ((0 : Int32), s7) else LT (sA s7 15 2 ((gA s7 15 2) + (1 : Int32))) (fun s8 => some ((1 : Int32), s8))))) := by
  obtain ⟨hb, ⟨e7, e8, e9, e10, e11, e12, e13, e14, e15, e16⟩, ⟨n0, n1, n2, n3⟩, ⟨d0, d1, d2, d3, d4, d5, d6, d7, d8, d9⟩, hpl, hr, ho, hv, hv2⟩ := id hH
  unfold x6_line
  rw [if_neg (show ¬ (3 : Int32) = (0 : Int32) by decide), if_neg (show ¬ (3 : Int32) = (1 : Int32) by decide), if_neg (show ¬ (3 : Int32) = (2 : Int32) by decide), if_pos rfl, PG_of _ hb, PG_of _ hb, hr 2 (by omega), show ((11 : Int32) + nI (h 2)) = nI (11 + h 2) from nI_add _ _]
  rcases fresh_v hT hX hH (pos := 11 + h 2) (by omega) with ⟨l2, c', m', p', a', k', v', l', fk, f1, f2, w1, f3, f4, f5, f6, f7⟩ | ⟨c', m', f1, f2, f3, f4, f5⟩
  · have hr' : gA m' 15 2 = nI (h 2) := by rw [f4.gA 15]; exact hr 2 (by omega)
    have hb' : gP c' 108 = some b := (f3.gP 108).trans hb
    obtain ⟨h', hx1, hx⟩ : ∃ h' : Nat → Nat, h' 2 = h 2 + 1 ∧ ∀ k, k ≠ 2 → h' k = h k := ⟨fun k => if k = 2 then h 2 + 1 else h k, if_pos rfl, fun k hk => if_neg hk⟩
    have g20 : gL m' 20 (11 + h 2) = lN (p27 l2) := by rw [f4.gL 20, gL_sLs]
    have g20n : ∀ q, q ≠ 11 + h 2 → gL m' 20 q = gL m 20 q := fun q hq => by rw [f4.gL 20, gL_sLi _ _ _ (by omega)]
    have e7' : gI (sL e 2 (h 2) (lN (p8 l2))) 9 = nI (h 2) := e9
    rw [f1, BX_r, e9, IX_nI _ hlim (by omega), LT, PG_of _ hb', LT, f2, BD2_some, if_neg (show ¬ (1 : Int32) = 0 by decide), LT, hr', e7', nI_1]
    refine Or.inl ⟨c', _, _, h', u5, u6, p', a', k', v', l', rfl, rfl, ⟨hb', ⟨by rw [gI_sIn _ _ (by omega), hx _ (by omega)]; exact e7, by rw [gI_sIn _ _ (by omega), hx _ (by omega)]; exact e8, by rw [gI_sIs, hx1], by rw [gI_sIn _ _ (by omega), hx _ (by omega)]; exact e10, by rw [gI_sIn _ _ (by omega), hx _ (by omega)]; exact e11, by rw [gI_sIn _ _ (by omega), hx _ (by omega)]; exact e12, by rw [gI_sIn _ _ (by omega), hx _ (by omega)]; exact e13, fun q hq => by rw [hx _ (by omega)]; exact e14 q hq, fun q hq => by rw [hx _ (by omega)]; exact e15 q hq, fun q hq => by rw [hx _ (by omega)]; exact e16 q hq⟩, ⟨fun q hq => by rw [hx _ (by omega)] at hq; show NM1 (gL (sL e 2 (h 2) (lN (p8 l2))) 0 q) _; rw [gL_sLn _ _ _ (by omega), gL_sA, g20n _ (by omega)]; exact n0 q hq, fun q hq => by rw [hx _ (by omega)] at hq; show NM1 (gL (sL e 2 (h 2) (lN (p8 l2))) 1 q) _; rw [gL_sLn _ _ _ (by omega), gL_sA, g20n _ (by omega)]; exact n1 q hq, fun q hq => by
        rw [hx1] at hq
        show NM1 (gL (sL e 2 (h 2) (lN (p8 l2))) 2 q) _
        by_cases hqe : q = h 2
        · rw [hqe, gL_sLs, gL_sA, g20]; exact ⟨l2, w1, rfl, rfl⟩
        · rw [gL_sLi _ _ _ (by omega), gL_sA, g20n _ (by omega)]; exact n2 q (by omega), fun q hq => by rw [hx _ (by omega)] at hq; show NM1 (gL (sL e 2 (h 2) (lN (p8 l2))) 3 q) _; rw [gL_sLn _ _ _ (by omega), gL_sA, g20n _ (by omega)]; exact n3 q hq⟩, ⟨by rw [hx _ (by omega)]; omega, by rw [hx _ (by omega)]; omega, by rw [hx1]; omega, by rw [hx _ (by omega)]; omega, by rw [hx _ (by omega)]; exact d4, by rw [hx _ (by omega)]; exact d5, fun q hq => by rw [hx _ (by omega), hx _ (by omega)]; exact d6 q hq, fun q hq => by rw [hx _ (by omega)] at hq; rw [hx _ (by omega)]; exact d7 q hq, fun q hq => by rw [hx _ (by omega)]; exact d8 q hq, by rw [hx _ (by omega)]; exact d9⟩, fun q hq => by rw [hx _ (by omega)] at hq; rw [hx _ (by omega), hx _ (by omega)]; exact hpl q hq, fun q hq => ?_, ?_, ?_, ?_⟩, f3.toh, ((FMh_sL m _ _).trans f4.toh).trans (FMh_sA _ _ _ (by omega)), TPE_ext f5 rfl (by rw [gA_sAn _ _ _ (by omega)]), LX_ext f6 (fun _ _ => rfl) rfl (fun _ _ _ => rfl) rfl, f7, by omega⟩
    · by_cases hqe : q = 2
      · rw [hqe, gA_sAs, hx1]
      · rw [gA_sAi _ _ _ (by omega), hx _ hqe, f4.gA 15]; exact hr q hq
    · obtain ⟨w, o1, o2, o3⟩ := ho
      exact ⟨w, o1, (f3.2.2 109 (by omega)).trans o2, o3⟩
    · rw [gA_sAn _ _ _ (by omega), f4.gA 23]; exact hv
    · rw [gA_sAn _ _ _ (by omega), f4.gA 23]; exact hv2
  · rw [f1, BX_t, f2, BD2_some, if_pos rfl]
    exact Or.inr ⟨c', e, m', rfl, rfl, f3.toh, f4.toh, f5⟩
theorem line4_v (hT : TPE T c m) (hX : LX 0 T N c m p a k v l) (hH : HR b c e m h u5 u6) (hlim : h 3 < 5) : OH b T N c m p k (x6_line c b e (4 : Int32)) (BD2 (m_readNew m ((15 : Int32) + gA m 15 3)) (fun v6 s7 => (if v6 = 0 then some ((0 : Int32), s7) else LT (sA s7 15 3 ((gA s7 15 3) + (1 : Int32))) (fun s8 => some ((1 : Int32), s8))))) := by
  obtain ⟨hb, ⟨e7, e8, e9, e10, e11, e12, e13, e14, e15, e16⟩, ⟨n0, n1, n2, n3⟩, ⟨d0, d1, d2, d3, d4, d5, d6, d7, d8, d9⟩, hpl, hr, ho, hv, hv2⟩ := id hH
  unfold x6_line
  rw [if_neg (show ¬ (4 : Int32) = (0 : Int32) by decide), if_neg (show ¬ (4 : Int32) = (1 : Int32) by decide), if_neg (show ¬ (4 : Int32) = (2 : Int32) by decide), if_neg (show ¬ (4 : Int32) = (3 : Int32) by decide), if_pos rfl, PG_of _ hb, PG_of _ hb, hr 3 (by omega), show ((15 : Int32) + nI (h 3)) = nI (15 + h 3) from nI_add _ _]
  rcases fresh_v hT hX hH (pos := 15 + h 3) (by omega) with ⟨l2, c', m', p', a', k', v', l', fk, f1, f2, w1, f3, f4, f5, f6, f7⟩ | ⟨c', m', f1, f2, f3, f4, f5⟩
  · have hr' : gA m' 15 3 = nI (h 3) := by rw [f4.gA 15]; exact hr 3 (by omega)
    have hb' : gP c' 108 = some b := (f3.gP 108).trans hb
    obtain ⟨h', hx1, hx⟩ : ∃ h' : Nat → Nat, h' 3 = h 3 + 1 ∧ ∀ k, k ≠ 3 → h' k = h k := ⟨fun k => if k = 3 then h 3 + 1 else h k, if_pos rfl, fun k hk => if_neg hk⟩
    have g20 : gL m' 20 (15 + h 3) = lN (p27 l2) := by rw [f4.gL 20, gL_sLs]
    have g20n : ∀ q, q ≠ 15 + h 3 → gL m' 20 q = gL m 20 q := fun q hq => by rw [f4.gL 20, gL_sLi _ _ _ (by omega)]
    have e7' : gI (sL e 3 (h 3) (lN (p8 l2))) 10 = nI (h 3) := e10
    rw [f1, BX_r, e10, IX_nI _ hlim (by omega), LT, PG_of _ hb', LT, f2, BD2_some, if_neg (show ¬ (1 : Int32) = 0 by decide), LT, hr', e7', nI_1]
    refine Or.inl ⟨c', _, _, h', u5, u6, p', a', k', v', l', rfl, rfl, ⟨hb', ⟨by rw [gI_sIn _ _ (by omega), hx _ (by omega)]; exact e7, by rw [gI_sIn _ _ (by omega), hx _ (by omega)]; exact e8, by rw [gI_sIn _ _ (by omega), hx _ (by omega)]; exact e9, by rw [gI_sIs, hx1], by rw [gI_sIn _ _ (by omega), hx _ (by omega)]; exact e11, by rw [gI_sIn _ _ (by omega), hx _ (by omega)]; exact e12, by rw [gI_sIn _ _ (by omega), hx _ (by omega)]; exact e13, fun q hq => by rw [hx _ (by omega)]; exact e14 q hq, fun q hq => by rw [hx _ (by omega)]; exact e15 q hq, fun q hq => by rw [hx _ (by omega)]; exact e16 q hq⟩, ⟨fun q hq => by rw [hx _ (by omega)] at hq; show NM1 (gL (sL e 3 (h 3) (lN (p8 l2))) 0 q) _; rw [gL_sLn _ _ _ (by omega), gL_sA, g20n _ (by omega)]; exact n0 q hq, fun q hq => by rw [hx _ (by omega)] at hq; show NM1 (gL (sL e 3 (h 3) (lN (p8 l2))) 1 q) _; rw [gL_sLn _ _ _ (by omega), gL_sA, g20n _ (by omega)]; exact n1 q hq, fun q hq => by rw [hx _ (by omega)] at hq; show NM1 (gL (sL e 3 (h 3) (lN (p8 l2))) 2 q) _; rw [gL_sLn _ _ _ (by omega), gL_sA, g20n _ (by omega)]; exact n2 q hq, fun q hq => by
        rw [hx1] at hq
        show NM1 (gL (sL e 3 (h 3) (lN (p8 l2))) 3 q) _
        by_cases hqe : q = h 3
        · rw [hqe, gL_sLs, gL_sA, g20]; exact ⟨l2, w1, rfl, rfl⟩
        · rw [gL_sLi _ _ _ (by omega), gL_sA, g20n _ (by omega)]; exact n3 q (by omega)⟩, ⟨by rw [hx _ (by omega)]; omega, by rw [hx _ (by omega)]; omega, by rw [hx _ (by omega)]; omega, by rw [hx1]; omega, by rw [hx _ (by omega)]; exact d4, by rw [hx _ (by omega)]; exact d5, fun q hq => by rw [hx _ (by omega), hx _ (by omega)]; exact d6 q hq, fun q hq => by rw [hx _ (by omega)] at hq; rw [hx _ (by omega)]; exact d7 q hq, fun q hq => by rw [hx _ (by omega)]; exact d8 q hq, by rw [hx _ (by omega)]; exact d9⟩, fun q hq => by rw [hx _ (by omega)] at hq; rw [hx _ (by omega), hx _ (by omega)]; exact hpl q hq, fun q hq => ?_, ?_, ?_, ?_⟩, f3.toh, ((FMh_sL m _ _).trans f4.toh).trans (FMh_sA _ _ _ (by omega)), TPE_ext f5 rfl (by rw [gA_sAn _ _ _ (by omega)]), LX_ext f6 (fun _ _ => rfl) rfl (fun _ _ _ => rfl) rfl, f7, by omega⟩
    · by_cases hqe : q = 3
      · rw [hqe, gA_sAs, hx1]
      · rw [gA_sAi _ _ _ (by omega), hx _ hqe, f4.gA 15]; exact hr q hq
    · obtain ⟨w, o1, o2, o3⟩ := ho
      exact ⟨w, o1, (f3.2.2 109 (by omega)).trans o2, o3⟩
    · rw [gA_sAn _ _ _ (by omega), f4.gA 23]; exact hv
    · rw [gA_sAn _ _ _ (by omega), f4.gA 23]; exact hv2
  · rw [f1, BX_t, f2, BD2_some, if_pos rfl]
    exact Or.inr ⟨c', e, m', rfl, rfl, f3.toh, f4.toh, f5⟩
theorem line5_v (hT : TPE T c m) (hX : LX 0 T N c m p a k v l) (hH : HR b c e m h u5 u6) : OH b T N c m p k (x6_line c b e (5 : Int32)) (BD2 (m_readNumber m (1 : Int32) (60 : Int32)) (fun v6 s7 => BD2 (m_put s7 (4 : Int32) v6) (fun v9 s10 => BZ v9 (some (v9, s10))))) := by
  obtain ⟨hb, ⟨e7, e8, e9, e10, e11, e12, e13, e14, e15, e16⟩, ⟨n0, n1, n2, n3⟩, ⟨d0, d1, d2, d3, d4, d5, d6, d7, d8, d9⟩, hpl, hr, ho, hv, hv2⟩ := id hH
  unfold x6_line
  rw [if_neg (show ¬ (5 : Int32) = (0 : Int32) by decide), if_neg (show ¬ (5 : Int32) = (1 : Int32) by decide), if_neg (show ¬ (5 : Int32) = (2 : Int32) by decide), if_neg (show ¬ (5 : Int32) = (3 : Int32) by decide), if_neg (show ¬ (5 : Int32) = (4 : Int32) by decide), if_pos rfl, PG_of _ hb, show (1 : Int32) = nI 1 from rfl, show (60 : Int32) = nI 60 from rfl]
  rcases number_v hT hX (lo := 1) (hi := 60) (by omega) (by omega) with ⟨x, c', m', p', a', k', v', l', f1, f2, f3, f4, f5, f6, f7, u, rfl, g1, g2, g3, g4⟩ | ⟨c', m', f1, f2, f3, f4, f5⟩
  · have hb' : gP c' 108 = some b := (f3.gP 108).trans hb
    obtain ⟨h', hx1, hx⟩ : ∃ h' : Nat → Nat, h' 4 = u ∧ ∀ k, k ≠ 4 → h' k = h k := ⟨fun k => if k = 4 then u else h k, if_pos rfl, fun k hk => if_neg hk⟩
    rw [f1, BX_r, LT, f2, BD2_some]
    unfold m_put
    rw [if_neg (show ¬ (1 : Int32) = 0 by decide), show (4 : Int32) = nI 4 from rfl, IX_nI _ (by omega) (by omega), LT, BZ_1, BD2_some, BZ_1, g3]
    refine Or.inl ⟨c', _, _, h', u5, u6, p', a', k', v', l', rfl, rfl, ⟨hb', ⟨by rw [gI_sIn _ _ (by omega), hx _ (by omega)]; exact e7, by rw [gI_sIn _ _ (by omega), hx _ (by omega)]; exact e8, by rw [gI_sIn _ _ (by omega), hx _ (by omega)]; exact e9, by rw [gI_sIn _ _ (by omega), hx _ (by omega)]; exact e10, by rw [gI_sIn _ _ (by omega), hx _ (by omega)]; exact e11, by rw [gI_sIs, hx1], by rw [gI_sIn _ _ (by omega), hx _ (by omega)]; exact e13, fun q hq => by rw [hx _ (by omega)]; exact e14 q hq, fun q hq => by rw [hx _ (by omega)]; exact e15 q hq, fun q hq => by rw [hx _ (by omega)]; exact e16 q hq⟩, ⟨fun q hq => by rw [hx _ (by omega)] at hq; rw [gL_sA, f4.gL 20]; exact n0 q hq, fun q hq => by rw [hx _ (by omega)] at hq; rw [gL_sA, f4.gL 20]; exact n1 q hq, fun q hq => by rw [hx _ (by omega)] at hq; rw [gL_sA, f4.gL 20]; exact n2 q hq, fun q hq => by rw [hx _ (by omega)] at hq; rw [gL_sA, f4.gL 20]; exact n3 q hq⟩, ⟨by rw [hx _ (by omega)]; omega, by rw [hx _ (by omega)]; omega, by rw [hx _ (by omega)]; omega, by rw [hx _ (by omega)]; omega, by rw [hx1]; omega, by rw [hx _ (by omega)]; exact d5, fun q hq => by rw [hx _ (by omega), hx _ (by omega)]; exact d6 q hq, fun q hq => by rw [hx _ (by omega)] at hq; rw [hx _ (by omega)]; exact d7 q hq, fun q hq => by rw [hx _ (by omega)]; exact d8 q hq, by rw [hx _ (by omega)]; exact d9⟩, fun q hq => by rw [hx _ (by omega)] at hq; rw [hx _ (by omega), hx _ (by omega)]; exact hpl q hq, fun q hq => ?_, ?_, ?_, ?_⟩, f3.toh, f4.toh.trans (FMh_sA _ _ _ (by omega)), TPE_ext f5 rfl (by rw [gA_sAn _ _ _ (by omega)]), LX_ext f6 (fun _ _ => rfl) rfl (fun _ _ _ => rfl) rfl, f7, by omega⟩
    · by_cases hqe : q = 4
      · rw [hqe, gA_sAs, hx1]
      · rw [gA_sAi _ _ _ (by omega), hx _ hqe, f4.gA 15]; exact hr q hq
    · obtain ⟨w, o1, o2, o3⟩ := ho
      exact ⟨w, o1, (f3.2.2 109 (by omega)).trans o2, o3⟩
    · rw [gA_sAn _ _ _ (by omega), f4.gA 23]; exact hv
    · rw [gA_sAn _ _ _ (by omega), f4.gA 23]; exact hv2
  · rw [f1, BX_t, f2, BD2_some]
    unfold m_put
    rw [if_pos rfl, BZ_0, BD2_some, BZ_0]
    exact Or.inr ⟨c', e, m', rfl, rfl, f3.toh, f4.toh, f5⟩
theorem line6_v (hT : TPE T c m) (hX : LX 0 T N c m p a k v l) (hH : HR b c e m h u5 u6) : OH b T N c m p k (x6_line c b e (6 : Int32)) (BD2 (m_readNumber m (1 : Int32) (6 : Int32)) (fun v6 s7 => BD2 (m_put s7 (5 : Int32) v6) (fun v9 s10 => BZ v9 (some (v9, s10))))) := by
  obtain ⟨hb, ⟨e7, e8, e9, e10, e11, e12, e13, e14, e15, e16⟩, ⟨n0, n1, n2, n3⟩, ⟨d0, d1, d2, d3, d4, d5, d6, d7, d8, d9⟩, hpl, hr, ho, hv, hv2⟩ := id hH
  unfold x6_line
  rw [if_neg (show ¬ (6 : Int32) = (0 : Int32) by decide), if_neg (show ¬ (6 : Int32) = (1 : Int32) by decide), if_neg (show ¬ (6 : Int32) = (2 : Int32) by decide), if_neg (show ¬ (6 : Int32) = (3 : Int32) by decide), if_neg (show ¬ (6 : Int32) = (4 : Int32) by decide), if_neg (show ¬ (6 : Int32) = (5 : Int32) by decide), PG_of _ hb, show (1 : Int32) = nI 1 from rfl, show (6 : Int32) = nI 6 from rfl]
  rcases number_v hT hX (lo := 1) (hi := 6) (by omega) (by omega) with ⟨x, c', m', p', a', k', v', l', f1, f2, f3, f4, f5, f6, f7, u, rfl, g1, g2, g3, g4⟩ | ⟨c', m', f1, f2, f3, f4, f5⟩
  · have hb' : gP c' 108 = some b := (f3.gP 108).trans hb
    obtain ⟨h', hx1, hx⟩ : ∃ h' : Nat → Nat, h' 5 = u ∧ ∀ k, k ≠ 5 → h' k = h k := ⟨fun k => if k = 5 then u else h k, if_pos rfl, fun k hk => if_neg hk⟩
    rw [f1, BX_r, LT, f2, BD2_some]
    unfold m_put
    rw [if_neg (show ¬ (1 : Int32) = 0 by decide), show (5 : Int32) = nI 5 from rfl, IX_nI _ (by omega) (by omega), LT, BZ_1, BD2_some, BZ_1, g3]
    refine Or.inl ⟨c', _, _, h', u5, u6, p', a', k', v', l', rfl, rfl, ⟨hb', ⟨by rw [gI_sIn _ _ (by omega), hx _ (by omega)]; exact e7, by rw [gI_sIn _ _ (by omega), hx _ (by omega)]; exact e8, by rw [gI_sIn _ _ (by omega), hx _ (by omega)]; exact e9, by rw [gI_sIn _ _ (by omega), hx _ (by omega)]; exact e10, by rw [gI_sIn _ _ (by omega), hx _ (by omega)]; exact e11, by rw [gI_sIn _ _ (by omega), hx _ (by omega)]; exact e12, by rw [gI_sIs, hx1], fun q hq => by rw [hx _ (by omega)]; exact e14 q hq, fun q hq => by rw [hx _ (by omega)]; exact e15 q hq, fun q hq => by rw [hx _ (by omega)]; exact e16 q hq⟩, ⟨fun q hq => by rw [hx _ (by omega)] at hq; rw [gL_sA, f4.gL 20]; exact n0 q hq, fun q hq => by rw [hx _ (by omega)] at hq; rw [gL_sA, f4.gL 20]; exact n1 q hq, fun q hq => by rw [hx _ (by omega)] at hq; rw [gL_sA, f4.gL 20]; exact n2 q hq, fun q hq => by rw [hx _ (by omega)] at hq; rw [gL_sA, f4.gL 20]; exact n3 q hq⟩, ⟨by rw [hx _ (by omega)]; omega, by rw [hx _ (by omega)]; omega, by rw [hx _ (by omega)]; omega, by rw [hx _ (by omega)]; omega, by rw [hx _ (by omega)]; exact d4, by rw [hx1]; omega, fun q hq => by rw [hx _ (by omega), hx _ (by omega)]; exact d6 q hq, fun q hq => by rw [hx _ (by omega)] at hq; rw [hx _ (by omega)]; exact d7 q hq, fun q hq => by rw [hx _ (by omega)]; exact d8 q hq, by rw [hx _ (by omega)]; exact d9⟩, fun q hq => by rw [hx _ (by omega)] at hq; rw [hx _ (by omega), hx _ (by omega)]; exact hpl q hq, fun q hq => ?_, ?_, ?_, ?_⟩, f3.toh, f4.toh.trans (FMh_sA _ _ _ (by omega)), TPE_ext f5 rfl (by rw [gA_sAn _ _ _ (by omega)]), LX_ext f6 (fun _ _ => rfl) rfl (fun _ _ _ => rfl) rfl, f7, by omega⟩
    · by_cases hqe : q = 5
      · rw [hqe, gA_sAs, hx1]
      · rw [gA_sAi _ _ _ (by omega), hx _ hqe, f4.gA 15]; exact hr q hq
    · obtain ⟨w, o1, o2, o3⟩ := ho
      exact ⟨w, o1, (f3.2.2 109 (by omega)).trans o2, o3⟩
    · rw [gA_sAn _ _ _ (by omega), f4.gA 23]; exact hv
    · rw [gA_sAn _ _ _ (by omega), f4.gA 23]; exact hv2
  · rw [f1, BX_t, f2, BD2_some]
    unfold m_put
    rw [if_pos rfl, BZ_0, BD2_some, BZ_0]
    exact Or.inr ⟨c', e, m', rfl, rfl, f3.toh, f4.toh, f5⟩
/-- a parlour of the house being read -/
theorem here_v (hT : TPE T c m) (hX : LX 0 T N c m p a k v l) {n : Nat} (hn0 : n ≤ 5) (n0 : ∀ i, i < n → NM1 (gL e 0 i) (gL m 20 i)) (hr : gA m 15 0 = nI n) :
    (∃ q, q < n ∧ k = 1 ∧ x5_look 0 c (gL e 0) 5 (nI n) = some (some (nI q), c) ∧ m_isParlourHere m = some (1, sI m 13 (nI q))) ∨
    (∃ c' m', x5_look 0 c (gL e 0) 5 (nI n) = some (none, c') ∧ m_isParlourHere m = some (0, m') ∧ FR2 c c' ∧ FM2 m m' ∧ ER c' m') := by
  unfold m_isParlourHere
  rw [hr, show (0 : Int32) = nI 0 from rfl]
  rcases look_v hT hX (row := gL e 0) (w := gL m 20) (base := 0) (n := n) (R := 5) (fun i hi => by rw [Nat.zero_add]; exact n0 i hi) (by omega) (by omega) (by omega) with ⟨q, q1, q2, q3, q4⟩ | ⟨c', m', f1, f2, f3, f4, f5, f6⟩ | ⟨c', m', f1, f2, f3, f4, f5, f6, f7⟩
  · have hk : k = 1 := by
      have hh := (m_isName_v hX).symm.trans q3
      cases h0 : (decide (k = 1) && !kwd l)
      · rw [h0] at hh; exact absurd hh (by decide)
      · rw [Bool.and_eq_true] at h0; exact of_decide_eq_true h0.1
    refine Or.inl ⟨q, q1, hk, q2, ?_⟩
    rw [q3, BD_some, if_neg (show ¬ (1 : Int32) = nI 0 by decide), q4, BD_some, LT, gI_sIs, if_neg (nI_ne_m1 (by omega))]
  · refine Or.inr ⟨c', m', f1, ?_, f4, f5, f6⟩
    rw [f2, BD_some, if_pos (show (0 : Int32) = nI 0 from rfl), f3, BD2_some, BZ_0]
    rfl
  · refine Or.inr ⟨c', m', f1, ?_, f5, f6, f7⟩
    rw [f2, BD_some, if_neg (show ¬ (1 : Int32) = nI 0 by decide), f3, BD_some, LT, gI_sIs, if_pos rfl, f4, BD2_some, if_pos (show (0 : Int32) = nI 0 from rfl)]
theorem line1_v (hT : TPE T c m) (hX : LX 0 T N c m p a k v l) (hH : HR b c e m h u5 u6) : OH b T N c m p k (x6_line c b e (1 : Int32)) (BD2 (m_isParlourHere m) (fun v4 s5 => (if v4 = 0 then some ((0 : Int32), s5) else BD (m_go s5) (fun s7 => BD2 (m_isParlourHere s7) (fun v9 s10 => (if v9 = 0 then some ((0 : Int32), s10) else (if (gI s10 13) = (gI s5 13) then BD2 (m_bad s10 (3 : Int32)) (fun v12 s13 => BZ v12 (some (v12, s13))) else IX ((6 : Int32) + (gI s5 13)) 24 (fun i15 => BD (m_has (gA s10 15 i15) (gI s10 13)) (fun v17 => (if v17 = 0 then LT (sA s10 15 i15 ((gA s10 15 i15) ||| ((1 : Int32) <<< ((gI s10 13) &&& 31)))) (fun s18 => IX ((6 : Int32) + (gI s18 13)) 24 (fun i19 => LT (sA s18 15 i19 ((gA s18 15 i19) ||| ((1 : Int32) <<< ((gI s5 13) &&& 31)))) (fun s20 => BD (m_go s20) (fun s22 => some ((1 : Int32), s22))))) else BD2 (m_bad s10 (3 : Int32)) (fun v24 s25 => BZ v24 (some (v24, s25))))))))))))) := by
  obtain ⟨hb, ⟨e7, e8, e9, e10, e11, e12, e13, e14, e15, e16⟩, ⟨n0, n1, n2, n3⟩, ⟨d0, d1, d2, d3, d4, d5, d6, d7, d8, d9⟩, hpl, hr, ho, hv, hv2⟩ := id hH
  unfold x6_line x5_known
  rw [if_neg (show ¬ (1 : Int32) = (0 : Int32) by decide), if_pos rfl, PG_of _ hb, PG_of _ hb, e7]
  rcases here_v (e := e) hT hX d0 n0 (hr 0 (by omega)) with ⟨q, q1, qk, q2, q3⟩ | ⟨c', m', f1, f2, f3, f4, f5⟩
  · rw [q2, BX_r, q3, BD2_some, if_neg (show ¬ (1 : Int32) = 0 by decide)]
    have hX2 : LX 0 T N c (sI m 13 (nI q)) p a k v l := LX_ext hX (fun _ _ => rfl) rfl (fun i h1 h2 => gI_sIn _ _ (by omega)) rfl
    obtain ⟨c1, m1, p1, a1, k1, v1, l1, s1, s2, s3, s4, s5, s6, s7, -⟩ := next_v (m := sI m 13 (nI q)) (TPE_ext hT rfl rfl) hX2
    have hb1 : gP c1 108 = some b := (s3.gP 108).trans hb
    have hr1 : ∀ k, k < 24 → gA m1 15 k = nI (h k) := fun k hk => by rw [s4.gA 15]; exact hr k hk
    have F1 : FM2 m m1 := (FM2_sI m _ (by omega)).trans s4.fm2
    rw [s1, BD_some, BX_r, PG_of _ hb1, PG_of _ hb1, s2, BD_some]
    rcases here_v (e := e) s5 s6 d0 (fun i hi => by rw [s4.gL 20]; exact n0 i hi) (hr1 0 (by omega)) with ⟨r, r1, rk, r2, r3⟩ | ⟨c', m', f1, f2, f3, f4, f5⟩
    · rw [r2, BX_r, r3, BD2_some, if_neg (show ¬ (1 : Int32) = 0 by decide), JN1]
      dsimp only
      rw [gI_sIs, gI_sIs]
      have hX3 : LX 0 T N c1 (sI m1 13 (nI r)) p1 a1 k1 v1 l1 := LX_ext s6 (fun _ _ => rfl) rfl (fun i h1 h2 => gI_sIn _ _ (by omega)) rfl
      have hbad : ∃ c' m', x5_must 0 c1 0 3 = some (none, c') ∧ m_bad (sI m1 13 (nI r)) 3 = some (0, m') ∧ FR2 c1 c' ∧ FM2 (sI m1 13 (nI r)) m' ∧ ER c' m' := fail_v hX3 (e := 3) (by omega) (by omega) (by omega)
      obtain ⟨c', m', f1, f2, f3, f4, f5⟩ := hbad
      have FX1 : FRh c c' := (s3.fr2.trans f3).toh
      have FX2 : FMh m m' := ((F1.trans (FM2_sI m1 _ (by omega))).trans f4).toh
      by_cases hqr : q = r
      · rw [if_pos (by rw [hqr]), if_pos (by rw [hqr]), f1, BX_t, f2, BD2_some, BZ_0]
        exact Or.inr ⟨c', e, m', rfl, rfl, FX1, FX2, f5⟩
      · rw [if_neg (fun e => hqr ((nI_eq (by omega) (by omega)).mp e)), if_neg (fun e => hqr ((nI_eq (by omega) (by omega)).mp e).symm), PG_of _ hb1, IX_nI _ (by omega) (by omega), show (6 : Int32) + nI q = nI (6 + q) from nI_add _ _, IX_nI _ (by omega) (by omega), e14 q (by omega), show gA (sI m1 13 (nI r)) 15 (6 + q) = nI (h (6 + q)) from hr1 _ (by omega), x1_has_v, m_has_v, BD_some, BD_some]
        have b1 := d6 q (by omega)
        have b2 := d6 r (by omega)
        have p32 : 2 ^ h 0 ≤ 2 ^ 5 := Nat.pow_le_pow_right (by omega) d0
        have pr : 2 ^ r < 2 ^ h 0 := Nat.pow_lt_pow_right (by omega) r1
        have pq : 2 ^ q < 2 ^ h 0 := Nat.pow_lt_pow_right (by omega) q1
        cases hh : hs (nI (h (6 + q))) (nI r)
        · rw [show bI false = (0 : Int32) from rfl, if_pos rfl, if_pos rfl, must_1, BX_r, LT]
          rw [shl1 r (by omega), shl1 q (by omega), gI_sA, gI_sIs, show (6 : Int32) + nI r = nI (6 + r) from nI_add _ _, IX_nI _ (by omega) (by omega), LT, nI_or (by omega) (by omega), gA_sAi _ _ _ (by omega), show gA (sI m1 13 (nI r)) 15 (6 + r) = nI (h (6 + r)) from hr1 _ (by omega), nI_or (by omega) (by omega)]
          have hX4 : LX 0 T N c1 (sA (sA (sI m1 13 (nI r)) 15 (6 + q) (nI (h (6 + q) ||| 2 ^ r))) 15 (6 + r) (nI (h (6 + r) ||| 2 ^ q))) p1 a1 k1 v1 l1 := LX_ext hX3 (fun _ _ => rfl) rfl (fun _ _ _ => rfl) rfl
          obtain ⟨c2, m2, p2, a2, k2, v2, l2, t1, t2, t3, t4, t5, t6, t7, -⟩ := next_v (TPE_ext s5 rfl (by rw [gA_sAn _ _ _ (by omega), gA_sAn _ _ _ (by omega), gA_sI])) hX4
          have hb2 : gP c2 108 = some b := (t3.gP 108).trans hb1
          rw [t1, t2, BD_some, BD_some, PG_of _ hb2, IX_nI _ (by omega) (by omega), LT, PG_of _ hb2, IX_nI _ (by omega) (by omega), LT, e14 q (by omega), nI_or (by omega) (by omega), gA_sAi _ _ _ (by omega), e14 r (by omega), nI_or (by omega) (by omega)]
          obtain ⟨h', x1, x2, x3⟩ : ∃ h' : Nat → Nat, h' (6 + q) = h (6 + q) ||| 2 ^ r ∧ h' (6 + r) = h (6 + r) ||| 2 ^ q ∧ ∀ k, k ≠ 6 + q → k ≠ 6 + r → h' k = h k := ⟨fun k => if k = 6 + q then h (6 + q) ||| 2 ^ r else if k = 6 + r then h (6 + r) ||| 2 ^ q else h k, if_pos rfl, by dsimp only; rw [if_neg (by omega), if_pos rfl], fun k hk hk2 => by dsimp only; rw [if_neg hk, if_neg hk2]⟩
          refine Or.inl ⟨c2, _, _, h', u5, u6, p2, a2, k2, v2, l2, rfl, rfl, ⟨hb2, ⟨?_, ?_, ?_, ?_, ?_, ?_, ?_, fun q' hq => ?_, fun q' hq => ?_, fun q' hq => ?_⟩, ⟨fun q' hq => ?_, fun q' hq => ?_, fun q' hq => ?_, fun q' hq => ?_⟩, ⟨?_, ?_, ?_, ?_, ?_, ?_, fun q' hq => ?_, fun q' hq => ?_, fun q' hq => ?_, ?_⟩, fun q' hq => ?_, fun q' hq => ?_, ?_, ?_, ?_⟩, (s3.fr2.trans t3.fr2).toh, ?_, t5, t6, by omega, by omega⟩
          · rw [x3 _ (by omega) (by omega)]; exact e7
          · rw [x3 _ (by omega) (by omega)]; exact e8
          · rw [x3 _ (by omega) (by omega)]; exact e9
          · rw [x3 _ (by omega) (by omega)]; exact e10
          · rw [x3 _ (by omega) (by omega)]; exact e11
          · rw [x3 _ (by omega) (by omega)]; exact e12
          · rw [x3 _ (by omega) (by omega)]; exact e13
          · by_cases y1 : q' = r
            · rw [y1, gA_sAs, x2]
            · rw [gA_sAi _ _ _ (by omega)]
              by_cases y2 : q' = q
              · rw [y2, gA_sAs, x1]
              · rw [gA_sAi _ _ _ (by omega), x3 _ (by omega) (by omega)]; exact e14 q' hq
          · rw [gA_sAn _ _ _ (by omega), gA_sAn _ _ _ (by omega), x3 _ (by omega) (by omega)]; exact e15 q' hq
          · rw [gA_sAn _ _ _ (by omega), gA_sAn _ _ _ (by omega), x3 _ (by omega) (by omega)]; exact e16 q' hq
          · rw [x3 _ (by omega) (by omega)] at hq; rw [show gL m2 20 = gL m 20 from (t4.gL 20).trans (F1.gL 20)]; exact n0 q' hq
          · rw [x3 _ (by omega) (by omega)] at hq; rw [show gL m2 20 = gL m 20 from (t4.gL 20).trans (F1.gL 20)]; exact n1 q' hq
          · rw [x3 _ (by omega) (by omega)] at hq; rw [show gL m2 20 = gL m 20 from (t4.gL 20).trans (F1.gL 20)]; exact n2 q' hq
          · rw [x3 _ (by omega) (by omega)] at hq; rw [show gL m2 20 = gL m 20 from (t4.gL 20).trans (F1.gL 20)]; exact n3 q' hq
          · rw [x3 _ (by omega) (by omega)]; exact d0
          · rw [x3 _ (by omega) (by omega)]; exact d1
          · rw [x3 _ (by omega) (by omega)]; exact d2
          · rw [x3 _ (by omega) (by omega)]; exact d3
          · rw [x3 _ (by omega) (by omega)]; exact d4
          · rw [x3 _ (by omega) (by omega)]; exact d5
          · rw [x3 0 (by omega) (by omega)]
            by_cases y1 : q' = r
            · rw [y1, x2]; exact Nat.or_lt_two_pow b2 pq
            · by_cases y2 : q' = q
              · rw [y2, x1]; exact Nat.or_lt_two_pow b1 pr
              · rw [x3 _ (by omega) (by omega)]; exact d6 q' hq
          · rw [x3 _ (by omega) (by omega)] at hq; rw [x3 _ (by omega) (by omega)]; exact d7 q' hq
          · rw [x3 _ (by omega) (by omega)]; exact d8 q' hq
          · rw [x3 _ (by omega) (by omega)]; exact d9
          · rw [x3 _ (by omega) (by omega)] at hq; rw [x3 _ (by omega) (by omega), x3 _ (by omega) (by omega)]; exact hpl q' hq
          · rw [t4.gA 15]
            by_cases y1 : q' = 6 + r
            · rw [y1, gA_sAs, x2]
            · rw [gA_sAi _ _ _ (by omega)]
              by_cases y2 : q' = 6 + q
              · rw [y2, gA_sAs, x1]
              · rw [gA_sAi _ _ _ (by omega), x3 _ (by omega) (by omega)]; exact hr1 q' hq
          · obtain ⟨w, o1, o2, o3⟩ := ho
            exact ⟨w, o1, ((s3.fr2.trans t3.fr2).2.2 109 (by omega)).trans o2, o3⟩
          · rw [t4.gA 23, gA_sAn _ _ _ (by omega), gA_sAn _ _ _ (by omega), gA_sI, F1.gA 23]; exact hv
          · rw [t4.gA 23, gA_sAn _ _ _ (by omega), gA_sAn _ _ _ (by omega), gA_sI, F1.gA 23]; exact hv2
          · exact ((F1.toh.trans (FM2_sI m1 _ (by omega)).toh).trans ((FMh_sA _ _ _ (by omega)).trans (FMh_sA _ _ _ (by omega)))).trans t4.fm2.toh
        · rw [show bI true = (1 : Int32) from rfl, if_neg (show ¬ (1 : Int32) = 0 by decide), if_neg (show ¬ (1 : Int32) = 0 by decide), f1, BX_t, f2, BD2_some, BZ_0]
          exact Or.inr ⟨c', e, m', rfl, rfl, FX1, FX2, f5⟩
    · rw [f1, BX_t, f2, BD2_some, if_pos rfl]
      exact Or.inr ⟨c', e, m', rfl, rfl, (s3.fr2.trans f3).toh, (F1.trans f4).toh, f5⟩
  · rw [f1, BX_t, BX_t, f2, BD2_some, if_pos rfl]
    exact Or.inr ⟨c', e, m', rfl, rfl, f3.toh, f4.toh, f5⟩
/-- a plant is in -/
theorem HR.plant (hH : HR b c e m h u5 u6) (hlim : h 1 < 6) {l2 : List Nat} (w1 : WD l2) {q u s : Nat} (hq : q < h 0) (hu : 1 ≤ u ∧ u ≤ 9) (hs6 : s < 64) {c' e' m' : Rec} (c1 : gP c' 108 = gP c 108) (c2 : gI c' 109 = gI c 109) (E0 : gL e' 0 = gL e 0) (E1 : gL e' 1 (h 1) = lN (p8 l2)) (E1' : ∀ i, i ≠ h 1 → gL e' 1 i = gL e 1 i) (E2 : gL e' 2 = gL e 2) (E3 : gL e' 3 = gL e 3) (I8 : gI e' 8 = nI (h 1 + 1)) (I11 : gI e' 11 = nI s) (Io : ∀ k, k ≠ 8 → k ≠ 11 → gI e' k = gI e k) (A4 : gA e' 4 = gA e 4) (A5 : gA e' 5 (h 1) = nI q) (A5' : ∀ i, i ≠ h 1 → gA e' 5 i = gA e 5 i) (A6 : gA e' 6 (h 1) = nI u) (A6' : ∀ i, i ≠ h 1 → gA e' 6 i = gA e 6 i) (M20 : gL m' 20 (5 + h 1) = lN (p27 l2)) (M20' : ∀ i, i ≠ 5 + h 1 → gL m' 20 i = gL m 20 i) (M1 : gA m' 15 1 = nI (h 1 + 1)) (M11 : gA m' 15 (11 + h 1) = nI q) (M17 : gA m' 15 (17 + h 1) = nI u) (M23' : gA m' 15 23 = nI s) (Mo : ∀ i, i ≠ 1 → i ≠ 11 + h 1 → i ≠ 17 + h 1 → i ≠ 23 → gA m' 15 i = gA m 15 i) (M23 : gA m' 23 = gA m 23) : ∃ h', HR b c' e' m' h' u5 u6 := by
  obtain ⟨hb, ⟨e7, e8, e9, e10, e11, e12, e13, e14, e15, e16⟩, ⟨n0, n1, n2, n3⟩, ⟨d0, d1, d2, d3, d4, d5, d6, d7, d8, d9⟩, hpl, hr, ⟨w, ho1, ho2, ho3⟩, hv, hv2⟩ := hH
  obtain ⟨h', x1, x11, x17, x23, xo⟩ : ∃ h' : Nat → Nat, h' 1 = h 1 + 1 ∧ h' (11 + h 1) = q ∧ h' (17 + h 1) = u ∧ h' 23 = s ∧ ∀ i, i ≠ 1 → i ≠ 11 + h 1 → i ≠ 17 + h 1 → i ≠ 23 → h' i = h i := ⟨fun i => if i = 1 then h 1 + 1 else if i = 11 + h 1 then q else if i = 17 + h 1 then u else if i = 23 then s else h i, if_pos rfl, by dsimp only; rw [if_neg (by omega), if_pos rfl], by dsimp only; rw [if_neg (by omega), if_neg (by omega), if_pos rfl], by dsimp only; rw [if_neg (by omega), if_neg (by omega), if_neg (by omega), if_pos rfl], fun i i1 i2 i3 i4 => by dsimp only; rw [if_neg i1, if_neg i2, if_neg i3, if_neg i4]⟩
  have X : ∀ i, i ≠ 1 → (i < 11 ∨ 23 < i) → h' i = h i := fun i i1 i2 => xo i i1 (by omega) (by omega) (by omega)
  refine ⟨h', c1.trans hb, ⟨?_, ?_, ?_, ?_, ?_, ?_, ?_, fun i hi => ?_, fun i hi => ?_, fun i hi => ?_⟩, ⟨fun i hi => ?_, fun i hi => ?_, fun i hi => ?_, fun i hi => ?_⟩, ⟨?_, ?_, ?_, ?_, ?_, ?_, fun i hi => ?_, fun i hi => ?_, fun i hi => ?_, ?_⟩, fun i hi => ?_, fun i hi => ?_, ⟨w, ho1, c2.trans ho2, ho3⟩, by rw [M23]; exact hv, by rw [M23]; exact hv2⟩
  · rw [X _ (by omega) (by omega), Io _ (by omega) (by omega)]; exact e7
  · rw [x1]; exact I8
  · rw [X _ (by omega) (by omega), Io _ (by omega) (by omega)]; exact e9
  · rw [X _ (by omega) (by omega), Io _ (by omega) (by omega)]; exact e10
  · rw [x23]; exact I11
  · rw [X _ (by omega) (by omega), Io _ (by omega) (by omega)]; exact e12
  · rw [X _ (by omega) (by omega), Io _ (by omega) (by omega)]; exact e13
  · rw [X _ (by omega) (by omega), A4]; exact e14 i hi
  · by_cases y : i = h 1
    · rw [y, A5, x11]
    · rw [A5' i y, xo _ (by omega) (by omega) (by omega) (by omega)]; exact e15 i hi
  · by_cases y : i = h 1
    · rw [y, A6, x17]
    · rw [A6' i y, xo _ (by omega) (by omega) (by omega) (by omega)]; exact e16 i hi
  · rw [X _ (by omega) (by omega)] at hi; rw [E0, M20' _ (by omega)]; exact n0 i hi
  · rw [x1] at hi
    by_cases y : i = h 1
    · rw [y, E1, M20]; exact ⟨l2, w1, rfl, rfl⟩
    · rw [E1' _ y, M20' _ (by omega)]; exact n1 i (by omega)
  · rw [X _ (by omega) (by omega)] at hi; rw [E2, M20' _ (by omega)]; exact n2 i hi
  · rw [X _ (by omega) (by omega)] at hi; rw [E3, M20' _ (by omega)]; exact n3 i hi
  · rw [X _ (by omega) (by omega)]; exact d0
  · rw [x1]; omega
  · rw [X _ (by omega) (by omega)]; exact d2
  · rw [X _ (by omega) (by omega)]; exact d3
  · rw [X _ (by omega) (by omega)]; exact d4
  · rw [X _ (by omega) (by omega)]; exact d5
  · rw [X _ (by omega) (by omega), X _ (by omega) (by omega)]; exact d6 i hi
  · rw [x1] at hi
    by_cases y : i = h 1
    · rw [y, x17]; exact hu.1
    · rw [xo _ (by omega) (by omega) (by omega) (by omega)]; exact d7 i (by omega)
  · by_cases y : i = h 1
    · rw [y, x17]; exact hu.2
    · rw [xo _ (by omega) (by omega) (by omega) (by omega)]; exact d8 i hi
  · rw [x23]; exact hs6
  · rw [x1] at hi
    rw [X 0 (by omega) (by omega)]
    by_cases y : i = h 1
    · rw [y, x11]; exact hq
    · rw [xo _ (by omega) (by omega) (by omega) (by omega)]; exact hpl i (by omega)
  · by_cases y1 : i = 1
    · rw [y1, x1]; exact M1
    · by_cases y2 : i = 11 + h 1
      · rw [y2, x11]; exact M11
      · by_cases y3 : i = 17 + h 1
        · rw [y3, x17]; exact M17
        · by_cases y4 : i = 23
          · rw [y4, x23]; exact M23'
          · rw [xo i y1 y2 y3 y4, Mo i y1 y2 y3 y4]; exact hr i hi
theorem put_0 (s : Rec) (x : Int32) : m_put s x 0 = some (0, s) := rfl
theorem put_1 (s : Rec) {i : Nat} (hi : i < 24) : m_put s (nI i) 1 = some (1, sA s 15 i (gI s 13)) := by
  unfold m_put
  rw [if_neg (show ¬ (1 : Int32) = 0 by decide), IX_nI _ hi (by omega), LT, BZ_1]
theorem W15 : SN 25 = WL 15 := by decide +kernel
theorem line2_v (hT : TPE T c m) (hX : LX 0 T N c m p a k v l) (hH : HR b c e m h u5 u6) (hlim : h 1 < 6) : OH b T N c m p k (x6_line c b e (2 : Int32)) (BD2 (m_readNew m ((5 : Int32) + (gA m 15 1))) (fun v5 s6 => (if v5 = 0 then some ((0 : Int32), s6) else BD2 (m_isParlourHere s6) (fun v8 s9 => BD2 (m_put s9 ((11 : Int32) + (gA m 15 1)) v8) (fun v11 s12 => (if v11 = 0 then some ((0 : Int32), s12) else BD (m_go s12) (fun s14 => BD2 (m_readNumber s14 (1 : Int32) (9 : Int32)) (fun v16 s17 => BD2 (m_put s17 ((17 : Int32) + (gA m 15 1)) v16) (fun v19 s20 => (if v19 = 0 then some ((0 : Int32), s20) else BD (m_isWord s20 (15 : Int32)) (fun v22 => JN1 (fun (s23 : Rec) => LT (sA s23 15 1 ((gA s23 15 1) + (1 : Int32))) (fun s25 => some ((1 : Int32), s25))) (fun (j24 : Rec → Option (Int32 × Rec)) => (if v22 = 0 then j24 s20 else LT (sA s20 15 23 ((gA s20 15 23) ||| ((1 : Int32) <<< ((gA m 15 1) &&& 31)))) (fun s26 => BD (m_go s26) (fun s28 => j24 s28))))))))))))))) := by
  obtain ⟨hb, ⟨e7, e8, e9, e10, e11, e12, e13, e14, e15, e16⟩, ⟨n0, n1, n2, n3⟩, ⟨d0, d1, d2, d3, d4, d5, d6, d7, d8, d9⟩, hpl, hr, ho, hv, hv2⟩ := id hH
  unfold x6_line x5_known
  rw [if_neg (show ¬ (2 : Int32) = (0 : Int32) by decide), if_neg (show ¬ (2 : Int32) = (1 : Int32) by decide), if_pos rfl, PG_of _ hb, PG_of _ hb, hr 1 (by omega), show (5 : Int32) + nI (h 1) = nI (5 + h 1) from nI_add _ _, show (11 : Int32) + nI (h 1) = nI (11 + h 1) from nI_add _ _, show (17 : Int32) + nI (h 1) = nI (17 + h 1) from nI_add _ _]
  rcases fresh_v hT hX hH (pos := 5 + h 1) (by omega) with ⟨l2, c1, m1, p1, a1, k1, v1, l1, fk, f1, f2, w1, f3, f4, f5, f6, f7⟩ | ⟨c', m', f1, f2, f3, f4, f5⟩
  · have hb1 : gP c1 108 = some b := (f3.gP 108).trans hb
    have g20 : gL m1 20 (5 + h 1) = lN (p27 l2) := by rw [f4.gL 20, gL_sLs]
    have g20n : ∀ q, q ≠ 5 + h 1 → gL m1 20 q = gL m 20 q := fun q hq => by rw [f4.gL 20, gL_sLi _ _ _ (by omega)]
    have hr1 : ∀ k, k < 24 → gA m1 15 k = nI (h k) := fun k hk => by rw [f4.gA 15]; exact hr k hk
    have FM1 : FMh m m1 := (FMh_sL m _ _).trans f4.toh
    rw [f1, BX_r, e8, IX_nI _ hlim (by omega), LT, PG_of _ hb1, PG_of _ hb1, PG_of _ hb1, f2, BD2_some, if_neg (show ¬ (1 : Int32) = 0 by decide), show gI (sL e 1 (h 1) (lN (p8 l2))) 7 = nI (h 0) from e7, show gL (sL e 1 (h 1) (lN (p8 l2))) 0 = gL e 0 from gL_sLn _ _ _ (by omega)]
    rcases here_v (e := e) f5 f6 d0 (fun i hi => by rw [g20n _ (by omega)]; exact n0 i hi) (hr1 0 (by omega)) with ⟨q, q1, qk, q2, q3⟩ | ⟨c', m', t1, t2, t3, t4, t5⟩
    · have hX2 : LX 0 T N c1 (sA (sI m1 13 (nI q)) 15 (11 + h 1) (nI q)) p1 a1 k1 v1 l1 := LX_ext f6 (fun _ _ => rfl) rfl (fun i h1 h2 => by rw [gI_sA, gI_sIn _ _ (by omega)]) rfl
      obtain ⟨c2, m2, p2, a2, k2, v2, l2', s1, s2, s3, s4, s5, s6, s7, -⟩ := next_v (TPE_ext f5 rfl (by rw [gA_sAn _ _ _ (by omega), gA_sI])) hX2
      have hb2 : gP c2 108 = some b := (s3.gP 108).trans hb1
      have FM3 : FMh m m2 := (FM1.trans ((FM2_sI m1 _ (by omega)).toh.trans (FMh_sA _ _ _ (by omega)))).trans s4.fm2.toh
      rw [q2, BX_r, s1, BD_some, BX_r, LT, PG_of _ hb2, q3, BD2_some, put_1 _ (by omega), BD2_some, if_neg (show ¬ (1 : Int32) = 0 by decide), gI_sIs, s2, BD_some]
      rcases number_v s5 s6 (lo := 1) (hi := 9) (by omega) (by omega) with ⟨x, c3, m3, p3, a3, k3, v3, l3, y1, y2, y3, y4, y5, y6, y7, u, rfl, z1, z2, z3, -⟩ | ⟨c', m', t1, t2, t3, t4, t5⟩
      · have hb3 : gP c3 108 = some b := (y3.gP 108).trans hb2
        have y1' : x5_number 0 c2 (1 : Int32) (9 : Int32) = some (some (nI u), c3) := y1
        have y2' : m_readNumber m2 (1 : Int32) (9 : Int32) = some (1, m3) := y2
        have T4 : TPE T c3 (sA m3 15 (17 + h 1) (nI u)) := TPE_ext y5 rfl (by rw [gA_sAn _ _ _ (by omega)])
        have X4 : LX 0 T N c3 (sA m3 15 (17 + h 1) (nI u)) p3 a3 k3 v3 l3 := LX_ext y6 (fun _ _ => rfl) rfl (fun _ _ _ => rfl) rfl
        have FM4 : FMh m (sA m3 15 (17 + h 1) (nI u)) := (FM3.trans y4.toh).trans (FMh_sA _ _ _ (by omega))
        have FC4 : FRh c c3 := ((f3.trans s3.fr2).trans y3).toh
        rw [y1', BX_r, LT, y2', BD2_some, put_1 _ (by omega), BD2_some, if_neg (show ¬ (1 : Int32) = 0 by decide), z3, x5_is_v T4 X4 (by omega), W15, show (15 : Int32) = nI 15 from rfl, m_isWord_v X4 (by omega), BD_some, BD_some, JN1, JN2]
        have L3 : gL m3 20 = gL m1 20 := (y4.gL 20).trans (s4.gL 20)
        have A3 : gA m3 15 = gA (sA (sI m1 13 (nI q)) 15 (11 + h 1) (nI q)) 15 := (y4.gA 15).trans (s4.gA 15)
        have M11' : gA m3 15 (11 + h 1) = nI q := by rw [A3, gA_sAs]
        have M15' : ∀ i, i ≠ 11 + h 1 → gA m3 15 i = gA m 15 i := fun i hi => by rw [A3, gA_sAi _ _ _ (by omega), gA_sI, f4.gA 15]; rfl
        have M23a : gA m3 23 = gA m 23 := by
          rw [y4.gA 23, s4.gA 23, gA_sAn _ _ _ (by omega), gA_sI, f4.gA 23]; rfl
        have CC := (f3.trans s3.fr2).trans y3
        have p6 : 2 ^ h 1 < 2 ^ 6 := Nat.pow_lt_pow_right (by omega) hlim
        dsimp only
        cases hw0 : isW k3 l3 (WL 15)
        · rw [show bI false = (0 : Int32) from rfl, if_pos rfl, if_pos rfl]
          rw [PG_of _ hb3, LT, LT, show gI (sA (sA (sL e 1 (h 1) (lN (p8 l2))) 5 (h 1) (nI q)) 6 (h 1) (nI u)) 8 = nI (h 1) from e8, nI_1, show gA (sA m3 15 (17 + h 1) (nI u)) 15 1 = nI (h 1) by rw [gA_sAi _ _ _ (by omega), M15' _ (by omega)]; exact hr 1 (by omega), nI_1]
          obtain ⟨h', H'⟩ := hH.plant hlim w1 (q := q) (u := u) (s := h 23) q1 ⟨z1, z2⟩ d9 (c' := c3) (e' := sI (sA (sA (sL e 1 (h 1) (lN (p8 l2))) 5 (h 1) (nI q)) 6 (h 1) (nI u)) 8 (nI (h 1 + 1))) (m' := sA (sA m3 15 (17 + h 1) (nI u)) 15 1 (nI (h 1 + 1))) (CC.gP 108) (CC.2.2 109 (by omega)) (gL_sLn _ _ _ (by omega)) (gL_sLs _ _ _ _) (fun i hi => gL_sLi _ _ _ (by omega)) (gL_sLn _ _ _ (by omega)) (gL_sLn _ _ _ (by omega)) (gI_sIs _ _ _) (by rw [gI_sIn _ _ (by omega)]; exact e11) (fun k k1 k2 => by rw [gI_sIn _ _ (by omega)]; rfl) (by rw [gA_sI, gA_sAn _ _ _ (by omega), gA_sAn _ _ _ (by omega)]; rfl) (by rw [gA_sI, gA_sAn _ _ _ (by omega), gA_sAs]) (fun i hi => by rw [gA_sI, gA_sAn _ _ _ (by omega), gA_sAi _ _ _ (by omega)]; rfl) (by rw [gA_sI, gA_sAs]) (fun i hi => by rw [gA_sI, gA_sAi _ _ _ (by omega), gA_sAn _ _ _ (by omega)]; rfl) ((congrFun L3 _).trans g20) (fun i hi => (congrFun L3 _).trans (g20n i hi)) (gA_sAs _ _ _ _) (by rw [gA_sAi _ _ _ (by omega), gA_sAi _ _ _ (by omega)]; exact M11') (by rw [gA_sAi _ _ _ (by omega), gA_sAs]) (by rw [gA_sAi _ _ _ (by omega), gA_sAi _ _ _ (by omega), M15' _ (by omega)]; exact hr 23 (by omega)) (fun i i1 i2 i3 i4 => by rw [gA_sAi _ _ _ (by omega), gA_sAi _ _ _ (by omega)]; exact M15' i i2) (by rw [gA_sAn _ _ _ (by omega), gA_sAn _ _ _ (by omega)]; exact M23a)
          exact Or.inl ⟨c3, _, _, h', u5, u6, p3, a3, k3, v3, l3, rfl, rfl, H', FC4, FM4.trans (FMh_sA _ _ _ (by omega)), TPE_ext T4 rfl (by rw [gA_sAn _ _ _ (by omega)]), LX_ext X4 (fun _ _ => rfl) rfl (fun _ _ _ => rfl) rfl, by omega, by omega⟩
        · rw [show bI true = (1 : Int32) from rfl, if_neg (show ¬ (1 : Int32) = 0 by decide), if_neg (show ¬ (1 : Int32) = 0 by decide)]
          rw [LT, show gA (sA m3 15 (17 + h 1) (nI u)) 15 23 = nI (h 23) by rw [gA_sAi _ _ _ (by omega), M15' _ (by omega)]; exact hr 23 (by omega), shl1 (h 1) (by omega), nI_or (by omega) (by omega)]
          have X5 : LX 0 T N c3 (sA (sA m3 15 (17 + h 1) (nI u)) 15 23 (nI (h 23 ||| 2 ^ h 1))) p3 a3 k3 v3 l3 := LX_ext X4 (fun _ _ => rfl) rfl (fun _ _ _ => rfl) rfl
          obtain ⟨c4, m4, p4, a4, k4, v4, l4, r1, r2, r3, r4, r5, r6, r7, -⟩ := next_v (TPE_ext T4 rfl (by rw [gA_sAn _ _ _ (by omega)])) X5
          have hb4 : gP c4 108 = some b := (r3.gP 108).trans hb3
          rw [r1, r2, BD_some, BD_some, PG_of _ hb4, LT, PG_of _ hb4, LT, LT, show gI (sA (sA (sL e 1 (h 1) (lN (p8 l2))) 5 (h 1) (nI q)) 6 (h 1) (nI u)) 11 = nI (h 23) from e11, nI_or (by omega) (by omega), gI_sIn _ _ (by omega), show gI (sA (sA (sL e 1 (h 1) (lN (p8 l2))) 5 (h 1) (nI q)) 6 (h 1) (nI u)) 8 = nI (h 1) from e8, nI_1, show gA m4 15 1 = nI (h 1) by rw [r4.gA 15, gA_sAi _ _ _ (by omega), gA_sAi _ _ _ (by omega), M15' _ (by omega)]; exact hr 1 (by omega), nI_1]
          have CC2 := CC.trans r3.fr2
          have L4 : gL m4 20 = gL m1 20 := (r4.gL 20).trans L3
          obtain ⟨h', H'⟩ := hH.plant hlim w1 (q := q) (u := u) (s := h 23 ||| 2 ^ h 1) q1 ⟨z1, z2⟩ (Nat.or_lt_two_pow (n := 6) d9 p6) (c' := c4) (e' := sI (sI (sA (sA (sL e 1 (h 1) (lN (p8 l2))) 5 (h 1) (nI q)) 6 (h 1) (nI u)) 11 (nI (h 23 ||| 2 ^ h 1))) 8 (nI (h 1 + 1))) (m' := sA m4 15 1 (nI (h 1 + 1))) (CC2.gP 108) (CC2.2.2 109 (by omega)) (gL_sLn _ _ _ (by omega)) (gL_sLs _ _ _ _) (fun i hi => gL_sLi _ _ _ (by omega)) (gL_sLn _ _ _ (by omega)) (gL_sLn _ _ _ (by omega)) (gI_sIs _ _ _) (by rw [gI_sIn _ _ (by omega), gI_sIs]) (fun k k1 k2 => by rw [gI_sIn _ _ (by omega), gI_sIn _ _ (by omega)]; rfl) (by rw [gA_sI, gA_sI, gA_sAn _ _ _ (by omega), gA_sAn _ _ _ (by omega)]; rfl) (by rw [gA_sI, gA_sI, gA_sAn _ _ _ (by omega), gA_sAs]) (fun i hi => by rw [gA_sI, gA_sI, gA_sAn _ _ _ (by omega), gA_sAi _ _ _ (by omega)]; rfl) (by rw [gA_sI, gA_sI, gA_sAs]) (fun i hi => by rw [gA_sI, gA_sI, gA_sAi _ _ _ (by omega), gA_sAn _ _ _ (by omega)]; rfl) ((congrFun L4 _).trans g20) (fun i hi => (congrFun L4 _).trans (g20n i hi)) (gA_sAs _ _ _ _) (by rw [gA_sAi _ _ _ (by omega), r4.gA 15, gA_sAi _ _ _ (by omega), gA_sAi _ _ _ (by omega)]; exact M11') (by rw [gA_sAi _ _ _ (by omega), r4.gA 15, gA_sAi _ _ _ (by omega), gA_sAs]) (by rw [gA_sAi _ _ _ (by omega), r4.gA 15, gA_sAs]) (fun i i1 i2 i3 i4 => by rw [gA_sAi _ _ _ (by omega), r4.gA 15, gA_sAi _ _ _ (by omega), gA_sAi _ _ _ (by omega)]; exact M15' i i2) (by rw [gA_sAn _ _ _ (by omega), r4.gA 23, gA_sAn _ _ _ (by omega), gA_sAn _ _ _ (by omega)]; exact M23a)
          exact Or.inl ⟨c4, _, _, h', u5, u6, p4, a4, k4, v4, l4, rfl, rfl, H', FC4.trans r3.fr2.toh, ((FM4.trans (FMh_sA _ _ _ (by omega))).trans r4.fm2.toh).trans (FMh_sA _ _ _ (by omega)), TPE_ext r5 rfl (by rw [gA_sAn _ _ _ (by omega)]), LX_ext r6 (fun _ _ => rfl) rfl (fun _ _ _ => rfl) rfl, by omega, by omega⟩
      · have t1' : x5_number 0 c2 (1 : Int32) (9 : Int32) = some (none, c') := t1
        have t2' : m_readNumber m2 (1 : Int32) (9 : Int32) = some (0, m') := t2
        rw [t1', BX_t, t2', BD2_some, put_0, BD2_some, if_pos rfl]
        exact Or.inr ⟨c', _, m', rfl, rfl, ((f3.trans s3.fr2).trans t3).toh, FM3.trans t4.toh, t5⟩
    · rw [t1, BX_t, BX_t, t2, BD2_some, put_0, BD2_some, if_pos rfl]
      exact Or.inr ⟨c', _, m', rfl, rfl, (f3.trans t3).toh, FM1.trans t4.toh, t5⟩
  · rw [f1, BX_t, f2, BD2_some, if_pos rfl]
    exact Or.inr ⟨c', e, m', rfl, rfl, f3.toh, f4.toh, f5⟩
end HOUSE
