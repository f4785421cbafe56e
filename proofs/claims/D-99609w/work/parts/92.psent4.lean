/-! PURE: sentences: the whole -/
section ONE
variable {x b : Nat} {e : Rec} {d : Nat → Nat} {W : Wd} {T : Nat → Nat} {N : Nat} {c m : Rec} {p a k v : Nat} {l : List Nat} {o nn w : Nat} {nd : Nat → Nat}
theorem fdc_ext {c c' : Nat → Bool} : ∀ {n : Nat}, (∀ i, i < n → c i = c' i) → fdc c n = fdc c' n := by
  intro n
  induction n with
  | zero => intro _; rfl
  | succ n ih =>
    intro h
    show (if fdc c n ≠ 0 then fdc c n else if c n = true then n + 1 else 0) = (if fdc c' n ≠ 0 then fdc c' n else if c' n = true then n + 1 else 0)
    rw [ih (fun i hi => h i (by omega)), h n (by omega)]
theorem sd_at {rc : Nat → Rec → Option (Int32 × Rec)} {v2 : Int32} (hX : LX 2 T N c m p a k v l) {i : Nat} (hi : i < 9) (h1 : isW k l (WL (13 + i)) = true) (h2 : ∀ j, j < i → isW k l (WL (13 + j)) = false) : LP1 (sdB rc m v2) FU (13 : Int32) = sdU rc m v2 (nI (13 + i)) := by
  refine LP1_run (fun i => nI (13 + i)) 0 i (by omega) rfl (fun j _ hj rec => ?_) (fun rec => ?_)
  · show sdB rc m v2 rec (nI (13 + j)) = rec (nI (13 + (j + 1)))
    unfold sdB
    rw [JN1, if_neg (show ¬ (21 : Int32) < nI (13 + j) from nI_nlt (a := 21) (by omega) (by omega)), m_isWord_v hX (by omega), h2 j (by omega), BD_some, if_pos (show bI false = (0 : Int32) from rfl), nI_1]
    rfl
  · rw [Nat.zero_add]
    show sdB rc m v2 rec (nI (13 + i)) = _
    unfold sdB
    rw [JN1, if_neg (show ¬ (21 : Int32) < nI (13 + i) from nI_nlt (a := 21) (by omega) (by omega)), m_isWord_v hX (by omega), h1, BD_some, if_neg (show ¬ bI true = (0 : Int32) by decide)]
theorem sd_no {rc : Nat → Rec → Option (Int32 × Rec)} {v2 : Int32} (hX : LX 2 T N c m p a k v l) (h2 : ∀ j, j < 9 → isW k l (WL (13 + j)) = false) : LP1 (sdB rc m v2) FU (13 : Int32) = sdU rc m v2 (nI 22) := by
  refine LP1_run (fun i => nI (13 + i)) 0 9 (by omega) rfl (fun j _ hj rec => ?_) (fun rec => ?_)
  · show sdB rc m v2 rec (nI (13 + j)) = rec (nI (13 + (j + 1)))
    unfold sdB
    rw [JN1, if_neg (show ¬ (21 : Int32) < nI (13 + j) from nI_nlt (a := 21) (by omega) (by omega)), m_isWord_v hX (by omega), h2 j (by omega), BD_some, if_pos (show bI false = (0 : Int32) from rfl), nI_1]
    rfl
  · show sdB rc m v2 rec (nI 22) = _
    unfold sdB
    rw [JN1, if_pos (show (21 : Int32) < nI 22 by decide)]
theorem single_v {rs ra : Wd → Nat → Int32 → Option (Option Nat × Wd)} {rc : Nat → Rec → Option (Int32 × Rec)}
    (hnot : w < 8 → ∃ f, (∀ s, rc 2 s = BD2 (f s) (fun v2 s3 => (if v2 = 0 then some ((0 : Int32), s3) else BD2 (m_saysOne s3 (1 : Int32) (gI s3 44) (0 : Int32) (0 : Int32)) (fun v5 s6 => LT (sI s6 44 v5) (fun s7 => some ((1 : Int32), s7)))))) ∧ PSp x b e d rs f (w + 1))
    (hbr : w < 8 → ∃ f, (∀ s, rc 1 s = BD2 (f s) (fun v2 s3 => (if v2 = 0 then some ((0 : Int32), s3) else BD (m_isSign s3 (41 : Int32)) (fun v5 => (if v5 = 0 then BD2 (m_bad s3 (1 : Int32)) (fun v9 s10 => BZ v9 (some (v9, s10))) else BD (m_go s3) (fun s7 => some ((1 : Int32), s7))))))) ∧ PSp x b e d ra f (w + 1)) :
    PSp x b e d (b_single rs ra) (b_readSaid rc) w := by
  intro W T N c m p a k v l o nn nd hS
  obtain ⟨t1, t2, t3, t4, t5, t6, t7, t8, t9, t10, t11, t12⟩ := id hS
  have z1 : ¬ (1 : Int32) = 0 := by decide
  obtain ⟨s40, m40⟩ := is2_v t3 (t := 40) (by omega)
  have h38 := x5_is_v t2 t3 (i := 38) (by omega)
  have f30 := x5_find_v t2 t3 (o := 30) (n := 5) (by omega)
  have f35 := x5_find_v t2 t3 (o := 35) (n := 3) (by omega)
  have e30 : fdc (fun i => isW k l (SN (i + 30))) 5 = fdc (fun i => isW k l (WL (14 + i))) 5 := fdc_ext (fun i hi => by rw [W30.2.1 i hi])
  have e35 : fdc (fun i => isW k l (SN (i + 35))) 3 = fdc (fun i => isW k l (WL (19 + i))) 3 := fdc_ext (fun i hi => by rw [W30.2.2.1 i hi])
  rw [W30.1] at h38
  rw [e30] at f30
  rw [e35] at f35
  rw [b_single_B, b_readSaid_B, RD_of _ t1.1, h38, BD_some, show (40 : Int32) = nI 40 from rfl, s40, BD_some, f30, BD_some, f35, BD_some, m40, BD_some, JN1]
  cases h40 : (decide (k = 3) && decide (v = 40))
  · rcases least_cases (fun i => isW k l (WL (13 + i))) 9 with ⟨i, hi, h1, h2⟩ | hno
    · have hk : k = 1 := isW_1 h1
      have oth : ∀ j, j < 22 → j ≠ 13 + i → isW k l (WL j) = false := fun j hj hn => isW_ne h1 (fun e => hn (WL_inj _ (by omega) _ hj e).symm)
      rw [show bI false = (0 : Int32) from rfl, sd_at t3 hi h1 h2]
      unfold sdU
      rw [JN1, if_pos rfl, if_pos (show nI (13 + i) ≤ (21 : Int32) from nI_le (b := 21) (by omega) (by omega))]
      by_cases i0 : i = 0
      · subst i0
        rw [show isW k l (WL 13) = true from h1, show bI true = (1 : Int32) from rfl, if_neg z1]
        dsimp only
        rw [RD_of _ t1.1, must_1, BX_r, LT]
        refine stageR hS (by omega) (fun ho hw c1 m1 p1 a1 k1 v1 l1 S1 => ?_)
        obtain ⟨f, g1, g2⟩ := hnot hw
        exact tail_not g1 g2 S1
      · rw [oth 13 (by omega) (by omega), show bI false = (0 : Int32) from rfl, if_pos rfl, if_pos rfl]
        by_cases i6 : i < 6
        · have q1 : fdc (fun i => isW k l (WL (14 + i))) 5 = (i - 1) + 1 := fdc_at (k := i - 1) (by show isW k l (WL (14 + (i - 1))) = true; rw [show 14 + (i - 1) = 13 + i by omega]; exact h1) (fun j hj => oth (14 + j) (by omega) (by omega)) (by omega)
          rw [q1, lf_s, if_neg (nI_ne_m1 (by omega))]
          dsimp only
          rw [RD_of _ t1.1, must_1, BX_r, LT, show 13 + i = 14 + (i - 1) by omega]
          exact stageR hS (by omega) (fun ho hw c1 m1 p1 a1 k1 v1 l1 S1 => tail_mark (by omega) t9 S1)
        · have q0 : fdc (fun i => isW k l (WL (14 + i))) 5 = 0 := fdc_none (fun j hj => oth (14 + j) (by omega) (by omega))
          have q1 : fdc (fun i => isW k l (WL (19 + i))) 3 = (i - 6) + 1 := fdc_at (k := i - 6) (by show isW k l (WL (19 + (i - 6))) = true; rw [show 19 + (i - 6) = 13 + i by omega]; exact h1) (fun j hj => oth (19 + j) (by omega) (by omega)) (by omega)
          rw [q0, q1, lf_s, show lf 0 = (-1 : Int32) by decide, if_pos rfl, if_neg (nI_ne_m1 (by omega))]
          dsimp only
          rw [RD_of _ t1.1, must_1, BX_r, LT, show 13 + i = 19 + (i - 6) by omega]
          exact stageR hS (by omega) (fun ho hw c1 m1 p1 a1 k1 v1 l1 S1 => tail_count (by omega) t9 S1)
    · have q0 : fdc (fun i => isW k l (WL (14 + i))) 5 = 0 := fdc_none (fun j hj => by have := hno (j + 1) (by omega); rw [show 13 + (j + 1) = 14 + j by omega] at this; exact this)
      have q1 : fdc (fun i => isW k l (WL (19 + i))) 3 = 0 := fdc_none (fun j hj => by have := hno (j + 6) (by omega); rw [show 13 + (j + 6) = 19 + j by omega] at this; exact this)
      obtain ⟨c', m', f1, f2, f3, f4, f5⟩ := fail_v t3 (e := 1) (by omega) (by omega) (by omega)
      rw [show isW k l (WL 13) = false from hno 0 (by omega), q0, q1, show bI false = (0 : Int32) from rfl, show lf 0 = (-1 : Int32) by decide, if_pos rfl, if_pos rfl, if_pos rfl, if_pos rfl, sd_no t3 hno]
      dsimp only
      unfold sdU
      rw [JN1, if_pos rfl, if_neg (show ¬ nI 22 ≤ (21 : Int32) by decide), RD_of _ t1.1, show (1 : Int32) = nI 1 from rfl, f1, f2, BX_t, BD2_some, BZ_0]
      exact Or.inr ⟨_, c', m', o, rfl, rfl, (t1.wr c').mono (by omega), Nat.le_refl _, t7, f3.toh, FM2.tos f4, f5⟩
  · have hk : k = 3 := by
      rw [Bool.and_eq_true] at h40
      exact of_decide_eq_true h40.1
    have nw : ∀ ws, isW k l ws = false := fun ws => by
      unfold isW
      rw [decide_eq_false (by omega), Bool.false_and]
    rw [nw, show bI false = (0 : Int32) from rfl, show bI true = (1 : Int32) from rfl, if_pos rfl, if_neg z1, sd_no t3 (fun _ _ => nw _)]
    dsimp only
    unfold sdU
    rw [JN1, if_neg z1, RD_of _ t1.1, must_1, BX_r, LT]
    refine stageR hS (by omega) (fun ho hw c1 m1 p1 a1 k1 v1 l1 S1 => ?_)
    obtain ⟨f, g1, g2⟩ := hbr hw
    exact tail_open g1 g2 S1
theorem ini18 (W : Wd) (q q1 q2 : Nat) (r : Rec) (h : W.2 q = some (15, r)) : x18_init W q q1 q2 = some (wp W q 15 (sP (sP r 0 (some q1)) 1 (some q2))) := by
  unfold x18_init
  rw [RD_of _ h, LT, LT, LT, LT, wp_wp]
theorem ini19 (W : Wd) (q q1 q2 : Nat) (r : Rec) (h : W.2 q = some (16, r)) : x19_init W q q1 q2 = some (wp W q 16 (sP (sP r 0 (some q1)) 1 (some q2))) := by
  unfold x19_init
  rw [RD_of _ h, LT, LT, LT, LT, wp_wp]
theorem any_v {rs : Wd → Nat → Int32 → Option (Option Nat × Wd)} {H : Nat} (h : PSp x b e d rs (m_rd H 4) w) : PSp x b e d (b_any (b_both rs)) (m_rd (H + 2) 3) w := by
  have e1 : m_rd (H + 2) 3 = jM (nI 11) (nI 3) (m_rd (H + 1) 0) := by funext s; rfl
  have e2 : m_rd (H + 1) 0 = jM (nI 12) (nI 2) (m_rd H 4) := by funext s; rfl
  rw [b_any_B, b_both_B, e1, e2]
  exact join_v (by omega) (by omega) W30.2.2.2.2 (Or.inr ⟨rfl, rfl⟩) ini19 (join_v (by omega) (by omega) W30.2.2.2.1 (Or.inl ⟨rfl, rfl⟩) ini18 h)
theorem sg_v : ∀ (t w n F : Nat), w + t = 8 → t + 1 ≤ n → 4 * t + 1 ≤ F → PSp x b e d (x8_sg n) (m_rd F 4) w := by
  intro t
  induction t with
  | zero =>
    intro w n F hw hn hF
    obtain ⟨n, rfl⟩ : ∃ z, n = z + 1 := ⟨n - 1, by omega⟩
    obtain ⟨F, rfl⟩ : ∃ z, F = z + 1 := ⟨F - 1, by omega⟩
    have e1 : x8_sg (n + 1) = b_single (x8_sg n) (b_any (b_both (x8_sg n))) := rfl
    have e2 : m_rd (F + 1) 4 = b_readSaid (m_rd F) := rfl
    rw [e1, e2]
    exact single_v (fun h => absurd h (by omega)) (fun h => absurd h (by omega))
  | succ t ih =>
    intro w n F hw hn hF
    obtain ⟨n, rfl⟩ : ∃ z, n = z + 1 := ⟨n - 1, by omega⟩
    obtain ⟨H, rfl⟩ : ∃ z, F = z + 4 := ⟨F - 4, by omega⟩
    have e1 : x8_sg (n + 1) = b_single (x8_sg n) (b_any (b_both (x8_sg n))) := rfl
    have e2 : m_rd (H + 4) 4 = b_readSaid (m_rd (H + 3)) := rfl
    rw [e1, e2]
    exact single_v (fun _ => ⟨m_rd (H + 2) 4, fun s => rfl, ih (w + 1) n (H + 2) (by omega) (by omega) (by omega)⟩) (fun _ => ⟨m_rd (H + 2) 3, fun s => rfl, any_v (ih (w + 1) n H (by omega) (by omega) (by omega))⟩)
end ONE
