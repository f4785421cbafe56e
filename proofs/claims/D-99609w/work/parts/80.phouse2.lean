/-! PURE: a house is read: the loop -/
/-- two loops side by side, with a measure -/
theorem LP32_inv {A1 A2 A3 B1 B2 R S : Type} {body : (A1 → A2 → A3 → Option R) → A1 → A2 → A3 → Option R} {bodyM : (B1 → B2 → Option S) → B1 → B2 → Option S} (I : Nat → A1 → A2 → A3 → B1 → B2 → Prop) (Q : Option R → Option S → Prop) (hs : ∀ (i : Nat) (a1 : A1) (a2 : A2) (a3 : A3) (b1 : B1) (b2 : B2) (rec : A1 → A2 → A3 → Option R) (recM : B1 → B2 → Option S), I i a1 a2 a3 b1 b2 → (∃ j x1 x2 x3 y1 y2, j < i ∧ I j x1 x2 x3 y1 y2 ∧ body rec a1 a2 a3 = rec x1 x2 x3 ∧ bodyM recM b1 b2 = recM y1 y2) ∨ Q (body rec a1 a2 a3) (bodyM recM b1 b2)) : ∀ (F i : Nat) (a1 : A1) (a2 : A2) (a3 : A3) (b1 : B1) (b2 : B2), i < F → I i a1 a2 a3 b1 b2 → Q (LP3 body F a1 a2 a3) (LP2 bodyM F b1 b2) := by
  intro F
  induction F with
  | zero => intro i a1 a2 a3 b1 b2 h; omega
  | succ F ih =>
    intro i a1 a2 a3 b1 b2 h hI
    rw [LP3_s, LP2_s]
    rcases hs i a1 a2 a3 b1 b2 (LP3 body F) (LP2 bodyM F) hI with ⟨j, x1, x2, x3, y1, y2, hj, hI2, e1, e2⟩ | hq
    · rw [e1, e2]
      exact ih j x1 x2 x3 y1 y2 (by omega) hI2
    · exact hq
def hB (b : Nat) : (Int32 → Rec → Rec → Option (Option Int32 × Rec × Rec)) → Int32 → Rec → Rec → Option (Option Int32 × Rec × Rec) := (fun (rec8 : Int32 → Rec → Rec → Option (Option Int32 × Rec × Rec)) (v5 : Int32) (s6 : Rec) (s7 : Rec) => (if (gI s7 103) = 0 then some (some v5, s6, s7) else BD (x5_find 0 s7 (fun i => i + 0) 7) (fun v10 => JN1 (fun (v11 : Int32) => BX (x5_must 0 s7 v11 (1 : Int32)) (fun s14 => some (none, s6, s14)) (fun u15 s14 => JN1 (fun (v16 : Int32) => BX (x5_must 0 s14 v16 (3 : Int32)) (fun s19 => some (none, s6, s19)) (fun u20 s19 => BD (x6_isRoom s19 b s6 v10) (fun v22 => BX (x5_must 0 s19 v22 (4 : Int32)) (fun s24 => some (none, s6, s24)) (fun u25 s24 => LT (sI s24 109 ((gI s24 109) ||| ((1 : Int32) <<< (v10 &&& 31)))) (fun s26 => BD (x5_next 0 s26) (fun s28 => BX2 (x6_line s28 b s6 v10) (fun s30 s31 => some (none, s30, s31)) (fun u32 s30 s31 => BX (x5_sign 0 s31 (59 : Int32)) (fun s34 => some (none, s30, s34)) (fun u35 s34 => rec8 (v5 + (1 : Int32)) s30 s34)))))))) (fun (j17 : Int32 → Option (Option Int32 × Rec × Rec)) => (if v10 < (5 : Int32) then j17 (1 : Int32) else BD (x1_has (gI s14 109) v10) (fun v37 => (if v37 = 0 then j17 (1 : Int32) else j17 (0 : Int32))))))) (fun (j12 : Int32 → Option (Option Int32 × Rec × Rec)) => (if v10 = (-1 : Int32) then j12 (0 : Int32) else j12 (1 : Int32))))))
def mB : (Int32 → Rec → Option (Int32 × Rec)) → Int32 → Rec → Option (Int32 × Rec) := (fun (rec12 : Int32 → Rec → Option (Int32 × Rec)) (v10 : Int32) (s11 : Rec) => (if (gI s11 7) = 0 then LP2 (fun (rec15 : Int32 → Rec → Option (Int32 × Rec)) (v13 : Int32) (s14 : Rec) => (if (24 : Int32) ≤ v13 then LP2 (fun (rec18 : Int32 → Rec → Option (Int32 × Rec)) (v16 : Int32) (s17 : Rec) => (if (20 : Int32) ≤ v16 then BD (m_startSo s17) (fun s20 => LT (sI s20 24 (0 : Int32)) (fun s21 => some (v10, s21))) else IX v16 20 (fun i22 => LT (sL s17 19 i22 (gL s17 20 i22)) (fun s23 => rec18 (v16 + (1 : Int32)) s23)))) FU (0 : Int32) s14 else IX v13 24 (fun i24 => IX v13 406 (fun i25 => LT (sA s14 14 i25 (gA s14 15 i24)) (fun s26 => rec15 (v13 + (1 : Int32)) s26))))) FU (0 : Int32) s11 else BD2 (m_readLine s11) (fun v28 s29 => (if v28 = 0 then some (((-1 : Int32) - (gI s29 11)), s29) else BD2 (m_readEnd s29) (fun v31 s32 => (if v31 = 0 then some (((-1 : Int32) - (gI s32 11)), s32) else rec12 (v10 + (1 : Int32)) s32))))))
theorem x6_read_B (s : Rec) (b : Nat) (e : Rec) : x6_read s b e = LT (sP s 108 (some b)) (fun s1 => LT (sI s1 109 (0 : Int32)) (fun s2 => BD (x5_begin 0 s2) (fun s4 => LP3 (hB b) FU (0 : Int32) e s4))) := rfl
theorem m_house_B (s : Rec) : m_house s = BD (m_begin s (900 : Int32)) (fun s2 => LP2 (fun (rec5 : Int32 → Rec → Option (Int32 × Rec)) (v3 : Int32) (s4 : Rec) => (if (24 : Int32) ≤ v3 then LT (sA s4 23 0 (0 : Int32)) (fun s6 => LT (sA s6 23 1 (0 : Int32)) (fun s7 => LT (sA s7 15 4 (6 : Int32)) (fun s8 => LT (sA s8 15 5 (2 : Int32)) (fun s9 => LP2 mB FU (0 : Int32) s9)))) else IX v3 24 (fun i33 => LT (sA s4 15 i33 (0 : Int32)) (fun s34 => rec5 (v3 + (1 : Int32)) s34)))) FU (0 : Int32) s2) := rfl
theorem BX2_t {α β : Type} (e s : Rec) (kx : Rec → Rec → Option β) (k : α → Rec → Rec → Option β) : BX2 (some (none, e, s)) kx k = kx e s := rfl
theorem BX2_r {α β : Type} (v : α) (e s : Rec) (kx : Rec → Rec → Option β) (k : α → Rec → Rec → Option β) : BX2 (some (some v, e, s)) kx k = k v e s := rfl
/-- how a step of the loop ends -/
def OS (b : Nat) (T : Nat → Nat) (N : Nat) (c m : Rec) (p0 : Nat) (P : Prop) (oc : Option (Option Int32 × Rec × Rec)) (om : Option (Int32 × Rec)) (rec : Int32 → Rec → Rec → Option (Option Int32 × Rec × Rec)) (recM : Int32 → Rec → Option (Int32 × Rec)) (v5 v10 : Int32) : Prop :=
  (∃ c' e' m' h' u5 u6 p a k v l, oc = rec (v5 + 1) e' c' ∧ om = recM (v10 + 1) m' ∧ HR b c' e' m' h' u5 u6 ∧ FRh c c' ∧ FMh m m' ∧ TPE T c' m' ∧ LX 0 T N c' m' p a k v l ∧ p0 ≤ p ∧ P) ∨ (∃ c' e' m', oc = some (none, e', c') ∧ om = some ((-1 : Int32) - gI m' 11, m') ∧ FRh c c' ∧ FMh m m' ∧ ER c' m')
theorem tail_v {b : Nat} {T : Nat → Nat} {N : Nat} {c m : Rec} {p k : Nat} {oc : Option (Option Unit × Rec × Rec)} {om : Option (Int32 × Rec)} (h : OH b T N c m p k oc om) (rec : Int32 → Rec → Rec → Option (Option Int32 × Rec × Rec)) (recM : Int32 → Rec → Option (Int32 × Rec)) (v5 v10 : Int32) : OS b T N c m p (k = 1 ∨ k = 2) (BX2 oc (fun s30 s31 => some (none, s30, s31)) (fun u32 s30 s31 => BX (x5_sign 0 s31 (59 : Int32)) (fun s34 => some (none, s30, s34)) (fun u35 s34 => rec (v5 + (1 : Int32)) s30 s34))) (BD2 om (fun v28 s29 => (if v28 = 0 then some (((-1 : Int32) - (gI s29 11)), s29) else BD2 (m_readEnd s29) (fun v31 s32 => (if v31 = 0 then some (((-1 : Int32) - (gI s32 11)), s32) else recM (v10 + (1 : Int32)) s32))))) rec recM v5 v10 := by
  rcases h with ⟨c', e', m', h', u5, u6, p', a', k', v', l', rfl, rfl, hH, f1, f2, hT, hX, hp, hk⟩ | ⟨c', e', m', rfl, rfl, f1, f2, f3⟩
  · rw [BX2_r, BD2_some, if_neg (show ¬ (1 : Int32) = 0 by decide)]
    rcases end_v hT hX with ⟨x, c2, m2, p2, a2, k2, v2, l2, g1, g2, g3, g4, g5, g6, g7, -⟩ | ⟨c2, m2, g1, g2, g3, g4, g5⟩
    · rw [g1, g2, BX_r, BD2_some, if_neg (show ¬ (1 : Int32) = 0 by decide)]
      exact Or.inl ⟨c2, e', m2, h', u5, u6, p2, a2, k2, v2, l2, rfl, rfl, hH.fr g3 g4, f1.trans g3.toh, f2.trans g4.toh, g5, g6, by omega, hk⟩
    · rw [g1, g2, BX_t, BD2_some, if_pos rfl]
      exact Or.inr ⟨c2, e', m2, rfl, rfl, f1.trans g3.toh, f2.trans g4.toh, g5⟩
  · rw [BX2_t, BD2_some, if_pos rfl]
    exact Or.inr ⟨c', e', m', rfl, rfl, f1, f2, f3⟩
section STEP
variable {T : Nat → Nat} {N : Nat} {c m e : Rec} {p a k v b : Nat} {l : List Nat} {h : Nat → Nat} {u5 u6 : Bool}
/-- what follows the word of a line -/
def aB (b : Nat) (rec8 : Int32 → Rec → Rec → Option (Option Int32 × Rec × Rec)) (v5 : Int32) (s6 s7 : Rec) (v10 : Int32) : Option (Option Int32 × Rec × Rec) := LT (sI s7 109 ((gI s7 109) ||| ((1 : Int32) <<< (v10 &&& 31)))) (fun s26 => BD (x5_next 0 s26) (fun s28 => BX2 (x6_line s28 b s6 v10) (fun s30 s31 => some (none, s30, s31)) (fun u32 s30 s31 => BX (x5_sign 0 s31 (59 : Int32)) (fun s34 => some (none, s30, s34)) (fun u35 s34 => rec8 (v5 + (1 : Int32)) s30 s34))))
def zB (recM : Int32 → Rec → Option (Int32 × Rec)) (v10 : Int32) (om : Option (Int32 × Rec)) : Option (Int32 × Rec) := BD2 om (fun v28 s29 => (if v28 = 0 then some (((-1 : Int32) - (gI s29 11)), s29) else BD2 (m_readEnd s29) (fun v31 s32 => (if v31 = 0 then some (((-1 : Int32) - (gI s32 11)), s32) else recM (v10 + (1 : Int32)) s32))))
theorem lf_7 {f : Nat → Bool} : (∀ i, i < 7 → f i = false) ∨ ∃ i, i < 7 ∧ f i = true ∧ ∀ j, j < i → f j = false := by
  rcases least_cases f 7 with ⟨q, q1, q2, q3⟩ | hno
  · exact Or.inr ⟨q, q1, q2, q3⟩
  · exact Or.inl hno
theorem WL_SN {i : Nat} (hi : i < 7) : WL i = SN i := by
  unfold WL
  rw [if_pos hi]
theorem after_v (hT : TPE T c m) (hX : LX 0 T N c m p a k v l) {m1 : Rec} {i : Int32} (hA : gA m1 1 = gA m 1) (hI : ∀ q, 3 ≤ q → q ≤ 10 → gI m1 q = gI m q) (hJ : gJ m1 12 = gJ m 12) (hF : FMh m m1) (hH : HR b (sI c 109 ((gI c 109) ||| ((1 : Int32) <<< (i &&& 31)))) e m1 h u5 u6) {om : Rec → Option (Int32 × Rec)} (hl : ∀ c' m' p' a' k' v' l', TPE T c' m' → LX 0 T N c' m' p' a' k' v' l' → HR b c' e m' h u5 u6 → OH b T N c' m' p' k' (x6_line c' b e i) (om m')) (rec : Int32 → Rec → Rec → Option (Option Int32 × Rec × Rec)) (recM : Int32 → Rec → Option (Int32 × Rec)) (v5 v10 : Int32) : ∃ m', m_go m1 = some m' ∧ OS b T N c m (p + 1) True (aB b rec v5 e c i) (zB recM v10 (om m')) rec recM v5 v10 := by
  generalize hc1 : sI c 109 ((gI c 109) ||| ((1 : Int32) <<< (i &&& 31))) = c1 at hH
  have F1 : FRh c c1 := by rw [← hc1]; exact FRh_sI c _ (by omega)
  have X1 : LX 0 T N c1 m1 p a k v l := by
    rw [← hc1]
    exact LX_ext hX (fun q hq => gI_sIn _ _ (by have : rb 0 = 100 := rfl; omega)) rfl hI hJ
  obtain ⟨c2, m2, p2, a2, k2, v2, l2, n1, n2, n3, n4, n5, n6, n7, n8⟩ := next_v (TPE_ext hT (congrFun F1.1 0) hA) X1
  refine ⟨m2, n2, ?_⟩
  have hO := hl c2 m2 p2 a2 k2 v2 l2 n5 n6 (hH.fr n3.fr2 n4.fm2)
  have hs := tail_v hO rec recM v5 v10
  unfold aB zB
  rw [LT, hc1, n1, BD_some]
  rcases hs with ⟨c', e', m', h', u5', u6', p', a', k', v', l', g1, g2, g3, g4, g5, g6, g7, g8, g9⟩ | ⟨c', e', m', g1, g2, g3, g4, g5⟩
  · have := n8 (by omega) (by omega)
    exact Or.inl ⟨c', e', m', h', u5', u6', p', a', k', v', l', g1, g2, g3, (F1.trans n3.fr2.toh).trans g4, (hF.trans n4.fm2.toh).trans g5, g6, g7, by omega, trivial⟩
  · exact Or.inr ⟨c', e', m', g1, g2, (F1.trans n3.fr2.toh).trans g3, (hF.trans n4.fm2.toh).trans g4, g5⟩
theorem hB_low (rec : Int32 → Rec → Rec → Option (Option Int32 × Rec × Rec)) (v5 : Int32) {i : Nat} (hi : i < 5) (hk : ¬ gI c 103 = 0) (hf : x5_find 0 c (fun i => i + 0) 7 = some (nI i)) : hB b rec v5 e c = BD (x6_isRoom c b e (nI i)) (fun v22 => BX (x5_must 0 c v22 (4 : Int32)) (fun s24 => some (none, e, s24)) (fun _ s24 => aB b rec v5 e s24 (nI i))) := by
  unfold hB
  rw [if_neg hk, hf, BD_some, JN1]
  dsimp only
  rw [if_neg (nI_ne_m1 (by omega)), must_1, BX_r, JN1]
  dsimp only
  rw [if_pos (show nI i < (5 : Int32) from nI_lt (b := 5) hi (by omega)), must_1, BX_r]
  rfl
theorem hB_high (rec : Int32 → Rec → Rec → Option (Option Int32 × Rec × Rec)) (v5 : Int32) {i : Nat} (hi : i = 5 ∨ i = 6) (hk : ¬ gI c 103 = 0) (hf : x5_find 0 c (fun i => i + 0) 7 = some (nI i)) : hB b rec v5 e c = if hs (gI c 109) (nI i) = true then BX (x5_must 0 c 0 (3 : Int32)) (fun s19 => some (none, e, s19)) (fun _ s24 => aB b rec v5 e s24 (nI i)) else aB b rec v5 e c (nI i) := by
  have hroom : ∀ s, x6_isRoom s b e (nI i) = some 1 := fun s => by
    rcases hi with rfl | rfl <;> rfl
  unfold hB
  rw [if_neg hk, hf, BD_some, JN1]
  dsimp only
  rw [if_neg (nI_ne_m1 (by omega)), must_1, BX_r, JN1]
  dsimp only
  rw [if_neg (show ¬ nI i < (5 : Int32) by rcases hi with rfl | rfl <;> decide), x1_has_v, BD_some]
  cases hh : hs (gI c 109) (nI i)
  · rw [show bI false = (0 : Int32) from rfl, if_pos rfl, must_1, BX_r, hroom, BD_some, must_1, BX_r, if_neg (by decide)]
    rfl
  · rw [show bI true = (1 : Int32) from rfl, if_neg (show ¬ (1 : Int32) = 0 by decide), if_pos rfl]
    congr 1
    funext u s
    rw [hroom, BD_some, must_1, BX_r]
    rfl
theorem mB_z (recM : Int32 → Rec → Option (Int32 × Rec)) (v10 : Int32) (hk : ¬ gI m 7 = 0) : mB recM v10 m = zB recM v10 (m_readLine m) := by
  unfold mB
  rw [if_neg hk]
  rfl
theorem zB_0 (recM : Int32 → Rec → Option (Int32 × Rec)) (v10 : Int32) (m' : Rec) : zB recM v10 (some (0, m')) = some ((-1 : Int32) - gI m' 11, m') := by
  unfold zB
  rw [BD2_some, if_pos rfl]
theorem OH_bz {om : Option (Int32 × Rec)} {oc : Option (Option Unit × Rec × Rec)} (h : OH b T N c m p k oc om) : OH b T N c m p k oc (BD2 om (fun v s => BZ v (some (v, s)))) := by
  rcases h with ⟨c', e', m', h', u5, u6, p', a', k', v', l', g1, g2, g3⟩ | ⟨c', e', m', g1, g2, g3⟩
  · exact Or.inl ⟨c', e', m', h', u5, u6, p', a', k', v', l', g1, by rw [g2, BD2_some, BZ_1], g3⟩
  · exact Or.inr ⟨c', e', m', g1, by rw [g2, BD2_some, BZ_0], g3⟩
end STEP
