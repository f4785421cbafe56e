/-! PURE: a maid and a family; where it was -/
/-- the first of the least -/
def amN (g : Nat → Nat) : Nat → Nat
  | 0 => 0
  | l + 1 => if g l < g (amN g l) then l else amN g l
theorem amN_s (g : Nat → Nat) (l : Nat) : amN g (l + 1) = if g l < g (amN g l) then l else amN g l := rfl
theorem amN_1 (g : Nat → Nat) : amN g 1 = 0 := by rw [amN_s]; show (if g 0 < g 0 then 0 else 0) = 0; split <;> rfl
theorem amN_le (g : Nat → Nat) : ∀ l, amN g l ≤ l := by
  intro l
  induction l with
  | zero => exact Nat.le_refl _
  | succ l ih => rw [amN_s]; split <;> omega
theorem amN_lt (g : Nat → Nat) : ∀ l, amN g (l + 1) < l + 1 := by
  intro l
  have := amN_le g l
  rw [amN_s]
  by_cases h : g l < g (amN g l)
  · rw [if_pos h]; omega
  · rw [if_neg h]
    cases l with
    | zero => exact Nat.one_pos
    | succ l => exact Nat.lt_succ_of_le this
section OPS
variable {x : Nat} {G : Wd} {m c : Rec} {b : Nat} {e z : Rec} {d : Nat → Nat} {ow : Nat → Nat} {n : Nat} {U : Nat → Nat → Nat}
/-- how many plants see a parlour -/
def cnl (d : Nat → Nat) (l : Nat) : Nat := cntN (fun p => (sees d p 0).testBit l) (d 1)
theorem cnl_le {d : Nat → Nat} (hd : DI d) (l : Nat) : cnl d l ≤ 6 := Nat.le_trans (cntN_le _ _) hd.N
theorem x1_fewest_v (hb : gP c 6 = some b) (he : HS e d) (hz : ZS z d) (hd : DI d) (hP1 : 1 ≤ d 0) : x1_fewest c b e z = some (nI (cnl d (amN (cnl d) (d 0))), sI c 24 (nI (amN (cnl d) (d 0)))) := by
  have hP := hd.P
  have e7 := he.1
  have hv : ∀ l, l < 5 → j9_bitCount (nI (setN (fun p => (sees d p 0).testBit l) (d 1))) = some (nI (cnl d l)) := fun l _ => bc_set hd.N
  unfold x1_fewest
  refine LP2_run (fun l => nI (amN (cnl d) l)) (fun l => nI l) 1 (d 0 - 1) (by omega) (by rw [amN_1]; rfl) rfl (fun l h1 h2 rec => ?_) (fun rec => ?_)
  · have hl := amN_le (cnl d) l
    have hs := amN_s (cnl d) l
    have c1 := cnl_le hd l
    have c2 := cnl_le hd (amN (cnl d) l)
    have hlt : amN (cnl d) l < 5 := by
      obtain ⟨j, rfl⟩ : ∃ j, l = j + 1 := ⟨l - 1, by omega⟩
      have := amN_lt (cnl d) j
      omega
    have s1 := x4_seers_v he hz hd (l := l) (by omega)
    have s2 := x4_seers_v he hz hd hlt
    show PG (gP c 6) b _ = rec (nI (amN (cnl d) (l + 1))) (nI (l + 1))
    rw [PG_of _ hb, e7, if_neg (nI_ge (by omega) (by omega)), PG_of _ hb, s1, BD_some, hv l (by omega), BD_some, PG_of _ hb, s2, BD_some, hv _ hlt, BD_some, nI_1]
    by_cases g : cnl d l < cnl d (amN (cnl d) l)
    · rw [if_pos g] at hs
      rw [if_neg (nI_ge g (by omega)), hs]
    · rw [if_neg g] at hs
      rw [if_pos (nI_le (by omega) (by omega)), hs]
  · have hlt : amN (cnl d) (d 0) < 5 := by
      obtain ⟨j, hj⟩ : ∃ j, d 0 = j + 1 := ⟨d 0 - 1, by omega⟩
      have := amN_lt (cnl d) j
      rw [hj]; omega
    rw [show 1 + (d 0 - 1) = d 0 by omega]
    have hb' : gP (sI c 24 (nI (amN (cnl d) (d 0)))) 6 = some b := hb
    simp (disch := omega) only [Nat.zero_add, LT, BD_some, BD2_some, JN1, JN2, IX_nI, nI_add, pk_mul, pk_sub, leT, leF, ltT, ltF, eqT, eqF, M1_lit, bI_true, bI_false, BZ_n0, BZ_n1, BZ_b, ↓reduceIte, l_0, l_1, l_2, l_3, l_4, l_5, l_6, l_7, l_8, l_9, l_10, l_11, l_12, l_13, l_14, l_15, l_16, l_17, l_18, l_19, l_20, l_21, l_22, l_23, l_24, l_25, l_26, l_27, l_28, l_29, l_30, l_31, l_32, l_33, l_34, l_35, l_36, l_37, l_38, l_39, l_40, l_41, l_42, l_43, l_44, l_45, l_46, l_47, l_48, l_49, l_50, l_51, l_52, l_53, l_54, l_55, l_56, l_57, l_58, l_59, l_60, l_61, l_62, l_63, l_64, l_72, l_74, l_86, l_97, l_99, l_100, l_122, l_140, l_158, l_160, l_164, l_200, l_240, l_255, l_400, l_406, l_900, l_940, l_980, l_999, l_1120, l_1000, l_100000, PG_of _ hb, PG_of _ hb', e7, x4_seers_v he hz hd, hv _ hlt]
theorem m_fewestSee_v {s : Rec} (h : gA s 14 = RF d) (hd : DI d) (hP1 : 1 ≤ d 0) : m_fewestSee s = some (nI (cnl d (amN (cnl d) (d 0))), sI s 32 (nI (amN (cnl d) (d 0)))) := by
  have hP := hd.P
  have hN := hd.N
  unfold m_fewestSee
  have r3 : ∀ l, 1 ≤ l → (if l = 0 then s else sI s 32 (nI (amN (cnl d) l))) = sI s 32 (nI (amN (cnl d) l)) := fun l hl => if_neg (by omega)
  refine LP3_run (fun l => nI (if l = 0 then 100000 else cnl d (amN (cnl d) l))) (fun l => nI l) (fun l => if l = 0 then s else sI s 32 (nI (amN (cnl d) l))) 0 (d 0) (by omega) rfl rfl rfl (fun l _ hl rec => ?_) (fun rec => ?_)
  · have h3 : gA (if l = 0 then s else sI s 32 (nI (amN (cnl d) l))) 14 = RF d := by
      split
      · exact h
      · exact h
    have hs3 : ∀ v, sI (if l = 0 then s else sI s 32 (nI (amN (cnl d) l))) 32 v = sI s 32 v := fun v => by
      split
      · rfl
      · exact sI_sI _ _ _ _
    have hq : (if l = 0 then 100000 else cnl d (amN (cnl d) l)) ≤ 100000 := by
      split
      · omega
      · have := cnl_le hd (amN (cnl d) l); omega
    have hcmp : (cnl d l < (if l = 0 then 100000 else cnl d (amN (cnl d) l)) → amN (cnl d) (l + 1) = l) ∧ (¬ cnl d l < (if l = 0 then 100000 else cnl d (amN (cnl d) l)) → l ≠ 0 ∧ amN (cnl d) (l + 1) = amN (cnl d) l) := by
      have c1 := cnl_le hd l
      by_cases h0 : l = 0
      · subst h0
        refine ⟨fun _ => amN_1 _, fun hh => absurd ?_ hh⟩
        rw [if_pos rfl]; omega
      · rw [if_neg h0, amN_s]
        exact ⟨fun hh => if_pos hh, fun hh => ⟨h0, if_neg hh⟩⟩
    rw [r3 (l + 1) (by omega), if_neg (show ¬ l + 1 = 0 by omega)]
    generalize hS : (if l = 0 then s else sI s 32 (nI (amN (cnl d) l))) = S at h3 hs3
    generalize hB : (if l = 0 then 100000 else cnl d (amN (cnl d) l)) = B at hq hcmp
    show (if gA S 14 0 ≤ nI l then _ else _) = _
    rw [h3, RF_a (by omega), if_neg (nI_ge (by omega) (by omega))]
    refine LP2_run (fun p => nI (cntN (fun p => (sees d p 0).testBit l) p)) (fun p => nI p) 0 (d 1) (by omega) rfl rfl (fun p _ hp rec2 => ?_) (fun rec2 => ?_)
    · have h6 := sees_lt hd (p := p) (k := 0) (by omega)
      cases a : (sees d p 0).testBit l
      · have a2 : cntN (fun p => (sees d p 0).testBit l) (p + 1) = cntN (fun p => (sees d p 0).testBit l) p := cntN_f a
        simp (disch := omega) only [Nat.zero_add, LT, BD_some, BD2_some, JN1, JN2, IX_nI, nI_add, pk_mul, pk_sub, leT, leF, ltT, ltF, eqT, eqF, M1_lit, bI_true, bI_false, BZ_n0, BZ_n1, BZ_b, ↓reduceIte, l_0, l_1, l_2, l_3, l_4, l_5, l_6, l_7, l_8, l_9, l_10, l_11, l_12, l_13, l_14, l_15, l_16, l_17, l_18, l_19, l_20, l_21, l_22, l_23, l_24, l_25, l_26, l_27, l_28, l_29, l_30, l_31, l_32, l_33, l_34, l_35, l_36, l_37, l_38, l_39, l_40, l_41, l_42, l_43, l_44, l_45, l_46, l_47, l_48, l_49, l_50, l_51, l_52, l_53, l_54, l_55, l_56, l_57, l_58, l_59, l_60, l_61, l_62, l_63, l_64, l_72, l_74, l_86, l_97, l_99, l_100, l_122, l_140, l_158, l_160, l_164, l_200, l_240, l_255, l_400, l_406, l_900, l_940, l_980, l_999, l_1120, l_1000, l_100000, h3, RF_a, m_seesOf_v h3 hd, m_has_v, hs_nI, a, a2]
      · have a2 : cntN (fun p => (sees d p 0).testBit l) (p + 1) = cntN (fun p => (sees d p 0).testBit l) p + 1 := cntN_t a
        simp (disch := omega) only [Nat.zero_add, LT, BD_some, BD2_some, JN1, JN2, IX_nI, nI_add, pk_mul, pk_sub, leT, leF, ltT, ltF, eqT, eqF, M1_lit, bI_true, bI_false, BZ_n0, BZ_n1, BZ_b, ↓reduceIte, l_0, l_1, l_2, l_3, l_4, l_5, l_6, l_7, l_8, l_9, l_10, l_11, l_12, l_13, l_14, l_15, l_16, l_17, l_18, l_19, l_20, l_21, l_22, l_23, l_24, l_25, l_26, l_27, l_28, l_29, l_30, l_31, l_32, l_33, l_34, l_35, l_36, l_37, l_38, l_39, l_40, l_41, l_42, l_43, l_44, l_45, l_46, l_47, l_48, l_49, l_50, l_51, l_52, l_53, l_54, l_55, l_56, l_57, l_58, l_59, l_60, l_61, l_62, l_63, l_64, l_72, l_74, l_86, l_97, l_99, l_100, l_122, l_140, l_158, l_160, l_164, l_200, l_240, l_255, l_400, l_406, l_900, l_940, l_980, l_999, l_1120, l_1000, l_100000, h3, RF_a, m_seesOf_v h3 hd, m_has_v, hs_nI, a, a2]
    · have ec : cntN (fun p => (sees d p 0).testBit l) (d 1) = cnl d l := rfl
      have c1 := cnl_le hd l
      by_cases g : cnl d l < B
      · rw [hcmp.1 g]
        simp (disch := omega) only [Nat.zero_add, LT, BD_some, BD2_some, JN1, JN2, IX_nI, nI_add, pk_mul, pk_sub, leT, leF, ltT, ltF, eqT, eqF, M1_lit, bI_true, bI_false, BZ_n0, BZ_n1, BZ_b, ↓reduceIte, l_0, l_1, l_2, l_3, l_4, l_5, l_6, l_7, l_8, l_9, l_10, l_11, l_12, l_13, l_14, l_15, l_16, l_17, l_18, l_19, l_20, l_21, l_22, l_23, l_24, l_25, l_26, l_27, l_28, l_29, l_30, l_31, l_32, l_33, l_34, l_35, l_36, l_37, l_38, l_39, l_40, l_41, l_42, l_43, l_44, l_45, l_46, l_47, l_48, l_49, l_50, l_51, l_52, l_53, l_54, l_55, l_56, l_57, l_58, l_59, l_60, l_61, l_62, l_63, l_64, l_72, l_74, l_86, l_97, l_99, l_100, l_122, l_140, l_158, l_160, l_164, l_200, l_240, l_255, l_400, l_406, l_900, l_940, l_980, l_999, l_1120, l_1000, l_100000, h3, RF_a, ec, hs3]
      · obtain ⟨g1, g2⟩ := hcmp.2 g
        rw [g2]
        rw [if_neg g1] at hS hB
        simp (disch := omega) only [Nat.zero_add, LT, BD_some, BD2_some, JN1, JN2, IX_nI, nI_add, pk_mul, pk_sub, leT, leF, ltT, ltF, eqT, eqF, M1_lit, bI_true, bI_false, BZ_n0, BZ_n1, BZ_b, ↓reduceIte, l_0, l_1, l_2, l_3, l_4, l_5, l_6, l_7, l_8, l_9, l_10, l_11, l_12, l_13, l_14, l_15, l_16, l_17, l_18, l_19, l_20, l_21, l_22, l_23, l_24, l_25, l_26, l_27, l_28, l_29, l_30, l_31, l_32, l_33, l_34, l_35, l_36, l_37, l_38, l_39, l_40, l_41, l_42, l_43, l_44, l_45, l_46, l_47, l_48, l_49, l_50, l_51, l_52, l_53, l_54, l_55, l_56, l_57, l_58, l_59, l_60, l_61, l_62, l_63, l_64, l_72, l_74, l_86, l_97, l_99, l_100, l_122, l_140, l_158, l_160, l_164, l_200, l_240, l_255, l_400, l_406, l_900, l_940, l_980, l_999, l_1120, l_1000, l_100000, h3, RF_a, ec, hS, hB]
  · have h3 : gA (sI s 32 (nI (amN (cnl d) (d 0)))) 14 = RF d := h
    rw [Nat.zero_add, if_neg (show ¬ d 0 = 0 by omega), if_neg (show ¬ d 0 = 0 by omega)]
    simp (disch := omega) only [Nat.zero_add, LT, BD_some, BD2_some, JN1, JN2, IX_nI, nI_add, pk_mul, pk_sub, leT, leF, ltT, ltF, eqT, eqF, M1_lit, bI_true, bI_false, BZ_n0, BZ_n1, BZ_b, ↓reduceIte, l_0, l_1, l_2, l_3, l_4, l_5, l_6, l_7, l_8, l_9, l_10, l_11, l_12, l_13, l_14, l_15, l_16, l_17, l_18, l_19, l_20, l_21, l_22, l_23, l_24, l_25, l_26, l_27, l_28, l_29, l_30, l_31, l_32, l_33, l_34, l_35, l_36, l_37, l_38, l_39, l_40, l_41, l_42, l_43, l_44, l_45, l_46, l_47, l_48, l_49, l_50, l_51, l_52, l_53, l_54, l_55, l_56, l_57, l_58, l_59, l_60, l_61, l_62, l_63, l_64, l_72, l_74, l_86, l_97, l_99, l_100, l_122, l_140, l_158, l_160, l_164, l_200, l_240, l_255, l_400, l_406, l_900, l_940, l_980, l_999, l_1120, l_1000, l_100000, h3, RF_a]
/-- choices, one after another: most, plant, place, parlour -/
def chL (d : Nat → Nat) (p : Nat) (t : Nat × Nat × Nat × Nat) : Nat → Nat × Nat × Nat × Nat
  | 0 => t
  | l + 1 => if d (26 + p) = l then chL d p t l else if (chL d p t l).1 < cnl (va_up d (26 + p) l) (amN (cnl (va_up d (26 + p) l)) (d 0)) then (cnl (va_up d (26 + p) l) (amN (cnl (va_up d (26 + p) l)) (d 0)), p + 1, l + 1, amN (cnl (va_up d (26 + p) l)) (d 0)) else chL d p t l
def chP (d : Nat → Nat) : Nat → Nat × Nat × Nat × Nat
  | 0 => (cnl d (amN (cnl d) (d 0)), 0, 0, amN (cnl d) (d 0))
  | p + 1 => chL d p (chP d p) (d 0)
theorem chL_s (d : Nat → Nat) (p : Nat) (t : Nat × Nat × Nat × Nat) (l : Nat) : chL d p t (l + 1) = if d (26 + p) = l then chL d p t l else if (chL d p t l).1 < cnl (va_up d (26 + p) l) (amN (cnl (va_up d (26 + p) l)) (d 0)) then (cnl (va_up d (26 + p) l) (amN (cnl (va_up d (26 + p) l)) (d 0)), p + 1, l + 1, amN (cnl (va_up d (26 + p) l)) (d 0)) else chL d p t l := rfl
theorem ch_le {d : Nat → Nat} (g : GD d) {p : Nat} (hp : p < d 1) {t : Nat × Nat × Nat × Nat} (h : t.1 ≤ 6) : ∀ l, l ≤ d 0 → (chL d p t l).1 ≤ 6 := by
  intro l
  have hN := g.1.N
  induction l with
  | zero => intro _; exact h
  | succ l ih =>
    intro hl
    rw [chL_s]
    split
    · exact ih (by omega)
    · split
      · exact cnl_le (GD_place g (p := p) (v := l) (by omega) (by omega)).1 _
      · exact ih (by omega)
theorem chP_le {d : Nat → Nat} (g : GD d) : ∀ p, p ≤ d 1 → (chP d p).1 ≤ 6 := by
  intro p
  induction p with
  | zero => intro _; exact cnl_le g.1 _
  | succ p ih => intro hp; exact ch_le g (by omega) (ih (by omega)) (d 0) (Nat.le_refl _)
def FRI (c s : Rec) : Prop := s.2 = c.2 ∧ ∀ k, (k < 21 ∨ 25 < k) → gI s k = gI c k
def FRM (m s : Rec) : Prop := s.2.2 = m.2.2 ∧ (∀ k, k ≠ 31 → k ≠ 32 → gI s k = gI m k) ∧ (∀ k, k ≠ 14 → k ≠ 30 → gA s k = gA m k)
theorem FRI_sI {c s : Rec} (h : FRI c s) {k : Nat} (v : Int32) (h1 : 21 ≤ k) (h2 : k ≤ 25) : FRI c (sI s k v) := ⟨h.1, fun j hj => by rw [gI_sIn _ _ (by omega)]; exact h.2 j hj⟩
theorem FRI.gP {c s : Rec} (h : FRI c s) (k : Nat) : gP s k = gP c k := congrArg (fun r : (Nat → Nat → Int32) × (Nat → Int64) × (Nat → Nat → Int64) × (Nat → Option Nat) × (Nat → Nat → Option Nat) => r.2.2.2.1 k) h.1
theorem FRI.gQ {c s : Rec} (h : FRI c s) (k : Nat) : gQ s k = gQ c k := congrArg (fun r : (Nat → Nat → Int32) × (Nat → Int64) × (Nat → Nat → Int64) × (Nat → Option Nat) × (Nat → Nat → Option Nat) => r.2.2.2.2 k) h.1
theorem FRI.gA {c s : Rec} (h : FRI c s) (k : Nat) : gA s k = gA c k := congrArg (fun r : (Nat → Nat → Int32) × (Nat → Int64) × (Nat → Nat → Int64) × (Nat → Option Nat) × (Nat → Nat → Option Nat) => r.1 k) h.1
theorem FRM_sI {c s : Rec} (h : FRM c s) {k : Nat} (v : Int32) (h1 : k = 31 ∨ k = 32) : FRM c (sI s k v) := ⟨h.1, fun j h2 h3 => by rw [gI_sIn _ _ (by omega)]; exact h.2.1 j h2 h3, h.2.2⟩
theorem FRM_sA {c s : Rec} (h : FRM c s) {k : Nat} (i : Nat) (v : Int32) (h1 : k = 14 ∨ k = 30) : FRM c (sA s k i v) := ⟨h.1, h.2.1, fun j h2 h3 => by rw [gA_sAn _ _ _ (by omega)]; exact h.2.2 j h2 h3⟩
theorem FRM.gL {c s : Rec} (h : FRM c s) (k : Nat) : gL s k = gL c k := congrArg (fun r : (Nat → Int64) × (Nat → Nat → Int64) × (Nat → Option Nat) × (Nat → Nat → Option Nat) => r.2.1 k) h.1
theorem up_back {d : Nat → Nat} {k v : Nat} : va_up (va_up d k v) k (d k) = d := by
  funext q
  by_cases h : q = k
  · subst h; rw [up_s]
  · rw [up_n _ _ h, up_n _ _ h]
theorem up_id {d : Nat → Nat} {k : Nat} : va_up d k (d k) = d := by
  funext q
  by_cases h : q = k
  · subst h; rw [up_s]
  · rw [up_n _ _ h]
/-- the component's choice -/
theorem x1_choice_v (hb : gP c 6 = some b) (he : HS e d) (hz : ZS z d) (g : GD d) (hP1 : 1 ≤ d 0) (y : Rec) : ∃ y' c', x1_choice c b e z y = some (nI (chP d (d 1)).1, y', c') ∧ FRI c c' ∧ gI c' 25 = 1 ∧ gI c' 21 = lf (chP d (d 1)).2.1 ∧ gI c' 22 = lf (chP d (d 1)).2.2.1 ∧ gI c' 23 = nI (chP d (d 1)).2.2.2 := by
  have hd := g.1
  have hN := hd.N
  have hP := hd.P
  obtain ⟨e7, e8, -⟩ := id he
  have z0 := hz.2.2.1
  obtain ⟨y1, q1, q2⟩ := x4_be_v (y := y) hz
  unfold x1_choice
  rw [PG_of _ hb, e7, if_neg (nI_ne0 (by omega) (by omega)), q1, BD_some, x1_fewest_v hb he q2 hd hP1, BD2_some]
  rw [LT, LT, LT]
  have hI0 : FRI c (sI (sI (sI (sI c 24 (nI (amN (cnl d) (d 0)))) 21 (-1)) 22 (-1)) 23 (gI (sI (sI (sI c 24 (nI (amN (cnl d) (d 0)))) 21 (-1)) 22 (-1)) 24)) := FRI_sI (FRI_sI (FRI_sI (FRI_sI ⟨rfl, fun _ _ => rfl⟩ _ (by omega) (by omega)) _ (by omega) (by omega)) _ (by omega) (by omega)) _ (by omega) (by omega)
  have hJ : gI (sI (sI (sI (sI c 24 (nI (amN (cnl d) (d 0)))) 21 (-1)) 22 (-1)) 23 (gI (sI (sI (sI c 24 (nI (amN (cnl d) (d 0)))) 21 (-1)) 22 (-1)) 24)) 21 = lf 0 ∧ gI (sI (sI (sI (sI c 24 (nI (amN (cnl d) (d 0)))) 21 (-1)) 22 (-1)) 23 (gI (sI (sI (sI c 24 (nI (amN (cnl d) (d 0)))) 21 (-1)) 22 (-1)) 24)) 22 = lf 0 ∧ gI (sI (sI (sI (sI c 24 (nI (amN (cnl d) (d 0)))) 21 (-1)) 22 (-1)) 23 (gI (sI (sI (sI c 24 (nI (amN (cnl d) (d 0)))) 21 (-1)) 22 (-1)) 24)) 23 = nI (amN (cnl d) (d 0)) := ⟨by rw [lf_0]; rfl, by rw [lf_0]; rfl, rfl⟩
  generalize sI (sI (sI (sI c 24 (nI (amN (cnl d) (d 0)))) 21 (-1)) 22 (-1)) 23 (gI (sI (sI (sI c 24 (nI (amN (cnl d) (d 0)))) 21 (-1)) 22 (-1)) 24) = c1 at hI0 hJ ⊢
  refine LP4_inv (fun p a1 a2 a3 a4 => a1 = nI (chP d p).1 ∧ a2 = nI p ∧ ZS a3 d ∧ FRI c a4 ∧ gI a4 21 = lf (chP d p).2.1 ∧ gI a4 22 = lf (chP d p).2.2.1 ∧ gI a4 23 = nI (chP d p).2.2.2) (fun o => ∃ y' c', o = some (nI (chP d (d 1)).1, y', c') ∧ FRI c c' ∧ gI c' 25 = 1 ∧ gI c' 21 = lf (chP d (d 1)).2.1 ∧ gI c' 22 = lf (chP d (d 1)).2.2.1 ∧ gI c' 23 = nI (chP d (d 1)).2.2.2) (d 1) (by omega) ⟨rfl, rfl, q2, hI0, hJ⟩ (fun p a1 a2 a3 a4 rec hp hI => Or.inl ?_) (fun a1 a2 a3 a4 rec hI => ?_)
  · obtain ⟨rfl, rfl, i3, i4, i5⟩ := hI
    have hbb : gP a4 6 = some b := (i4.gP 6).trans hb
    have h6 := chP_le g p (by omega)
    rw [PG_of _ hbb, e8, if_neg (nI_ge (by omega) (by omega))]
    have ez : (chP d (p + 1)) = chL d p (chP d p) (d 0) := rfl
    rw [ez]
    generalize chP d p = t at i5 h6 ⊢
    refine LP4_inv (fun l b1 b2 b3 b4 => b1 = nI (chL d p t l).1 ∧ b2 = nI l ∧ ZS b3 d ∧ FRI c b4 ∧ gI b4 21 = lf (chL d p t l).2.1 ∧ gI b4 22 = lf (chL d p t l).2.2.1 ∧ gI b4 23 = nI (chL d p t l).2.2.2) (fun o => ∃ (b1 : Int32) (b2 : Int32) (b3 : Rec) (b4 : Rec), (b1 = nI (chL d p t (d 0)).1 ∧ b2 = nI (p + 1) ∧ ZS b3 d ∧ FRI c b4 ∧ gI b4 21 = lf (chL d p t (d 0)).2.1 ∧ gI b4 22 = lf (chL d p t (d 0)).2.2.1 ∧ gI b4 23 = nI (chL d p t (d 0)).2.2.2) ∧ o = rec b1 b2 b3 b4) (d 0) (by omega) ⟨rfl, rfl, i3, i4, i5⟩ (fun l b1 b2 b3 b4 rec2 hl hJ => Or.inl ?_) (fun b1 b2 b3 b4 rec2 hJ => ?_)
    · obtain ⟨rfl, rfl, j3, j4, j5⟩ := hJ
      have hbj : gP b4 6 = some b := (j4.gP 6).trans hb
      have g2 := GD_place g (p := p) (v := l) (by omega) hl
      have hkk : KH d (va_up d (26 + p) l) := KH_up (by omega) (by omega)
      have d0 : va_up d (26 + p) l 0 = d 0 := up_n _ _ (by omega)
      have hs := chL_s d p t l
      have h7 := ch_le g (p := p) hp h6 l (by omega)
      have hpl := hd.pl hp
      by_cases a : d (26 + p) = l
      · rw [if_pos a] at hs
        refine ⟨_, _, b3, b4, ⟨rfl, rfl, j3, j4, ?_⟩, ?_⟩
        · rw [hs]; exact j5
        · rw [hs]
          simp (disch := omega) only [Nat.zero_add, LT, BD_some, BD2_some, JN1, JN2, IX_nI, nI_add, pk_mul, pk_sub, leT, leF, ltT, ltF, eqT, eqF, M1_lit, bI_true, bI_false, BZ_n0, BZ_n1, BZ_b, ↓reduceIte, l_0, l_1, l_2, l_3, l_4, l_5, l_6, l_7, l_8, l_9, l_10, l_11, l_12, l_13, l_14, l_15, l_16, l_17, l_18, l_19, l_20, l_21, l_22, l_23, l_24, l_25, l_26, l_27, l_28, l_29, l_30, l_31, l_32, l_33, l_34, l_35, l_36, l_37, l_38, l_39, l_40, l_41, l_42, l_43, l_44, l_45, l_46, l_47, l_48, l_49, l_50, l_51, l_52, l_53, l_54, l_55, l_56, l_57, l_58, l_59, l_60, l_61, l_62, l_63, l_64, l_72, l_74, l_86, l_97, l_99, l_100, l_122, l_140, l_158, l_160, l_164, l_200, l_240, l_255, l_400, l_406, l_900, l_940, l_980, l_999, l_1120, l_1000, l_100000, PG_of _ hbj, e7, z0, a]
      · rw [if_neg a] at hs
        have j3' : ZS (sA b3 0 p (nI l)) (va_up d (26 + p) l) := ZS_A0 j3 (by omega)
        have fw := x1_fewest_v hbj (he.keep hkk) j3' g2.1 (by rw [d0]; exact hP1)
        rw [d0] at fw
        have zb : ZS (sA (sA b3 0 p (nI l)) 0 p (nI (d (26 + p)))) d := by
          have := ZS_A0 (r := p) (v := d (26 + p)) j3' (by omega)
          rw [up_back] at this; exact this
        have c6 := cnl_le g2.1 (amN (cnl (va_up d (26 + p) l)) (d 0))
        by_cases q : (chL d p t l).1 < cnl (va_up d (26 + p) l) (amN (cnl (va_up d (26 + p) l)) (d 0))
        · rw [if_pos q] at hs
          refine ⟨_, _, _, sI (sI (sI (sI b4 24 (nI (amN (cnl (va_up d (26 + p) l)) (d 0)))) 21 (nI p)) 22 (nI l)) 23 (nI (amN (cnl (va_up d (26 + p) l)) (d 0))), ⟨rfl, rfl, zb, FRI_sI (FRI_sI (FRI_sI (FRI_sI j4 _ (by omega) (by omega)) _ (by omega) (by omega)) _ (by omega) (by omega)) _ (by omega) (by omega), ?_⟩, ?_⟩
          · rw [hs]
            refine ⟨?_, ?_, rfl⟩
            · show nI p = lf (p + 1); rw [lf_s]
            · show nI l = lf (l + 1); rw [lf_s]
          · rw [hs]
            simp (disch := omega) only [Nat.zero_add, LT, BD_some, BD2_some, JN1, JN2, IX_nI, nI_add, pk_mul, pk_sub, leT, leF, ltT, ltF, eqT, eqF, M1_lit, bI_true, bI_false, BZ_n0, BZ_n1, BZ_b, ↓reduceIte, l_0, l_1, l_2, l_3, l_4, l_5, l_6, l_7, l_8, l_9, l_10, l_11, l_12, l_13, l_14, l_15, l_16, l_17, l_18, l_19, l_20, l_21, l_22, l_23, l_24, l_25, l_26, l_27, l_28, l_29, l_30, l_31, l_32, l_33, l_34, l_35, l_36, l_37, l_38, l_39, l_40, l_41, l_42, l_43, l_44, l_45, l_46, l_47, l_48, l_49, l_50, l_51, l_52, l_53, l_54, l_55, l_56, l_57, l_58, l_59, l_60, l_61, l_62, l_63, l_64, l_72, l_74, l_86, l_97, l_99, l_100, l_122, l_140, l_158, l_160, l_164, l_200, l_240, l_255, l_400, l_406, l_900, l_940, l_980, l_999, l_1120, l_1000, l_100000, PG_of _ hbj, e7, z0, fw, gI_sIn, gI_sIs]
        · rw [if_neg q] at hs
          refine ⟨_, _, _, sI b4 24 (nI (amN (cnl (va_up d (26 + p) l)) (d 0))), ⟨rfl, rfl, zb, FRI_sI j4 _ (by omega) (by omega), ?_⟩, ?_⟩
          · rw [hs]; exact j5
          · rw [hs]
            simp (disch := omega) only [Nat.zero_add, LT, BD_some, BD2_some, JN1, JN2, IX_nI, nI_add, pk_mul, pk_sub, leT, leF, ltT, ltF, eqT, eqF, M1_lit, bI_true, bI_false, BZ_n0, BZ_n1, BZ_b, ↓reduceIte, l_0, l_1, l_2, l_3, l_4, l_5, l_6, l_7, l_8, l_9, l_10, l_11, l_12, l_13, l_14, l_15, l_16, l_17, l_18, l_19, l_20, l_21, l_22, l_23, l_24, l_25, l_26, l_27, l_28, l_29, l_30, l_31, l_32, l_33, l_34, l_35, l_36, l_37, l_38, l_39, l_40, l_41, l_42, l_43, l_44, l_45, l_46, l_47, l_48, l_49, l_50, l_51, l_52, l_53, l_54, l_55, l_56, l_57, l_58, l_59, l_60, l_61, l_62, l_63, l_64, l_72, l_74, l_86, l_97, l_99, l_100, l_122, l_140, l_158, l_160, l_164, l_200, l_240, l_255, l_400, l_406, l_900, l_940, l_980, l_999, l_1120, l_1000, l_100000, PG_of _ hbj, e7, z0, fw]
    · obtain ⟨rfl, rfl, j3, j4, j5⟩ := hJ
      have hbj : gP b4 6 = some b := (j4.gP 6).trans hb
      refine ⟨_, _, b3, b4, ⟨rfl, rfl, j3, j4, j5⟩, ?_⟩
      simp (disch := omega) only [Nat.zero_add, LT, BD_some, BD2_some, JN1, JN2, IX_nI, nI_add, pk_mul, pk_sub, leT, leF, ltT, ltF, eqT, eqF, M1_lit, bI_true, bI_false, BZ_n0, BZ_n1, BZ_b, ↓reduceIte, l_0, l_1, l_2, l_3, l_4, l_5, l_6, l_7, l_8, l_9, l_10, l_11, l_12, l_13, l_14, l_15, l_16, l_17, l_18, l_19, l_20, l_21, l_22, l_23, l_24, l_25, l_26, l_27, l_28, l_29, l_30, l_31, l_32, l_33, l_34, l_35, l_36, l_37, l_38, l_39, l_40, l_41, l_42, l_43, l_44, l_45, l_46, l_47, l_48, l_49, l_50, l_51, l_52, l_53, l_54, l_55, l_56, l_57, l_58, l_59, l_60, l_61, l_62, l_63, l_64, l_72, l_74, l_86, l_97, l_99, l_100, l_122, l_140, l_158, l_160, l_164, l_200, l_240, l_255, l_400, l_406, l_900, l_940, l_980, l_999, l_1120, l_1000, l_100000, PG_of _ hbj, e7]
  · obtain ⟨rfl, rfl, i3, i4, i5⟩ := hI
    have hbb : gP a4 6 = some b := (i4.gP 6).trans hb
    refine ⟨a3, sI a4 25 1, ?_, FRI_sI i4 _ (by omega) (by omega), gI_sIs _ _ _, i5⟩
    simp (disch := omega) only [Nat.zero_add, LT, BD_some, BD2_some, JN1, JN2, IX_nI, nI_add, pk_mul, pk_sub, leT, leF, ltT, ltF, eqT, eqF, M1_lit, bI_true, bI_false, BZ_n0, BZ_n1, BZ_b, ↓reduceIte, l_0, l_1, l_2, l_3, l_4, l_5, l_6, l_7, l_8, l_9, l_10, l_11, l_12, l_13, l_14, l_15, l_16, l_17, l_18, l_19, l_20, l_21, l_22, l_23, l_24, l_25, l_26, l_27, l_28, l_29, l_30, l_31, l_32, l_33, l_34, l_35, l_36, l_37, l_38, l_39, l_40, l_41, l_42, l_43, l_44, l_45, l_46, l_47, l_48, l_49, l_50, l_51, l_52, l_53, l_54, l_55, l_56, l_57, l_58, l_59, l_60, l_61, l_62, l_63, l_64, l_72, l_74, l_86, l_97, l_99, l_100, l_122, l_140, l_158, l_160, l_164, l_200, l_240, l_255, l_400, l_406, l_900, l_940, l_980, l_999, l_1120, l_1000, l_100000, PG_of _ hbb, e8]
/-- the model's choice -/
theorem m_choice_v {s : Rec} (h : gA s 14 = RF d) (g : GD d) (hP1 : 1 ≤ d 0) : ∃ s', (if (gA s 14 0) = 0 then some ((-1 : Int32), s) else BD2 (m_fewestSee s) (fun v3 s4 => BD (m_choose s4 (-1 : Int32) (-1 : Int32)) (fun s6 => LT (sI s6 31 (1 : Int32)) (fun s7 => LP3 (fun (rec11 : Int32 → Int32 → Rec → Option (Int32 × Rec)) (v8 : Int32) (v9 : Int32) (s10 : Rec) => (if (gA s10 14 1) ≤ v9 then some (v8, s10) else IX ((26 : Int32) + v9) 406 (fun i12 => LP3 (fun (rec16 : Int32 → Int32 → Rec → Option (Int32 × Rec)) (v13 : Int32) (v14 : Int32) (s15 : Rec) => (if (gA s15 14 0) ≤ v14 then IX ((26 : Int32) + v9) 406 (fun i17 => LT (sA s15 14 i17 (gA s10 14 i12)) (fun s18 => rec11 v13 (v9 + (1 : Int32)) s18)) else (if v14 = (gA s10 14 i12) then rec16 v13 (v14 + (1 : Int32)) s15 else IX ((26 : Int32) + v9) 406 (fun i19 => LT (sA s15 14 i19 v14) (fun s20 => BD2 (m_fewestSee s20) (fun v22 s23 => (if v13 < v22 then BD (m_choose s23 v9 v14) (fun s25 => rec16 v22 (v14 + (1 : Int32)) s25) else rec16 v13 (v14 + (1 : Int32)) s23))))))) FU v8 (0 : Int32) s10))) FU v3 (0 : Int32) s7)))) = some (nI (chP d (d 1)).1, s') ∧ FRM s s' ∧ gA s' 14 = RF d ∧ gI s' 31 = 1 ∧ gA s' 30 0 = lf (chP d (d 1)).2.1 ∧ gA s' 30 1 = lf (chP d (d 1)).2.2.1 ∧ gA s' 30 2 = nI (chP d (d 1)).2.2.2 := by
  have hd := g.1
  have hN := hd.N
  have hP := hd.P
  rw [h, RF_a (by omega), if_neg (nI_ne0 (by omega) (by omega)), m_fewestSee_v h hd hP1, BD2_some]
  have mc : ∀ (r : Rec) (v w : Int32), m_choose r v w = some (sA (sA (sA r 30 0 v) 30 1 w) 30 2 (gI r 32)) := fun r v w => rfl
  rw [mc, BD_some, LT]
  have hI0 : FRM s (sI (sA (sA (sA (sI s 32 (nI (amN (cnl d) (d 0)))) 30 0 (-1)) 30 1 (-1)) 30 2 (gI (sI s 32 (nI (amN (cnl d) (d 0)))) 32)) 31 1) := FRM_sI (FRM_sA (FRM_sA (FRM_sA (FRM_sI ⟨rfl, fun _ _ _ => rfl, fun _ _ _ => rfl⟩ _ (by omega)) _ _ (by omega)) _ _ (by omega)) _ _ (by omega)) _ (by omega)
  have hJ0 : gA (sI (sA (sA (sA (sI s 32 (nI (amN (cnl d) (d 0)))) 30 0 (-1)) 30 1 (-1)) 30 2 (gI (sI s 32 (nI (amN (cnl d) (d 0)))) 32)) 31 1) 14 = RF d := h
  have hJ1 : gI (sI (sA (sA (sA (sI s 32 (nI (amN (cnl d) (d 0)))) 30 0 (-1)) 30 1 (-1)) 30 2 (gI (sI s 32 (nI (amN (cnl d) (d 0)))) 32)) 31 1) 31 = 1 := gI_sIs _ _ _
  have hJ2 : gA (sI (sA (sA (sA (sI s 32 (nI (amN (cnl d) (d 0)))) 30 0 (-1)) 30 1 (-1)) 30 2 (gI (sI s 32 (nI (amN (cnl d) (d 0)))) 32)) 31 1) 30 0 = lf 0 ∧ gA (sI (sA (sA (sA (sI s 32 (nI (amN (cnl d) (d 0)))) 30 0 (-1)) 30 1 (-1)) 30 2 (gI (sI s 32 (nI (amN (cnl d) (d 0)))) 32)) 31 1) 30 1 = lf 0 ∧ gA (sI (sA (sA (sA (sI s 32 (nI (amN (cnl d) (d 0)))) 30 0 (-1)) 30 1 (-1)) 30 2 (gI (sI s 32 (nI (amN (cnl d) (d 0)))) 32)) 31 1) 30 2 = nI (amN (cnl d) (d 0)) := ⟨by rw [lf_0]; rfl, by rw [lf_0]; rfl, rfl⟩
  generalize sI (sA (sA (sA (sI s 32 (nI (amN (cnl d) (d 0)))) 30 0 (-1)) 30 1 (-1)) 30 2 (gI (sI s 32 (nI (amN (cnl d) (d 0)))) 32)) 31 1 = s1 at hI0 hJ0 hJ1 hJ2 ⊢
  refine LP3_inv (fun p a1 a2 a3 => a1 = nI (chP d p).1 ∧ a2 = nI p ∧ FRM s a3 ∧ gA a3 14 = RF d ∧ gI a3 31 = 1 ∧ gA a3 30 0 = lf (chP d p).2.1 ∧ gA a3 30 1 = lf (chP d p).2.2.1 ∧ gA a3 30 2 = nI (chP d p).2.2.2) (fun o => ∃ s', o = some (nI (chP d (d 1)).1, s') ∧ FRM s s' ∧ gA s' 14 = RF d ∧ gI s' 31 = 1 ∧ gA s' 30 0 = lf (chP d (d 1)).2.1 ∧ gA s' 30 1 = lf (chP d (d 1)).2.2.1 ∧ gA s' 30 2 = nI (chP d (d 1)).2.2.2) (d 1) (by omega) ⟨rfl, rfl, hI0, hJ0, hJ1, hJ2⟩ (fun p a1 a2 a3 rec hp hI => Or.inl ?_) (fun a1 a2 a3 rec hI => ?_)
  · obtain ⟨rfl, rfl, i3, i4, i5⟩ := hI
    have h6 := chP_le g p (by omega)
    have hpl := hd.pl hp
    have ix : (26 : Int32) + nI p = nI (26 + p) := nI_add 26 p
    rw [i4, RF_a (by omega), if_neg (nI_ge (by omega) (by omega)), ix, IX_nI _ (by omega) (by omega), RF_a (by omega)]
    have ez : (chP d (p + 1)) = chL d p (chP d p) (d 0) := rfl
    rw [ez]
    generalize chP d p = t at i5 h6 ⊢
    refine LP3_inv (fun l b1 b2 b3 => b1 = nI (chL d p t l).1 ∧ b2 = nI l ∧ FRM s b3 ∧ (∃ q, gA b3 14 = RF (va_up d (26 + p) q)) ∧ gI b3 31 = 1 ∧ gA b3 30 0 = lf (chL d p t l).2.1 ∧ gA b3 30 1 = lf (chL d p t l).2.2.1 ∧ gA b3 30 2 = nI (chL d p t l).2.2.2) (fun o => ∃ (b1 : Int32) (b2 : Int32) (b3 : Rec), (b1 = nI (chL d p t (d 0)).1 ∧ b2 = nI (p + 1) ∧ FRM s b3 ∧ gA b3 14 = RF d ∧ gI b3 31 = 1 ∧ gA b3 30 0 = lf (chL d p t (d 0)).2.1 ∧ gA b3 30 1 = lf (chL d p t (d 0)).2.2.1 ∧ gA b3 30 2 = nI (chL d p t (d 0)).2.2.2) ∧ o = rec b1 b2 b3) (d 0) (by omega) ⟨rfl, rfl, i3, ⟨d (26 + p), by rw [up_id]; exact i4⟩, i5⟩ (fun l b1 b2 b3 rec2 hl hJ => Or.inl ?_) (fun b1 b2 b3 rec2 hJ => ?_)
    · obtain ⟨rfl, rfl, j3, ⟨q, j4⟩, j5⟩ := hJ
      have g2 := GD_place g (p := p) (v := l) (by omega) hl
      have d0 : va_up d (26 + p) l 0 = d 0 := up_n _ _ (by omega)
      have dq : va_up d (26 + p) q 0 = d 0 := up_n _ _ (by omega)
      have hs := chL_s d p t l
      have h7 := ch_le g (p := p) hp h6 l (by omega)
      by_cases a : d (26 + p) = l
      · rw [if_pos a] at hs
        refine ⟨_, _, b3, ⟨rfl, rfl, j3, ⟨q, j4⟩, ?_⟩, ?_⟩
        · rw [hs]; exact j5
        · rw [hs]
          simp (disch := omega) only [Nat.zero_add, LT, BD_some, BD2_some, JN1, JN2, IX_nI, nI_add, pk_mul, pk_sub, leT, leF, ltT, ltF, eqT, eqF, M1_lit, bI_true, bI_false, BZ_n0, BZ_n1, BZ_b, ↓reduceIte, l_0, l_1, l_2, l_3, l_4, l_5, l_6, l_7, l_8, l_9, l_10, l_11, l_12, l_13, l_14, l_15, l_16, l_17, l_18, l_19, l_20, l_21, l_22, l_23, l_24, l_25, l_26, l_27, l_28, l_29, l_30, l_31, l_32, l_33, l_34, l_35, l_36, l_37, l_38, l_39, l_40, l_41, l_42, l_43, l_44, l_45, l_46, l_47, l_48, l_49, l_50, l_51, l_52, l_53, l_54, l_55, l_56, l_57, l_58, l_59, l_60, l_61, l_62, l_63, l_64, l_72, l_74, l_86, l_97, l_99, l_100, l_122, l_140, l_158, l_160, l_164, l_200, l_240, l_255, l_400, l_406, l_900, l_940, l_980, l_999, l_1120, l_1000, l_100000, j4, RF_a, dq, a]
      · rw [if_neg a] at hs
        have k4 : gA (sA b3 14 (26 + p) (nI l)) 14 = RF (va_up d (26 + p) l) := by
          rw [gA_sA, if_pos rfl, j4, RF_up (by omega), bx_uu]
        have fw := m_fewestSee_v k4 g2.1 (by rw [d0]; exact hP1)
        rw [d0] at fw
        have c6 := cnl_le g2.1 (amN (cnl (va_up d (26 + p) l)) (d 0))
        by_cases q : (chL d p t l).1 < cnl (va_up d (26 + p) l) (amN (cnl (va_up d (26 + p) l)) (d 0))
        · rw [if_pos q] at hs
          refine ⟨_, _, sA (sA (sA (sI (sA b3 14 (26 + p) (nI l)) 32 (nI (amN (cnl (va_up d (26 + p) l)) (d 0)))) 30 0 (nI p)) 30 1 (nI l)) 30 2 (nI (amN (cnl (va_up d (26 + p) l)) (d 0))), ⟨rfl, rfl, FRM_sA (FRM_sA (FRM_sA (FRM_sI (FRM_sA j3 _ _ (by omega)) _ (by omega)) _ _ (by omega)) _ _ (by omega)) _ _ (by omega), ⟨l, k4⟩, j5.1, ?_⟩, ?_⟩
          · rw [hs]
            refine ⟨?_, ?_, rfl⟩
            · show nI p = lf (p + 1); rw [lf_s]
            · show nI l = lf (l + 1); rw [lf_s]
          · rw [hs]
            simp (disch := omega) only [Nat.zero_add, LT, BD_some, BD2_some, JN1, JN2, IX_nI, nI_add, pk_mul, pk_sub, leT, leF, ltT, ltF, eqT, eqF, M1_lit, bI_true, bI_false, BZ_n0, BZ_n1, BZ_b, ↓reduceIte, l_0, l_1, l_2, l_3, l_4, l_5, l_6, l_7, l_8, l_9, l_10, l_11, l_12, l_13, l_14, l_15, l_16, l_17, l_18, l_19, l_20, l_21, l_22, l_23, l_24, l_25, l_26, l_27, l_28, l_29, l_30, l_31, l_32, l_33, l_34, l_35, l_36, l_37, l_38, l_39, l_40, l_41, l_42, l_43, l_44, l_45, l_46, l_47, l_48, l_49, l_50, l_51, l_52, l_53, l_54, l_55, l_56, l_57, l_58, l_59, l_60, l_61, l_62, l_63, l_64, l_72, l_74, l_86, l_97, l_99, l_100, l_122, l_140, l_158, l_160, l_164, l_200, l_240, l_255, l_400, l_406, l_900, l_940, l_980, l_999, l_1120, l_1000, l_100000, j4, RF_a, dq, fw, mc, gI_sIs]
        · rw [if_neg q] at hs
          refine ⟨_, _, sI (sA b3 14 (26 + p) (nI l)) 32 (nI (amN (cnl (va_up d (26 + p) l)) (d 0))), ⟨rfl, rfl, FRM_sI (FRM_sA j3 _ _ (by omega)) _ (by omega), ⟨l, k4⟩, j5.1, ?_⟩, ?_⟩
          · rw [hs]; exact j5.2
          · rw [hs]
            simp (disch := omega) only [Nat.zero_add, LT, BD_some, BD2_some, JN1, JN2, IX_nI, nI_add, pk_mul, pk_sub, leT, leF, ltT, ltF, eqT, eqF, M1_lit, bI_true, bI_false, BZ_n0, BZ_n1, BZ_b, ↓reduceIte, l_0, l_1, l_2, l_3, l_4, l_5, l_6, l_7, l_8, l_9, l_10, l_11, l_12, l_13, l_14, l_15, l_16, l_17, l_18, l_19, l_20, l_21, l_22, l_23, l_24, l_25, l_26, l_27, l_28, l_29, l_30, l_31, l_32, l_33, l_34, l_35, l_36, l_37, l_38, l_39, l_40, l_41, l_42, l_43, l_44, l_45, l_46, l_47, l_48, l_49, l_50, l_51, l_52, l_53, l_54, l_55, l_56, l_57, l_58, l_59, l_60, l_61, l_62, l_63, l_64, l_72, l_74, l_86, l_97, l_99, l_100, l_122, l_140, l_158, l_160, l_164, l_200, l_240, l_255, l_400, l_406, l_900, l_940, l_980, l_999, l_1120, l_1000, l_100000, j4, RF_a, dq, fw]
    · obtain ⟨rfl, rfl, j3, ⟨q, j4⟩, j5⟩ := hJ
      have dq : va_up d (26 + p) q 0 = d 0 := up_n _ _ (by omega)
      refine ⟨_, _, sA b3 14 (26 + p) (nI (d (26 + p))), ⟨rfl, rfl, FRM_sA j3 _ _ (by omega), ?_, j5⟩, ?_⟩
      · rw [gA_sA, if_pos rfl, j4, RF_up (by omega), up_back]
      · simp (disch := omega) only [Nat.zero_add, LT, BD_some, BD2_some, JN1, JN2, IX_nI, nI_add, pk_mul, pk_sub, leT, leF, ltT, ltF, eqT, eqF, M1_lit, bI_true, bI_false, BZ_n0, BZ_n1, BZ_b, ↓reduceIte, l_0, l_1, l_2, l_3, l_4, l_5, l_6, l_7, l_8, l_9, l_10, l_11, l_12, l_13, l_14, l_15, l_16, l_17, l_18, l_19, l_20, l_21, l_22, l_23, l_24, l_25, l_26, l_27, l_28, l_29, l_30, l_31, l_32, l_33, l_34, l_35, l_36, l_37, l_38, l_39, l_40, l_41, l_42, l_43, l_44, l_45, l_46, l_47, l_48, l_49, l_50, l_51, l_52, l_53, l_54, l_55, l_56, l_57, l_58, l_59, l_60, l_61, l_62, l_63, l_64, l_72, l_74, l_86, l_97, l_99, l_100, l_122, l_140, l_158, l_160, l_164, l_200, l_240, l_255, l_400, l_406, l_900, l_940, l_980, l_999, l_1120, l_1000, l_100000, j4, RF_a, dq]
  · obtain ⟨rfl, rfl, i3, i4, i5⟩ := hI
    refine ⟨a3, ?_, i3, i4, i5⟩
    simp (disch := omega) only [Nat.zero_add, LT, BD_some, BD2_some, JN1, JN2, IX_nI, nI_add, pk_mul, pk_sub, leT, leF, ltT, ltF, eqT, eqF, M1_lit, bI_true, bI_false, BZ_n0, BZ_n1, BZ_b, ↓reduceIte, l_0, l_1, l_2, l_3, l_4, l_5, l_6, l_7, l_8, l_9, l_10, l_11, l_12, l_13, l_14, l_15, l_16, l_17, l_18, l_19, l_20, l_21, l_22, l_23, l_24, l_25, l_26, l_27, l_28, l_29, l_30, l_31, l_32, l_33, l_34, l_35, l_36, l_37, l_38, l_39, l_40, l_41, l_42, l_43, l_44, l_45, l_46, l_47, l_48, l_49, l_50, l_51, l_52, l_53, l_54, l_55, l_56, l_57, l_58, l_59, l_60, l_61, l_62, l_63, l_64, l_72, l_74, l_86, l_97, l_99, l_100, l_122, l_140, l_158, l_160, l_164, l_200, l_240, l_255, l_400, l_406, l_900, l_940, l_980, l_999, l_1120, l_1000, l_100000, i4, RF_a]
theorem op_choice (h : RR x G m c b e z d ow n U) (y : Rec) : ∃ v y' c' m', x1_choice c b e z y = some (v, y', c') ∧ m_choice m = some (v, m') ∧ RR x (wp (wp G (x + 21) 3 y') x 0 c') m' c' b e z d ow n U := by
  have hP := h.di.P
  unfold m_choice
  rw [LT]
  have h1 := h.t0 0
  generalize sI m 0 0 = s at h1 ⊢
  by_cases hP1 : 1 ≤ d 0
  · obtain ⟨y', c', k1, k2, k3, k4⟩ := x1_choice_v h.hb h.he h.hz h.gd hP1 y
    obtain ⟨s', l1, l2, l3, l4, l5⟩ := m_choice_v h1.h14 h.gd hP1
    refine ⟨_, y', c', s', k1, l1, (h1.tried y').main ⟨k2.gP 6, k2.gP 31, k2.gQ 12, k2.gQ 32, k2.2 13 (by omega)⟩ ?_ ⟨l2.gL 19, l2.gL 21, by rw [l3, h1.h14], l2.2.2 16 (by omega) (by omega), l2.2.2 17 (by omega) (by omega), l2.2.2 22 (by omega) (by omega), l2.2.1 24 (by omega) (by omega)⟩⟩
    obtain ⟨w1, w2, w3, w4, w5, w6, w7, w8, w9⟩ := h1.ms
    refine ⟨?_, ?_, ?_, ?_, ?_, ?_, Or.inr ⟨k3, l4, ?_⟩, ?_, ?_⟩
    · rw [k2.gA 0, l2.2.2 1 (by omega) (by omega)]; exact w1
    · rw [k2.2 1 (by omega), l2.2.1 2 (by omega) (by omega)]; exact w2
    · rw [k2.2 11 (by omega), l2.2.1 10 (by omega) (by omega)]; exact w3
    · rw [k2.2 15 (by omega), k2.2 14 (by omega), l2.2.1 25 (by omega) (by omega)]; exact w4
    · rw [k2.2 17 (by omega), k2.2 16 (by omega), l2.2.1 26 (by omega) (by omega)]; exact w5
    · rw [k2.2 20 (by omega), k2.gA 19, l2.2.1 29 (by omega) (by omega), l2.2.2 28 (by omega) (by omega)]; exact w6
    · obtain ⟨k4, k5, k6⟩ := k4
      obtain ⟨l5, l6, l7⟩ := l5
      exact ⟨k4.trans l5.symm, k5.trans l6.symm, k6.trans l7.symm⟩
    · rw [k2.2 27 (by omega), k2.gA 26, l2.2.1 34 (by omega) (by omega), l2.2.2 33 (by omega) (by omega)]; exact w8
    · rw [k2.2 29 (by omega), k2.gA 28, l2.2.1 39 (by omega) (by omega), l2.2.2 37 (by omega) (by omega)]; exact w9
  · have h0 : d 0 = 0 := by omega
    refine ⟨M1, y, c, s, ?_, ?_, ?_⟩
    · unfold x1_choice; rw [PG_of _ h.hb, h.he.1, h0]; rfl
    · rw [h1.h14, RF_a (by omega), h0]; rfl
    · have h2 := h1.tried y
      have hx : (wp G (x + 21) 3 y).2 x = some (0, c) := h2.hx
      rw [wp_id hx]; exact h2
end OPS
