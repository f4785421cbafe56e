/-! PURE: the component's house and state against the row -/
def HS (e : Rec) (d : Nat → Nat) : Prop := gI e 7 = nI (d 0) ∧ gI e 8 = nI (d 1) ∧ gI e 9 = nI (d 2) ∧ gI e 10 = nI (d 3) ∧ gI e 11 = nI (d 23) ∧ gI e 12 = nI (d 4) ∧ gI e 13 = nI (d 5) ∧ (∀ l, l < 5 → gA e 4 l = nI (d (6 + l))) ∧ (∀ p, p < 6 → gA e 5 p = nI (d (11 + p))) ∧ (∀ p, p < 6 → gA e 6 p = nI (d (17 + p)))
def ZS (z : Rec) (d : Nat → Nat) : Prop := gI z 7 = nI (d 24) ∧ gI z 8 = nI (d 25) ∧ (∀ p, p < 6 → gA z 0 p = nI (d (26 + p))) ∧ (∀ p, p < 6 → gA z 1 p = nI (d (32 + p))) ∧ (∀ i, i < 12 → gA z 2 i = nI (d (38 + i))) ∧ (∀ i, i < 12 → gA z 3 i = nI (d (50 + i))) ∧ (∀ i, i < 12 → gA z 4 i = nI (d (62 + i))) ∧ (∀ i, i < 12 → gA z 5 i = nI (d (74 + i))) ∧ (∀ p i, p < 6 → i < 12 → gA z 6 (12 * p + i) = lf (d (86 + 12 * p + i)))
/-- what can be seen from some parlours, n of them looked at -/
def sfN (d : Nat → Nat) (s : Nat) : Nat → Nat
  | 0 => s
  | n + 1 => if s.testBit n = true then sfN d s n ||| d (6 + n) else sfN d s n
theorem sfN_lt {d : Nat → Nat} (h : DI d) {s : Nat} (hs : s < 32) : ∀ n, n ≤ 5 → sfN d s n < 32 := by
  intro n
  induction n with
  | zero => intro _; exact hs
  | succ n ih =>
    intro hn
    show (if _ then _ else _) < 32
    split
    · exact Nat.or_lt_two_pow (n := 5) (ih (by omega)) (h.sg (by omega))
    · exact ih (by omega)
theorem x3_seenFrom_v {e : Rec} {d : Nat → Nat} (he : HS e d) (hd : DI d) {s : Nat} (hs : s < 32) : x3_seenFrom e (nI s) = some (nI (sfN d s (d 0))) := by
  have h0 := hd.P
  obtain ⟨e7, -, -, -, -, -, -, e4, -, -⟩ := he
  unfold x3_seenFrom
  refine LP2_run (fun i => nI (sfN d s i)) (fun i => nI i) 0 (d 0) (by omega) rfl rfl (fun i _ hi rec => ?_) (fun rec => ?_)
  · have h1 := sfN_lt hd hs i (by omega)
    have h2 := hd.sg (l := i) (by omega)
    cases hb : s.testBit i
    · have e : sfN d s (i + 1) = sfN d s i := by show (if _ then _ else _) = _; rw [if_neg (by simp [hb])]
      simp (disch := omega) only [Nat.zero_add, LT, BD_some, BD2_some, JN1, JN2, IX_nI, nI_add, pk_mul, pk_sub, leT, leF, ltT, ltF, eqT, eqF, M1_lit, bI_true, bI_false, BZ_n0, BZ_n1, BZ_b, ↓reduceIte, l_0, l_1, l_2, l_3, l_4, l_5, l_6, l_7, l_8, l_9, l_10, l_11, l_12, l_13, l_14, l_15, l_16, l_17, l_18, l_19, l_20, l_21, l_22, l_23, l_24, l_25, l_26, l_27, l_28, l_29, l_30, l_31, l_32, l_33, l_34, l_35, l_36, l_37, l_38, l_39, l_40, l_41, l_42, l_43, l_44, l_45, l_46, l_47, l_48, l_49, l_50, l_51, l_52, l_53, l_54, l_55, l_56, l_57, l_58, l_59, l_60, l_61, l_62, l_63, l_64, l_72, l_74, l_86, l_97, l_99, l_100, l_122, l_140, l_158, l_160, l_164, l_200, l_240, l_255, l_400, l_406, l_900, l_940, l_980, l_999, l_1120, l_1000, l_100000, e7, x1_has_v, hs_nI, hb, e]
    · have e : sfN d s (i + 1) = sfN d s i ||| d (6 + i) := by show (if _ then _ else _) = _; rw [if_pos hb]
      simp (disch := omega) only [Nat.zero_add, LT, BD_some, BD2_some, JN1, JN2, IX_nI, nI_add, pk_mul, pk_sub, leT, leF, ltT, ltF, eqT, eqF, M1_lit, bI_true, bI_false, BZ_n0, BZ_n1, BZ_b, ↓reduceIte, l_0, l_1, l_2, l_3, l_4, l_5, l_6, l_7, l_8, l_9, l_10, l_11, l_12, l_13, l_14, l_15, l_16, l_17, l_18, l_19, l_20, l_21, l_22, l_23, l_24, l_25, l_26, l_27, l_28, l_29, l_30, l_31, l_32, l_33, l_34, l_35, l_36, l_37, l_38, l_39, l_40, l_41, l_42, l_43, l_44, l_45, l_46, l_47, l_48, l_49, l_50, l_51, l_52, l_53, l_54, l_55, l_56, l_57, l_58, l_59, l_60, l_61, l_62, l_63, l_64, l_72, l_74, l_86, l_97, l_99, l_100, l_122, l_140, l_158, l_160, l_164, l_200, l_240, l_255, l_400, l_406, l_900, l_940, l_980, l_999, l_1120, l_1000, l_100000, e7, x1_has_v, hs_nI, hb, e, e4]
      rw [nI_or (by omega) (by omega)]
  · simp (disch := omega) only [Nat.zero_add, LT, BD_some, BD2_some, JN1, JN2, IX_nI, nI_add, pk_mul, pk_sub, leT, leF, ltT, ltF, eqT, eqF, M1_lit, bI_true, bI_false, BZ_n0, BZ_n1, BZ_b, ↓reduceIte, l_0, l_1, l_2, l_3, l_4, l_5, l_6, l_7, l_8, l_9, l_10, l_11, l_12, l_13, l_14, l_15, l_16, l_17, l_18, l_19, l_20, l_21, l_22, l_23, l_24, l_25, l_26, l_27, l_28, l_29, l_30, l_31, l_32, l_33, l_34, l_35, l_36, l_37, l_38, l_39, l_40, l_41, l_42, l_43, l_44, l_45, l_46, l_47, l_48, l_49, l_50, l_51, l_52, l_53, l_54, l_55, l_56, l_57, l_58, l_59, l_60, l_61, l_62, l_63, l_64, l_72, l_74, l_86, l_97, l_99, l_100, l_122, l_140, l_158, l_160, l_164, l_200, l_240, l_255, l_400, l_406, l_900, l_940, l_980, l_999, l_1120, l_1000, l_100000, e7]
theorem sfN_one {d : Nat → Nat} {a : Nat} : ∀ n, sfN d (2 ^ a) n = if a < n then 2 ^ a ||| d (6 + a) else 2 ^ a := by
  intro n
  induction n with
  | zero => rw [if_neg (by omega)]; rfl
  | succ n ih =>
    show (if (2 ^ a).testBit n = true then sfN d (2 ^ a) n ||| d (6 + n) else sfN d (2 ^ a) n) = _
    rw [ih]
    by_cases h : a = n
    · subst h
      rw [if_pos Nat.testBit_two_pow_self, if_neg (by omega), if_pos (by omega)]
    · rw [if_neg (by rw [Nat.testBit_two_pow_of_ne h]; simp)]
      by_cases h2 : a < n
      · rw [if_pos h2, if_pos (by omega)]
      · rw [if_neg h2, if_neg (by omega)]
theorem x3_all_v {e : Rec} {d : Nat → Nat} (he : HS e d) (hd : DI d) : x3_all e = some (nI (allp d)) := by
  unfold x3_all; rw [he.1, all_v _ hd.P]; rfl
theorem x4_sees_v {e z : Rec} {d : Nat → Nat} (he : HS e d) (hz : ZS z d) (hd : DI d) {p : Nat} (hp : p < d 1) : x4_sees z e (nI p) = some (nI (sees d p 0)) := by
  have h1 := hd.N
  have h2 := hd.pl hp
  have h3 := hd.P
  have h4 := hd.dust (p := p) (by omega)
  have h5 := hd.dusty
  have h6 := hd.ferns
  have h7 : 2 ^ d (26 + p) < 32 := Nat.pow_lt_pow_right (m := d (26 + p)) (n := 5) (a := 2) (by omega) (by omega)
  have k1 := x3_seenFrom_v he hd h7
  rw [sfN_one, if_pos h2, Nat.or_comm] at k1
  obtain ⟨e7, e8, -, -, e11, e12, -, e4, -, -⟩ := he
  obtain ⟨z7, z8, z0, z1, -⟩ := hz
  unfold x4_sees sees
  by_cases hf : (d 23).testBit p = true
  · simp (disch := omega) only [Nat.zero_add, LT, BD_some, BD2_some, JN1, JN2, IX_nI, nI_add, pk_mul, pk_sub, leT, leF, ltT, ltF, eqT, eqF, M1_lit, bI_true, bI_false, BZ_n0, BZ_n1, BZ_b, ↓reduceIte, l_0, l_1, l_2, l_3, l_4, l_5, l_6, l_7, l_8, l_9, l_10, l_11, l_12, l_13, l_14, l_15, l_16, l_17, l_18, l_19, l_20, l_21, l_22, l_23, l_24, l_25, l_26, l_27, l_28, l_29, l_30, l_31, l_32, l_33, l_34, l_35, l_36, l_37, l_38, l_39, l_40, l_41, l_42, l_43, l_44, l_45, l_46, l_47, l_48, l_49, l_50, l_51, l_52, l_53, l_54, l_55, l_56, l_57, l_58, l_59, l_60, l_61, l_62, l_63, l_64, l_72, l_74, l_86, l_97, l_99, l_100, l_122, l_140, l_158, l_160, l_164, l_200, l_240, l_255, l_400, l_406, l_900, l_940, l_980, l_999, l_1120, l_1000, l_100000, e11, x1_has_v, hs_nI, hf]
  · have hf' : (d 23).testBit p = false := by simpa using hf
    by_cases hb : d (32 + p) < d 4
    · simp (disch := omega) only [Nat.zero_add, LT, BD_some, BD2_some, JN1, JN2, IX_nI, nI_add, pk_mul, pk_sub, leT, leF, ltT, ltF, eqT, eqF, M1_lit, bI_true, bI_false, BZ_n0, BZ_n1, BZ_b, ↓reduceIte, l_0, l_1, l_2, l_3, l_4, l_5, l_6, l_7, l_8, l_9, l_10, l_11, l_12, l_13, l_14, l_15, l_16, l_17, l_18, l_19, l_20, l_21, l_22, l_23, l_24, l_25, l_26, l_27, l_28, l_29, l_30, l_31, l_32, l_33, l_34, l_35, l_36, l_37, l_38, l_39, l_40, l_41, l_42, l_43, l_44, l_45, l_46, l_47, l_48, l_49, l_50, l_51, l_52, l_53, l_54, l_55, l_56, l_57, l_58, l_59, l_60, l_61, l_62, l_63, l_64, l_72, l_74, l_86, l_97, l_99, l_100, l_122, l_140, l_158, l_160, l_164, l_200, l_240, l_255, l_400, l_406, l_900, l_940, l_980, l_999, l_1120, l_1000, l_100000, e11, x1_has_v, hs_nI, hf', e12, z1, z0, hb, Nat.add_zero, Bool.false_eq_true, shl1', k1]
    · simp (disch := omega) only [Nat.zero_add, LT, BD_some, BD2_some, JN1, JN2, IX_nI, nI_add, pk_mul, pk_sub, leT, leF, ltT, ltF, eqT, eqF, M1_lit, bI_true, bI_false, BZ_n0, BZ_n1, BZ_b, ↓reduceIte, l_0, l_1, l_2, l_3, l_4, l_5, l_6, l_7, l_8, l_9, l_10, l_11, l_12, l_13, l_14, l_15, l_16, l_17, l_18, l_19, l_20, l_21, l_22, l_23, l_24, l_25, l_26, l_27, l_28, l_29, l_30, l_31, l_32, l_33, l_34, l_35, l_36, l_37, l_38, l_39, l_40, l_41, l_42, l_43, l_44, l_45, l_46, l_47, l_48, l_49, l_50, l_51, l_52, l_53, l_54, l_55, l_56, l_57, l_58, l_59, l_60, l_61, l_62, l_63, l_64, l_72, l_74, l_86, l_97, l_99, l_100, l_122, l_140, l_158, l_160, l_164, l_200, l_240, l_255, l_400, l_406, l_900, l_940, l_980, l_999, l_1120, l_1000, l_100000, e11, x1_has_v, hs_nI, hf', e12, z1, z0, hb, Nat.add_zero, Bool.false_eq_true]
theorem x4_comes_v {z : Rec} {d : Nat → Nat} (hz : ZS z d) {p i : Nat} (hp : p < 6) (hi : i < 12) : x4_comes z (nI p) (nI i) = some (lf (d (86 + 12 * p + i))) := by
  obtain ⟨-, -, -, -, -, -, -, -, z6⟩ := hz
  unfold x4_comes
  simp (disch := omega) only [Nat.zero_add, LT, BD_some, BD2_some, JN1, JN2, IX_nI, nI_add, pk_mul, pk_sub, leT, leF, ltT, ltF, eqT, eqF, M1_lit, bI_true, bI_false, BZ_n0, BZ_n1, BZ_b, ↓reduceIte, l_0, l_1, l_2, l_3, l_4, l_5, l_6, l_7, l_8, l_9, l_10, l_11, l_12, l_13, l_14, l_15, l_16, l_17, l_18, l_19, l_20, l_21, l_22, l_23, l_24, l_25, l_26, l_27, l_28, l_29, l_30, l_31, l_32, l_33, l_34, l_35, l_36, l_37, l_38, l_39, l_40, l_41, l_42, l_43, l_44, l_45, l_46, l_47, l_48, l_49, l_50, l_51, l_52, l_53, l_54, l_55, l_56, l_57, l_58, l_59, l_60, l_61, l_62, l_63, l_64, l_72, l_74, l_86, l_97, l_99, l_100, l_122, l_140, l_158, l_160, l_164, l_200, l_240, l_255, l_400, l_406, l_900, l_940, l_980, l_999, l_1120, l_1000, l_100000, z6]
theorem x4_hasCome_v {z : Rec} {d : Nat → Nat} (hz : ZS z d) (hd : DI d) {p i : Nat} (hp : p < 6) (hi : i < 12) : x4_hasCome z (nI p) (nI i) = some (bI (hc d p i)) := by
  have h1 := hd.leaf hp hi
  have h2 := hd.day
  unfold x4_hasCome
  rw [x4_comes_v hz hp hi, BD_some, hz.1]
  by_cases a : d (86 + 12 * p + i) = 0
  · have e : hc d p i = false := by unfold hc; simp [a]
    rw [a, lf_0, e]; rfl
  · by_cases b : d (86 + 12 * p + i) ≤ d 24 + 1
    · have e : hc d p i = true := by unfold hc; simp [a, b]
      simp (disch := omega) only [Nat.zero_add, LT, BD_some, BD2_some, JN1, JN2, IX_nI, nI_add, pk_mul, pk_sub, leT, leF, ltT, ltF, eqT, eqF, M1_lit, bI_true, bI_false, BZ_n0, BZ_n1, BZ_b, ↓reduceIte, l_0, l_1, l_2, l_3, l_4, l_5, l_6, l_7, l_8, l_9, l_10, l_11, l_12, l_13, l_14, l_15, l_16, l_17, l_18, l_19, l_20, l_21, l_22, l_23, l_24, l_25, l_26, l_27, l_28, l_29, l_30, l_31, l_32, l_33, l_34, l_35, l_36, l_37, l_38, l_39, l_40, l_41, l_42, l_43, l_44, l_45, l_46, l_47, l_48, l_49, l_50, l_51, l_52, l_53, l_54, l_55, l_56, l_57, l_58, l_59, l_60, l_61, l_62, l_63, l_64, l_72, l_74, l_86, l_97, l_99, l_100, l_122, l_140, l_158, l_160, l_164, l_200, l_240, l_255, l_400, l_406, l_900, l_940, l_980, l_999, l_1120, l_1000, l_100000, e, M1_d, lf_M1, lf_ltF]
    · have e : hc d p i = false := by unfold hc; simp [b]
      simp (disch := omega) only [Nat.zero_add, LT, BD_some, BD2_some, JN1, JN2, IX_nI, nI_add, pk_mul, pk_sub, leT, leF, ltT, ltF, eqT, eqF, M1_lit, bI_true, bI_false, BZ_n0, BZ_n1, BZ_b, ↓reduceIte, l_0, l_1, l_2, l_3, l_4, l_5, l_6, l_7, l_8, l_9, l_10, l_11, l_12, l_13, l_14, l_15, l_16, l_17, l_18, l_19, l_20, l_21, l_22, l_23, l_24, l_25, l_26, l_27, l_28, l_29, l_30, l_31, l_32, l_33, l_34, l_35, l_36, l_37, l_38, l_39, l_40, l_41, l_42, l_43, l_44, l_45, l_46, l_47, l_48, l_49, l_50, l_51, l_52, l_53, l_54, l_55, l_56, l_57, l_58, l_59, l_60, l_61, l_62, l_63, l_64, l_72, l_74, l_86, l_97, l_99, l_100, l_122, l_140, l_158, l_160, l_164, l_200, l_240, l_255, l_400, l_406, l_900, l_940, l_980, l_999, l_1120, l_1000, l_100000, e, M1_d, lf_M1, lf_ltT]
/-- the leaf is there, and has come or not as asked -/
theorem hc_wc {d : Nat → Nat} {p i : Nat} : (decide (d (86 + 12 * p + i) ≠ 0) && !hc d p i) = wc d p i := by
  unfold hc wc
  by_cases a : d (86 + 12 * p + i) = 0
  · simp [a]
  · by_cases b : d (86 + 12 * p + i) ≤ d 24 + 1
    · simp [a, b]
    · simp [a, b]; omega
theorem x4_leaves_v {z : Rec} {d : Nat → Nat} (hz : ZS z d) (hd : DI d) {p : Nat} (come : Bool) (hp : p < 6) : x4_leaves z (nI p) (bI come) = some (nI (cntN (hw d come p) (d 25))) := by
  have h2 := hd.acts
  have h3 := hd.day
  unfold x4_leaves
  refine LP2_run (fun i => nI (cntN (hw d come p) i)) (fun i => nI i) 0 (d 25) (by omega) rfl rfl (fun i _ hi rec => ?_) (fun rec => ?_)
  · have h1 := hd.leaf (p := p) (i := i) hp (by omega)
    by_cases a : d (86 + 12 * p + i) = 0
    · have e : hw d come p i = false := by cases come <;> simp [hw, hc, wc, a]
      have e2 : cntN (hw d come p) (i + 1) = cntN (hw d come p) i := cntN_f e
      simp (disch := omega) only [Nat.zero_add, LT, BD_some, BD2_some, JN1, JN2, IX_nI, nI_add, pk_mul, pk_sub, leT, leF, ltT, ltF, eqT, eqF, M1_lit, bI_true, bI_false, BZ_n0, BZ_n1, BZ_b, ↓reduceIte, l_0, l_1, l_2, l_3, l_4, l_5, l_6, l_7, l_8, l_9, l_10, l_11, l_12, l_13, l_14, l_15, l_16, l_17, l_18, l_19, l_20, l_21, l_22, l_23, l_24, l_25, l_26, l_27, l_28, l_29, l_30, l_31, l_32, l_33, l_34, l_35, l_36, l_37, l_38, l_39, l_40, l_41, l_42, l_43, l_44, l_45, l_46, l_47, l_48, l_49, l_50, l_51, l_52, l_53, l_54, l_55, l_56, l_57, l_58, l_59, l_60, l_61, l_62, l_63, l_64, l_72, l_74, l_86, l_97, l_99, l_100, l_122, l_140, l_158, l_160, l_164, l_200, l_240, l_255, l_400, l_406, l_900, l_940, l_980, l_999, l_1120, l_1000, l_100000, hz.2.1, x4_comes_v hz hp, a, lf_0, M1_d, M1_M1, e2]
    · by_cases b : d (86 + 12 * p + i) ≤ d 24 + 1
      · have c1 : hc d p i = true := by unfold hc; simp [a, b]
        have c2 : wc d p i = false := by unfold wc; simp; omega
        cases come
        · have e2 : cntN (hw d false p) (i + 1) = cntN (hw d false p) i := cntN_f c2
          simp (disch := omega) only [Nat.zero_add, LT, BD_some, BD2_some, JN1, JN2, IX_nI, nI_add, pk_mul, pk_sub, leT, leF, ltT, ltF, eqT, eqF, M1_lit, bI_true, bI_false, BZ_n0, BZ_n1, BZ_b, ↓reduceIte, l_0, l_1, l_2, l_3, l_4, l_5, l_6, l_7, l_8, l_9, l_10, l_11, l_12, l_13, l_14, l_15, l_16, l_17, l_18, l_19, l_20, l_21, l_22, l_23, l_24, l_25, l_26, l_27, l_28, l_29, l_30, l_31, l_32, l_33, l_34, l_35, l_36, l_37, l_38, l_39, l_40, l_41, l_42, l_43, l_44, l_45, l_46, l_47, l_48, l_49, l_50, l_51, l_52, l_53, l_54, l_55, l_56, l_57, l_58, l_59, l_60, l_61, l_62, l_63, l_64, l_72, l_74, l_86, l_97, l_99, l_100, l_122, l_140, l_158, l_160, l_164, l_200, l_240, l_255, l_400, l_406, l_900, l_940, l_980, l_999, l_1120, l_1000, l_100000, hz.2.1, x4_comes_v hz hp, x4_hasCome_v hz hd hp, lf_M1, M1_d, c1, e2]
        · have e2 : cntN (hw d true p) (i + 1) = cntN (hw d true p) i + 1 := cntN_t c1
          simp (disch := omega) only [Nat.zero_add, LT, BD_some, BD2_some, JN1, JN2, IX_nI, nI_add, pk_mul, pk_sub, leT, leF, ltT, ltF, eqT, eqF, M1_lit, bI_true, bI_false, BZ_n0, BZ_n1, BZ_b, ↓reduceIte, l_0, l_1, l_2, l_3, l_4, l_5, l_6, l_7, l_8, l_9, l_10, l_11, l_12, l_13, l_14, l_15, l_16, l_17, l_18, l_19, l_20, l_21, l_22, l_23, l_24, l_25, l_26, l_27, l_28, l_29, l_30, l_31, l_32, l_33, l_34, l_35, l_36, l_37, l_38, l_39, l_40, l_41, l_42, l_43, l_44, l_45, l_46, l_47, l_48, l_49, l_50, l_51, l_52, l_53, l_54, l_55, l_56, l_57, l_58, l_59, l_60, l_61, l_62, l_63, l_64, l_72, l_74, l_86, l_97, l_99, l_100, l_122, l_140, l_158, l_160, l_164, l_200, l_240, l_255, l_400, l_406, l_900, l_940, l_980, l_999, l_1120, l_1000, l_100000, hz.2.1, x4_comes_v hz hp, x4_hasCome_v hz hd hp, lf_M1, M1_d, c1, e2]
      · have c1 : hc d p i = false := by unfold hc; simp [b]
        have c2 : wc d p i = true := by unfold wc; simp; omega
        cases come
        · have e2 : cntN (hw d false p) (i + 1) = cntN (hw d false p) i + 1 := cntN_t c2
          simp (disch := omega) only [Nat.zero_add, LT, BD_some, BD2_some, JN1, JN2, IX_nI, nI_add, pk_mul, pk_sub, leT, leF, ltT, ltF, eqT, eqF, M1_lit, bI_true, bI_false, BZ_n0, BZ_n1, BZ_b, ↓reduceIte, l_0, l_1, l_2, l_3, l_4, l_5, l_6, l_7, l_8, l_9, l_10, l_11, l_12, l_13, l_14, l_15, l_16, l_17, l_18, l_19, l_20, l_21, l_22, l_23, l_24, l_25, l_26, l_27, l_28, l_29, l_30, l_31, l_32, l_33, l_34, l_35, l_36, l_37, l_38, l_39, l_40, l_41, l_42, l_43, l_44, l_45, l_46, l_47, l_48, l_49, l_50, l_51, l_52, l_53, l_54, l_55, l_56, l_57, l_58, l_59, l_60, l_61, l_62, l_63, l_64, l_72, l_74, l_86, l_97, l_99, l_100, l_122, l_140, l_158, l_160, l_164, l_200, l_240, l_255, l_400, l_406, l_900, l_940, l_980, l_999, l_1120, l_1000, l_100000, hz.2.1, x4_comes_v hz hp, x4_hasCome_v hz hd hp, lf_M1, M1_d, c1, e2]
        · have e2 : cntN (hw d true p) (i + 1) = cntN (hw d true p) i := cntN_f c1
          simp (disch := omega) only [Nat.zero_add, LT, BD_some, BD2_some, JN1, JN2, IX_nI, nI_add, pk_mul, pk_sub, leT, leF, ltT, ltF, eqT, eqF, M1_lit, bI_true, bI_false, BZ_n0, BZ_n1, BZ_b, ↓reduceIte, l_0, l_1, l_2, l_3, l_4, l_5, l_6, l_7, l_8, l_9, l_10, l_11, l_12, l_13, l_14, l_15, l_16, l_17, l_18, l_19, l_20, l_21, l_22, l_23, l_24, l_25, l_26, l_27, l_28, l_29, l_30, l_31, l_32, l_33, l_34, l_35, l_36, l_37, l_38, l_39, l_40, l_41, l_42, l_43, l_44, l_45, l_46, l_47, l_48, l_49, l_50, l_51, l_52, l_53, l_54, l_55, l_56, l_57, l_58, l_59, l_60, l_61, l_62, l_63, l_64, l_72, l_74, l_86, l_97, l_99, l_100, l_122, l_140, l_158, l_160, l_164, l_200, l_240, l_255, l_400, l_406, l_900, l_940, l_980, l_999, l_1120, l_1000, l_100000, hz.2.1, x4_comes_v hz hp, x4_hasCome_v hz hd hp, lf_M1, M1_d, c1, e2]
  · simp (disch := omega) only [Nat.zero_add, LT, BD_some, BD2_some, JN1, JN2, IX_nI, nI_add, pk_mul, pk_sub, leT, leF, ltT, ltF, eqT, eqF, M1_lit, bI_true, bI_false, BZ_n0, BZ_n1, BZ_b, ↓reduceIte, l_0, l_1, l_2, l_3, l_4, l_5, l_6, l_7, l_8, l_9, l_10, l_11, l_12, l_13, l_14, l_15, l_16, l_17, l_18, l_19, l_20, l_21, l_22, l_23, l_24, l_25, l_26, l_27, l_28, l_29, l_30, l_31, l_32, l_33, l_34, l_35, l_36, l_37, l_38, l_39, l_40, l_41, l_42, l_43, l_44, l_45, l_46, l_47, l_48, l_49, l_50, l_51, l_52, l_53, l_54, l_55, l_56, l_57, l_58, l_59, l_60, l_61, l_62, l_63, l_64, l_72, l_74, l_86, l_97, l_99, l_100, l_122, l_140, l_158, l_160, l_164, l_200, l_240, l_255, l_400, l_406, l_900, l_940, l_980, l_999, l_1120, l_1000, l_100000, hz.2.1]
theorem x4_witnesses_v {e z : Rec} {d : Nat → Nat} (he : HS e d) (hz : ZS z d) (hd : DI d) {i : Nat} (come : Bool) (hi : i < 12) : x4_witnesses z e (nI i) (bI come) = some (nI (setN (fun p => hw d come p i) (d 1))) := by
  have h2 := hd.N
  have h3 := hd.day
  have e8 := he.2.1
  unfold x4_witnesses
  refine LP2_run (fun p => nI (setN (fun p => hw d come p i) p)) (fun i => nI i) 0 (d 1) (by omega) rfl rfl (fun p _ hp rec => ?_) (fun rec => ?_)
  · have h1 := hd.leaf (p := p) (i := i) (by omega) hi
    by_cases a : d (86 + 12 * p + i) = 0
    · have e : hw d come p i = false := by cases come <;> simp [hw, hc, wc, a]
      have e2 : setN (fun p => hw d come p i) (p + 1) = setN (fun p => hw d come p i) p := setN_f e
      simp (disch := omega) only [Nat.zero_add, LT, BD_some, BD2_some, JN1, JN2, IX_nI, nI_add, pk_mul, pk_sub, leT, leF, ltT, ltF, eqT, eqF, M1_lit, bI_true, bI_false, BZ_n0, BZ_n1, BZ_b, ↓reduceIte, l_0, l_1, l_2, l_3, l_4, l_5, l_6, l_7, l_8, l_9, l_10, l_11, l_12, l_13, l_14, l_15, l_16, l_17, l_18, l_19, l_20, l_21, l_22, l_23, l_24, l_25, l_26, l_27, l_28, l_29, l_30, l_31, l_32, l_33, l_34, l_35, l_36, l_37, l_38, l_39, l_40, l_41, l_42, l_43, l_44, l_45, l_46, l_47, l_48, l_49, l_50, l_51, l_52, l_53, l_54, l_55, l_56, l_57, l_58, l_59, l_60, l_61, l_62, l_63, l_64, l_72, l_74, l_86, l_97, l_99, l_100, l_122, l_140, l_158, l_160, l_164, l_200, l_240, l_255, l_400, l_406, l_900, l_940, l_980, l_999, l_1120, l_1000, l_100000, e8, x4_comes_v hz, a, lf_0, M1_d, M1_M1, e2]
    · by_cases b : d (86 + 12 * p + i) ≤ d 24 + 1
      · have c1 : hc d p i = true := by unfold hc; simp [a, b]
        have c2 : wc d p i = false := by unfold wc; simp; omega
        cases come
        · have e2 : setN (fun p => hw d false p i) (p + 1) = setN (fun p => hw d false p i) p := setN_f c2
          simp (disch := omega) only [Nat.zero_add, LT, BD_some, BD2_some, JN1, JN2, IX_nI, nI_add, pk_mul, pk_sub, leT, leF, ltT, ltF, eqT, eqF, M1_lit, bI_true, bI_false, BZ_n0, BZ_n1, BZ_b, ↓reduceIte, l_0, l_1, l_2, l_3, l_4, l_5, l_6, l_7, l_8, l_9, l_10, l_11, l_12, l_13, l_14, l_15, l_16, l_17, l_18, l_19, l_20, l_21, l_22, l_23, l_24, l_25, l_26, l_27, l_28, l_29, l_30, l_31, l_32, l_33, l_34, l_35, l_36, l_37, l_38, l_39, l_40, l_41, l_42, l_43, l_44, l_45, l_46, l_47, l_48, l_49, l_50, l_51, l_52, l_53, l_54, l_55, l_56, l_57, l_58, l_59, l_60, l_61, l_62, l_63, l_64, l_72, l_74, l_86, l_97, l_99, l_100, l_122, l_140, l_158, l_160, l_164, l_200, l_240, l_255, l_400, l_406, l_900, l_940, l_980, l_999, l_1120, l_1000, l_100000, e8, x4_comes_v hz, x4_hasCome_v hz hd, lf_M1, M1_d, c1, e2]
        · simp (disch := omega) only [Nat.zero_add, LT, BD_some, BD2_some, JN1, JN2, IX_nI, nI_add, pk_mul, pk_sub, leT, leF, ltT, ltF, eqT, eqF, M1_lit, bI_true, bI_false, BZ_n0, BZ_n1, BZ_b, ↓reduceIte, l_0, l_1, l_2, l_3, l_4, l_5, l_6, l_7, l_8, l_9, l_10, l_11, l_12, l_13, l_14, l_15, l_16, l_17, l_18, l_19, l_20, l_21, l_22, l_23, l_24, l_25, l_26, l_27, l_28, l_29, l_30, l_31, l_32, l_33, l_34, l_35, l_36, l_37, l_38, l_39, l_40, l_41, l_42, l_43, l_44, l_45, l_46, l_47, l_48, l_49, l_50, l_51, l_52, l_53, l_54, l_55, l_56, l_57, l_58, l_59, l_60, l_61, l_62, l_63, l_64, l_72, l_74, l_86, l_97, l_99, l_100, l_122, l_140, l_158, l_160, l_164, l_200, l_240, l_255, l_400, l_406, l_900, l_940, l_980, l_999, l_1120, l_1000, l_100000, e8, x4_comes_v hz, x4_hasCome_v hz hd, lf_M1, M1_d, c1]
          rw [or_set' (c := fun p => hw d true p i) (by omega) c1]
      · have c1 : hc d p i = false := by unfold hc; simp [b]
        have c2 : wc d p i = true := by unfold wc; simp; omega
        cases come
        · simp (disch := omega) only [Nat.zero_add, LT, BD_some, BD2_some, JN1, JN2, IX_nI, nI_add, pk_mul, pk_sub, leT, leF, ltT, ltF, eqT, eqF, M1_lit, bI_true, bI_false, BZ_n0, BZ_n1, BZ_b, ↓reduceIte, l_0, l_1, l_2, l_3, l_4, l_5, l_6, l_7, l_8, l_9, l_10, l_11, l_12, l_13, l_14, l_15, l_16, l_17, l_18, l_19, l_20, l_21, l_22, l_23, l_24, l_25, l_26, l_27, l_28, l_29, l_30, l_31, l_32, l_33, l_34, l_35, l_36, l_37, l_38, l_39, l_40, l_41, l_42, l_43, l_44, l_45, l_46, l_47, l_48, l_49, l_50, l_51, l_52, l_53, l_54, l_55, l_56, l_57, l_58, l_59, l_60, l_61, l_62, l_63, l_64, l_72, l_74, l_86, l_97, l_99, l_100, l_122, l_140, l_158, l_160, l_164, l_200, l_240, l_255, l_400, l_406, l_900, l_940, l_980, l_999, l_1120, l_1000, l_100000, e8, x4_comes_v hz, x4_hasCome_v hz hd, lf_M1, M1_d, c1]
          rw [or_set' (c := fun p => hw d false p i) (by omega) c2]
        · have e2 : setN (fun p => hw d true p i) (p + 1) = setN (fun p => hw d true p i) p := setN_f c1
          simp (disch := omega) only [Nat.zero_add, LT, BD_some, BD2_some, JN1, JN2, IX_nI, nI_add, pk_mul, pk_sub, leT, leF, ltT, ltF, eqT, eqF, M1_lit, bI_true, bI_false, BZ_n0, BZ_n1, BZ_b, ↓reduceIte, l_0, l_1, l_2, l_3, l_4, l_5, l_6, l_7, l_8, l_9, l_10, l_11, l_12, l_13, l_14, l_15, l_16, l_17, l_18, l_19, l_20, l_21, l_22, l_23, l_24, l_25, l_26, l_27, l_28, l_29, l_30, l_31, l_32, l_33, l_34, l_35, l_36, l_37, l_38, l_39, l_40, l_41, l_42, l_43, l_44, l_45, l_46, l_47, l_48, l_49, l_50, l_51, l_52, l_53, l_54, l_55, l_56, l_57, l_58, l_59, l_60, l_61, l_62, l_63, l_64, l_72, l_74, l_86, l_97, l_99, l_100, l_122, l_140, l_158, l_160, l_164, l_200, l_240, l_255, l_400, l_406, l_900, l_940, l_980, l_999, l_1120, l_1000, l_100000, e8, x4_comes_v hz, x4_hasCome_v hz hd, lf_M1, M1_d, c1, e2]
  · simp (disch := omega) only [Nat.zero_add, LT, BD_some, BD2_some, JN1, JN2, IX_nI, nI_add, pk_mul, pk_sub, leT, leF, ltT, ltF, eqT, eqF, M1_lit, bI_true, bI_false, BZ_n0, BZ_n1, BZ_b, ↓reduceIte, l_0, l_1, l_2, l_3, l_4, l_5, l_6, l_7, l_8, l_9, l_10, l_11, l_12, l_13, l_14, l_15, l_16, l_17, l_18, l_19, l_20, l_21, l_22, l_23, l_24, l_25, l_26, l_27, l_28, l_29, l_30, l_31, l_32, l_33, l_34, l_35, l_36, l_37, l_38, l_39, l_40, l_41, l_42, l_43, l_44, l_45, l_46, l_47, l_48, l_49, l_50, l_51, l_52, l_53, l_54, l_55, l_56, l_57, l_58, l_59, l_60, l_61, l_62, l_63, l_64, l_72, l_74, l_86, l_97, l_99, l_100, l_122, l_140, l_158, l_160, l_164, l_200, l_240, l_255, l_400, l_406, l_900, l_940, l_980, l_999, l_1120, l_1000, l_100000, e8]
theorem x4_isProved_v {e z : Rec} {d : Nat → Nat} (he : HS e d) (hz : ZS z d) (hd : DI d) {i : Nat} (hi : i < 12) : x4_isProved z e (nI i) = some (bI (prv d i)) := by
  have h2 := hd.N
  have h3 := hd.proof
  have h4 := cntN_le (fun p => hc d p i) (d 1)
  have k : x4_witnesses z e (nI i) (1 : Int32) = some (nI (setN (fun p => hc d p i) (d 1))) := x4_witnesses_v he hz hd true hi
  obtain ⟨-, -, -, -, -, -, e13, -⟩ := he
  unfold x4_isProved
  rw [k, BD_some, bc_set (by omega), BD_some, e13]
  by_cases b : cntN (fun p => hc d p i) (d 1) < d 5
  · have e : prv d i = false := by unfold prv; simp; omega
    simp (disch := omega) only [Nat.zero_add, LT, BD_some, BD2_some, JN1, JN2, IX_nI, nI_add, pk_mul, pk_sub, leT, leF, ltT, ltF, eqT, eqF, M1_lit, bI_true, bI_false, BZ_n0, BZ_n1, BZ_b, ↓reduceIte, l_0, l_1, l_2, l_3, l_4, l_5, l_6, l_7, l_8, l_9, l_10, l_11, l_12, l_13, l_14, l_15, l_16, l_17, l_18, l_19, l_20, l_21, l_22, l_23, l_24, l_25, l_26, l_27, l_28, l_29, l_30, l_31, l_32, l_33, l_34, l_35, l_36, l_37, l_38, l_39, l_40, l_41, l_42, l_43, l_44, l_45, l_46, l_47, l_48, l_49, l_50, l_51, l_52, l_53, l_54, l_55, l_56, l_57, l_58, l_59, l_60, l_61, l_62, l_63, l_64, l_72, l_74, l_86, l_97, l_99, l_100, l_122, l_140, l_158, l_160, l_164, l_200, l_240, l_255, l_400, l_406, l_900, l_940, l_980, l_999, l_1120, l_1000, l_100000, e]
  · have e : prv d i = true := by unfold prv; simp; omega
    simp (disch := omega) only [Nat.zero_add, LT, BD_some, BD2_some, JN1, JN2, IX_nI, nI_add, pk_mul, pk_sub, leT, leF, ltT, ltF, eqT, eqF, M1_lit, bI_true, bI_false, BZ_n0, BZ_n1, BZ_b, ↓reduceIte, l_0, l_1, l_2, l_3, l_4, l_5, l_6, l_7, l_8, l_9, l_10, l_11, l_12, l_13, l_14, l_15, l_16, l_17, l_18, l_19, l_20, l_21, l_22, l_23, l_24, l_25, l_26, l_27, l_28, l_29, l_30, l_31, l_32, l_33, l_34, l_35, l_36, l_37, l_38, l_39, l_40, l_41, l_42, l_43, l_44, l_45, l_46, l_47, l_48, l_49, l_50, l_51, l_52, l_53, l_54, l_55, l_56, l_57, l_58, l_59, l_60, l_61, l_62, l_63, l_64, l_72, l_74, l_86, l_97, l_99, l_100, l_122, l_140, l_158, l_160, l_164, l_200, l_240, l_255, l_400, l_406, l_900, l_940, l_980, l_999, l_1120, l_1000, l_100000, e]
theorem x4_proved_v {e z : Rec} {d : Nat → Nat} (he : HS e d) (hz : ZS z d) (hd : DI d) : x4_proved z e = some (nI (setN (prv d) (d 25))) := by
  have h2 := hd.acts
  unfold x4_proved
  refine LP2_run (fun i => nI (setN (prv d) i)) (fun i => nI i) 0 (d 25) (by omega) rfl rfl (fun i _ hi rec => ?_) (fun rec => ?_)
  · cases hb : prv d i
    · have e : setN (prv d) (i + 1) = setN (prv d) i := setN_f hb
      simp (disch := omega) only [Nat.zero_add, LT, BD_some, BD2_some, JN1, JN2, IX_nI, nI_add, pk_mul, pk_sub, leT, leF, ltT, ltF, eqT, eqF, M1_lit, bI_true, bI_false, BZ_n0, BZ_n1, BZ_b, ↓reduceIte, l_0, l_1, l_2, l_3, l_4, l_5, l_6, l_7, l_8, l_9, l_10, l_11, l_12, l_13, l_14, l_15, l_16, l_17, l_18, l_19, l_20, l_21, l_22, l_23, l_24, l_25, l_26, l_27, l_28, l_29, l_30, l_31, l_32, l_33, l_34, l_35, l_36, l_37, l_38, l_39, l_40, l_41, l_42, l_43, l_44, l_45, l_46, l_47, l_48, l_49, l_50, l_51, l_52, l_53, l_54, l_55, l_56, l_57, l_58, l_59, l_60, l_61, l_62, l_63, l_64, l_72, l_74, l_86, l_97, l_99, l_100, l_122, l_140, l_158, l_160, l_164, l_200, l_240, l_255, l_400, l_406, l_900, l_940, l_980, l_999, l_1120, l_1000, l_100000, hz.2.1, x4_isProved_v he hz hd, hb, e]
    · simp (disch := omega) only [Nat.zero_add, LT, BD_some, BD2_some, JN1, JN2, IX_nI, nI_add, pk_mul, pk_sub, leT, leF, ltT, ltF, eqT, eqF, M1_lit, bI_true, bI_false, BZ_n0, BZ_n1, BZ_b, ↓reduceIte, l_0, l_1, l_2, l_3, l_4, l_5, l_6, l_7, l_8, l_9, l_10, l_11, l_12, l_13, l_14, l_15, l_16, l_17, l_18, l_19, l_20, l_21, l_22, l_23, l_24, l_25, l_26, l_27, l_28, l_29, l_30, l_31, l_32, l_33, l_34, l_35, l_36, l_37, l_38, l_39, l_40, l_41, l_42, l_43, l_44, l_45, l_46, l_47, l_48, l_49, l_50, l_51, l_52, l_53, l_54, l_55, l_56, l_57, l_58, l_59, l_60, l_61, l_62, l_63, l_64, l_72, l_74, l_86, l_97, l_99, l_100, l_122, l_140, l_158, l_160, l_164, l_200, l_240, l_255, l_400, l_406, l_900, l_940, l_980, l_999, l_1120, l_1000, l_100000, hz.2.1, x4_isProved_v he hz hd, hb]
      rw [or_set' (c := prv d) (by omega) hb]
  · simp (disch := omega) only [Nat.zero_add, LT, BD_some, BD2_some, JN1, JN2, IX_nI, nI_add, pk_mul, pk_sub, leT, leF, ltT, ltF, eqT, eqF, M1_lit, bI_true, bI_false, BZ_n0, BZ_n1, BZ_b, ↓reduceIte, l_0, l_1, l_2, l_3, l_4, l_5, l_6, l_7, l_8, l_9, l_10, l_11, l_12, l_13, l_14, l_15, l_16, l_17, l_18, l_19, l_20, l_21, l_22, l_23, l_24, l_25, l_26, l_27, l_28, l_29, l_30, l_31, l_32, l_33, l_34, l_35, l_36, l_37, l_38, l_39, l_40, l_41, l_42, l_43, l_44, l_45, l_46, l_47, l_48, l_49, l_50, l_51, l_52, l_53, l_54, l_55, l_56, l_57, l_58, l_59, l_60, l_61, l_62, l_63, l_64, l_72, l_74, l_86, l_97, l_99, l_100, l_122, l_140, l_158, l_160, l_164, l_200, l_240, l_255, l_400, l_406, l_900, l_940, l_980, l_999, l_1120, l_1000, l_100000, hz.2.1]
theorem x4_shown_v {z : Rec} {d : Nat → Nat} (hz : ZS z d) (hd : DI d) {p : Nat} (hp : p < 6) : x4_shown z (nI p) = some (nI (setN (hc d p) (d 25))) := by
  have h2 := hd.acts
  unfold x4_shown
  refine LP2_run (fun i => nI (setN (hc d p) i)) (fun i => nI i) 0 (d 25) (by omega) rfl rfl (fun i _ hi rec => ?_) (fun rec => ?_)
  · cases hb : hc d p i
    · have e : setN (hc d p) (i + 1) = setN (hc d p) i := setN_f hb
      simp (disch := omega) only [Nat.zero_add, LT, BD_some, BD2_some, JN1, JN2, IX_nI, nI_add, pk_mul, pk_sub, leT, leF, ltT, ltF, eqT, eqF, M1_lit, bI_true, bI_false, BZ_n0, BZ_n1, BZ_b, ↓reduceIte, l_0, l_1, l_2, l_3, l_4, l_5, l_6, l_7, l_8, l_9, l_10, l_11, l_12, l_13, l_14, l_15, l_16, l_17, l_18, l_19, l_20, l_21, l_22, l_23, l_24, l_25, l_26, l_27, l_28, l_29, l_30, l_31, l_32, l_33, l_34, l_35, l_36, l_37, l_38, l_39, l_40, l_41, l_42, l_43, l_44, l_45, l_46, l_47, l_48, l_49, l_50, l_51, l_52, l_53, l_54, l_55, l_56, l_57, l_58, l_59, l_60, l_61, l_62, l_63, l_64, l_72, l_74, l_86, l_97, l_99, l_100, l_122, l_140, l_158, l_160, l_164, l_200, l_240, l_255, l_400, l_406, l_900, l_940, l_980, l_999, l_1120, l_1000, l_100000, hz.2.1, x4_hasCome_v hz hd hp, hb, e]
    · simp (disch := omega) only [Nat.zero_add, LT, BD_some, BD2_some, JN1, JN2, IX_nI, nI_add, pk_mul, pk_sub, leT, leF, ltT, ltF, eqT, eqF, M1_lit, bI_true, bI_false, BZ_n0, BZ_n1, BZ_b, ↓reduceIte, l_0, l_1, l_2, l_3, l_4, l_5, l_6, l_7, l_8, l_9, l_10, l_11, l_12, l_13, l_14, l_15, l_16, l_17, l_18, l_19, l_20, l_21, l_22, l_23, l_24, l_25, l_26, l_27, l_28, l_29, l_30, l_31, l_32, l_33, l_34, l_35, l_36, l_37, l_38, l_39, l_40, l_41, l_42, l_43, l_44, l_45, l_46, l_47, l_48, l_49, l_50, l_51, l_52, l_53, l_54, l_55, l_56, l_57, l_58, l_59, l_60, l_61, l_62, l_63, l_64, l_72, l_74, l_86, l_97, l_99, l_100, l_122, l_140, l_158, l_160, l_164, l_200, l_240, l_255, l_400, l_406, l_900, l_940, l_980, l_999, l_1120, l_1000, l_100000, hz.2.1, x4_hasCome_v hz hd hp, hb]
      rw [or_set' (c := hc d p) (by omega) hb]
  · simp (disch := omega) only [Nat.zero_add, LT, BD_some, BD2_some, JN1, JN2, IX_nI, nI_add, pk_mul, pk_sub, leT, leF, ltT, ltF, eqT, eqF, M1_lit, bI_true, bI_false, BZ_n0, BZ_n1, BZ_b, ↓reduceIte, l_0, l_1, l_2, l_3, l_4, l_5, l_6, l_7, l_8, l_9, l_10, l_11, l_12, l_13, l_14, l_15, l_16, l_17, l_18, l_19, l_20, l_21, l_22, l_23, l_24, l_25, l_26, l_27, l_28, l_29, l_30, l_31, l_32, l_33, l_34, l_35, l_36, l_37, l_38, l_39, l_40, l_41, l_42, l_43, l_44, l_45, l_46, l_47, l_48, l_49, l_50, l_51, l_52, l_53, l_54, l_55, l_56, l_57, l_58, l_59, l_60, l_61, l_62, l_63, l_64, l_72, l_74, l_86, l_97, l_99, l_100, l_122, l_140, l_158, l_160, l_164, l_200, l_240, l_255, l_400, l_406, l_900, l_940, l_980, l_999, l_1120, l_1000, l_100000, hz.2.1]
/-- the latest of the first i leaves of a plant, or the day -/
def lat (d : Nat → Nat) (p i : Nat) : Nat := if d 24 + 1 < mxN (fun i => d (86 + 12 * p + i)) i then mxN (fun i => d (86 + 12 * p + i)) i - 1 else d 24
theorem x4_next_v {e z : Rec} {d : Nat → Nat} (he : HS e d) (hz : ZS z d) (hd : DI d) {p : Nat} (hp : p < 6) (hl : d (158 + p) = mxN (fun i => d (86 + 12 * p + i)) (d 25)) : x4_next z e (nI p) = some (nI (nxt d p)) := by
  have h2 := hd.acts
  have h3 := hd.day
  obtain ⟨-, -, -, -, -, -, -, -, -, e6⟩ := he
  unfold x4_next
  refine LP2_run (fun i => nI (lat d p i)) (fun i => nI i) 0 (d 25) (by omega) ?_ rfl (fun i _ hi rec => ?_) (fun rec => ?_)
  · rw [hz.1]; unfold lat; rw [if_neg (by show ¬ _ < 0; omega)]
  · have h1 := hd.leaf (p := p) (i := i) hp (by omega)
    have h4 : mxN (fun i => d (86 + 12 * p + i)) i ≤ 600 := mxN_le (fun j hj => hd.leaf hp (by omega))
    have e : (if nI (lat d p i) < lf (d (86 + 12 * p + i)) then lf (d (86 + 12 * p + i)) else nI (lat d p i)) = nI (lat d p (i + 1)) := by
      have hm : mxN (fun i => d (86 + 12 * p + i)) (i + 1) = max (mxN (fun i => d (86 + 12 * p + i)) i) (d (86 + 12 * p + i)) := rfl
      unfold lat
      rw [hm]
      generalize mxN (fun i => d (86 + 12 * p + i)) i = m at *
      generalize d (86 + 12 * p + i) = x at *
      by_cases b : (if d 24 + 1 < m then m - 1 else d 24) + 1 < x
      · have b2 : d 24 + 1 < x ∧ m < x + 1 := by split at b <;> omega
        rw [if_pos (of_eq_true (lf_ltT b (by omega))), lf_p (by omega), if_pos (by omega)]
        congr 1; omega
      · have b1 : (if d 24 + 1 < m then m - 1 else d 24) ≤ 600 := by split <;> omega
        rw [if_neg (of_eq_false (lf_ltF (by omega) (by omega)))]
        congr 1
        by_cases c1 : d 24 + 1 < m <;> by_cases c2 : d 24 + 1 < max m x <;> simp only [c1, c2, if_true, if_false] at b ⊢ <;> omega
    simp (disch := omega) only [Nat.zero_add, LT, BD_some, BD2_some, JN1, JN2, IX_nI, nI_add, pk_mul, pk_sub, leT, leF, ltT, ltF, eqT, eqF, M1_lit, bI_true, bI_false, BZ_n0, BZ_n1, BZ_b, ↓reduceIte, l_0, l_1, l_2, l_3, l_4, l_5, l_6, l_7, l_8, l_9, l_10, l_11, l_12, l_13, l_14, l_15, l_16, l_17, l_18, l_19, l_20, l_21, l_22, l_23, l_24, l_25, l_26, l_27, l_28, l_29, l_30, l_31, l_32, l_33, l_34, l_35, l_36, l_37, l_38, l_39, l_40, l_41, l_42, l_43, l_44, l_45, l_46, l_47, l_48, l_49, l_50, l_51, l_52, l_53, l_54, l_55, l_56, l_57, l_58, l_59, l_60, l_61, l_62, l_63, l_64, l_72, l_74, l_86, l_97, l_99, l_100, l_122, l_140, l_158, l_160, l_164, l_200, l_240, l_255, l_400, l_406, l_900, l_940, l_980, l_999, l_1120, l_1000, l_100000, hz.2.1, x4_comes_v hz hp]
    rw [e]
  · have e : lat d p (d 25) + d (17 + p) = nxt d p := by unfold lat nxt; rw [← hl]
    simp (disch := omega) only [Nat.zero_add, LT, BD_some, BD2_some, JN1, JN2, IX_nI, nI_add, pk_mul, pk_sub, leT, leF, ltT, ltF, eqT, eqF, M1_lit, bI_true, bI_false, BZ_n0, BZ_n1, BZ_b, ↓reduceIte, l_0, l_1, l_2, l_3, l_4, l_5, l_6, l_7, l_8, l_9, l_10, l_11, l_12, l_13, l_14, l_15, l_16, l_17, l_18, l_19, l_20, l_21, l_22, l_23, l_24, l_25, l_26, l_27, l_28, l_29, l_30, l_31, l_32, l_33, l_34, l_35, l_36, l_37, l_38, l_39, l_40, l_41, l_42, l_43, l_44, l_45, l_46, l_47, l_48, l_49, l_50, l_51, l_52, l_53, l_54, l_55, l_56, l_57, l_58, l_59, l_60, l_61, l_62, l_63, l_64, l_72, l_74, l_86, l_97, l_99, l_100, l_122, l_140, l_158, l_160, l_164, l_200, l_240, l_255, l_400, l_406, l_900, l_940, l_980, l_999, l_1120, l_1000, l_100000, hz.2.1, e6, e]
theorem x4_seers_v {e z : Rec} {d : Nat → Nat} (he : HS e d) (hz : ZS z d) (hd : DI d) {l : Nat} (hl : l < 5) : x4_seers z e (nI l) = some (nI (setN (fun p => (sees d p 0).testBit l) (d 1))) := by
  have h2 := hd.N
  have e8 := he.2.1
  unfold x4_seers
  refine LP2_run (fun p => nI (setN (fun p => (sees d p 0).testBit l) p)) (fun i => nI i) 0 (d 1) (by omega) rfl rfl (fun p _ hp rec => ?_) (fun rec => ?_)
  · have h6 := sees_lt hd (p := p) (k := 0) (by omega)
    cases hb : (sees d p 0).testBit l
    · have e : setN (fun p => (sees d p 0).testBit l) (p + 1) = setN (fun p => (sees d p 0).testBit l) p := setN_f hb
      simp (disch := omega) only [Nat.zero_add, LT, BD_some, BD2_some, JN1, JN2, IX_nI, nI_add, pk_mul, pk_sub, leT, leF, ltT, ltF, eqT, eqF, M1_lit, bI_true, bI_false, BZ_n0, BZ_n1, BZ_b, ↓reduceIte, l_0, l_1, l_2, l_3, l_4, l_5, l_6, l_7, l_8, l_9, l_10, l_11, l_12, l_13, l_14, l_15, l_16, l_17, l_18, l_19, l_20, l_21, l_22, l_23, l_24, l_25, l_26, l_27, l_28, l_29, l_30, l_31, l_32, l_33, l_34, l_35, l_36, l_37, l_38, l_39, l_40, l_41, l_42, l_43, l_44, l_45, l_46, l_47, l_48, l_49, l_50, l_51, l_52, l_53, l_54, l_55, l_56, l_57, l_58, l_59, l_60, l_61, l_62, l_63, l_64, l_72, l_74, l_86, l_97, l_99, l_100, l_122, l_140, l_158, l_160, l_164, l_200, l_240, l_255, l_400, l_406, l_900, l_940, l_980, l_999, l_1120, l_1000, l_100000, e8, x4_sees_v he hz hd, x1_has_v, hs_nI, hb, e]
    · simp (disch := omega) only [Nat.zero_add, LT, BD_some, BD2_some, JN1, JN2, IX_nI, nI_add, pk_mul, pk_sub, leT, leF, ltT, ltF, eqT, eqF, M1_lit, bI_true, bI_false, BZ_n0, BZ_n1, BZ_b, ↓reduceIte, l_0, l_1, l_2, l_3, l_4, l_5, l_6, l_7, l_8, l_9, l_10, l_11, l_12, l_13, l_14, l_15, l_16, l_17, l_18, l_19, l_20, l_21, l_22, l_23, l_24, l_25, l_26, l_27, l_28, l_29, l_30, l_31, l_32, l_33, l_34, l_35, l_36, l_37, l_38, l_39, l_40, l_41, l_42, l_43, l_44, l_45, l_46, l_47, l_48, l_49, l_50, l_51, l_52, l_53, l_54, l_55, l_56, l_57, l_58, l_59, l_60, l_61, l_62, l_63, l_64, l_72, l_74, l_86, l_97, l_99, l_100, l_122, l_140, l_158, l_160, l_164, l_200, l_240, l_255, l_400, l_406, l_900, l_940, l_980, l_999, l_1120, l_1000, l_100000, e8, x4_sees_v he hz hd, x1_has_v, hs_nI, hb]
      rw [or_set' (c := fun p => (sees d p 0).testBit l) (by omega) hb]
  · simp (disch := omega) only [Nat.zero_add, LT, BD_some, BD2_some, JN1, JN2, IX_nI, nI_add, pk_mul, pk_sub, leT, leF, ltT, ltF, eqT, eqF, M1_lit, bI_true, bI_false, BZ_n0, BZ_n1, BZ_b, ↓reduceIte, l_0, l_1, l_2, l_3, l_4, l_5, l_6, l_7, l_8, l_9, l_10, l_11, l_12, l_13, l_14, l_15, l_16, l_17, l_18, l_19, l_20, l_21, l_22, l_23, l_24, l_25, l_26, l_27, l_28, l_29, l_30, l_31, l_32, l_33, l_34, l_35, l_36, l_37, l_38, l_39, l_40, l_41, l_42, l_43, l_44, l_45, l_46, l_47, l_48, l_49, l_50, l_51, l_52, l_53, l_54, l_55, l_56, l_57, l_58, l_59, l_60, l_61, l_62, l_63, l_64, l_72, l_74, l_86, l_97, l_99, l_100, l_122, l_140, l_158, l_160, l_164, l_200, l_240, l_255, l_400, l_406, l_900, l_940, l_980, l_999, l_1120, l_1000, l_100000, e8]
