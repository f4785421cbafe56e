/-! PURE: what a row says; the model's questions to its row -/
def mxN (g : Nat → Nat) : Nat → Nat
  | 0 => 0
  | n + 1 => max (mxN g n) (g n)
theorem mxN_s (g : Nat → Nat) (n : Nat) : mxN g (n + 1) = max (mxN g n) (g n) := rfl
theorem mxN_le {g : Nat → Nat} {m : Nat} : ∀ {n : Nat}, (∀ i, i < n → g i ≤ m) → mxN g n ≤ m := by
  intro n
  induction n with
  | zero => intro _; exact Nat.zero_le _
  | succ n ih => intro h; have h1 := ih (fun i hi => h i (by omega)); have h2 := h n (by omega); rw [mxN_s]; omega
theorem mxN_congr {g g' : Nat → Nat} : ∀ {n : Nat}, (∀ i, i < n → g i = g' i) → mxN g n = mxN g' n := by
  intro n
  induction n with
  | zero => intro _; rfl
  | succ n ih => intro h; rw [mxN_s, mxN_s, ih (fun i hi => h i (by omega)), h n (by omega)]
/-- what holds of a house as the row has it -/
def DH (d : Nat → Nat) : Prop := d 0 ≤ 5 ∧ d 1 ≤ 6 ∧ d 2 ≤ 4 ∧ d 3 ≤ 5 ∧ (1 ≤ d 4 ∧ d 4 ≤ 60) ∧ (1 ≤ d 5 ∧ d 5 ≤ 6) ∧ (∀ l, l < 5 → d (6 + l) < 2 ^ d 0) ∧ (∀ p, p < d 1 → 1 ≤ d (17 + p)) ∧ (∀ p, p < 6 → d (17 + p) ≤ 9) ∧ d 23 < 64
/-- what holds of what is so: bounds -/
def DS (d : Nat → Nat) : Prop := d 24 ≤ 400 ∧ d 25 ≤ 12 ∧ (∀ p, p < d 1 → d (26 + p) < d 0) ∧ (∀ p, p < 6 → d (32 + p) ≤ 99) ∧ (∀ i, i < 12 → d (74 + i) ≤ 400) ∧ (∀ p i, p < 6 → i < 12 → d (86 + 12 * p + i) ≤ 600) ∧ (∀ p, p < 6 → d (158 + p) ≤ 600)
/-- of the leaves, and of the latest of each plant -/
def DT (d : Nat → Nat) : Prop := (∀ p i, p < 6 → i < 12 → d (86 + 12 * p + i) ≤ 401 + 9 * d 25) ∧ (∀ p i, p < 6 → i < 12 → d 25 ≤ i → d (86 + 12 * p + i) = 0) ∧ (∀ p i, p < 6 → i < d 25 → d (86 + 12 * p + i) ≠ 0 → d (74 + i) + 1 < d (86 + 12 * p + i)) ∧ (∀ p, p < 6 → d (158 + p) = mxN (fun i => d (86 + 12 * p + i)) (d 25))
def DI (d : Nat → Nat) : Prop := DH d ∧ DS d
theorem DI.P {d : Nat → Nat} (h : DI d) : d 0 ≤ 5 := h.1.1
theorem DI.N {d : Nat → Nat} (h : DI d) : d 1 ≤ 6 := h.1.2.1
theorem DI.Q {d : Nat → Nat} (h : DI d) : d 2 ≤ 4 := h.1.2.2.1
theorem DI.D {d : Nat → Nat} (h : DI d) : d 3 ≤ 5 := h.1.2.2.2.1
theorem DI.dusty {d : Nat → Nat} (h : DI d) : 1 ≤ d 4 ∧ d 4 ≤ 60 := h.1.2.2.2.2.1
theorem DI.proof {d : Nat → Nat} (h : DI d) : 1 ≤ d 5 ∧ d 5 ≤ 6 := h.1.2.2.2.2.2.1
theorem DI.sg {d : Nat → Nat} (h : DI d) {l : Nat} (hl : l < 5) : d (6 + l) < 32 := Nat.lt_of_lt_of_le (h.1.2.2.2.2.2.2.1 l hl) (p5 h.P)
theorem DI.slow1 {d : Nat → Nat} (h : DI d) {p : Nat} (hp : p < d 1) : 1 ≤ d (17 + p) := h.1.2.2.2.2.2.2.2.1 p hp
theorem DI.slow {d : Nat → Nat} (h : DI d) {p : Nat} (hp : p < 6) : d (17 + p) ≤ 9 := h.1.2.2.2.2.2.2.2.2.1 p hp
theorem DI.ferns {d : Nat → Nat} (h : DI d) : d 23 < 64 := h.1.2.2.2.2.2.2.2.2.2
theorem DI.day {d : Nat → Nat} (h : DI d) : d 24 ≤ 400 := h.2.1
theorem DI.acts {d : Nat → Nat} (h : DI d) : d 25 ≤ 12 := h.2.2.1
theorem DI.pl {d : Nat → Nat} (h : DI d) {p : Nat} (hp : p < d 1) : d (26 + p) < d 0 := h.2.2.2.1 p hp
theorem DI.dust {d : Nat → Nat} (h : DI d) {p : Nat} (hp : p < 6) : d (32 + p) ≤ 99 := h.2.2.2.2.1 p hp
theorem DI.since {d : Nat → Nat} (h : DI d) {i : Nat} (hi : i < 12) : d (74 + i) ≤ 400 := h.2.2.2.2.2.1 i hi
theorem DI.leaf {d : Nat → Nat} (h : DI d) {p i : Nat} (hp : p < 6) (hi : i < 12) : d (86 + 12 * p + i) ≤ 600 := h.2.2.2.2.2.2.1 p i hp hi
theorem DI.late {d : Nat → Nat} (h : DI d) {p : Nat} (hp : p < 6) : d (158 + p) ≤ 600 := h.2.2.2.2.2.2.2 p hp
/-- a plant's leaf for an act has come; will come -/
def hc (d : Nat → Nat) (p i : Nat) : Bool := decide (d (86 + 12 * p + i) ≠ 0 ∧ d (86 + 12 * p + i) ≤ d 24 + 1)
def wc (d : Nat → Nat) (p i : Nat) : Bool := decide (d 24 + 1 < d (86 + 12 * p + i))
def sees (d : Nat → Nat) (p k : Nat) : Nat := if (d 23).testBit p = true then 0 else if d (32 + p) + k < d 4 then d (6 + d (26 + p)) ||| 2 ^ d (26 + p) else 0
theorem sees_lt {d : Nat → Nat} (h : DI d) {p k : Nat} (hp : p < d 1) : sees d p k < 32 := by
  unfold sees
  have h1 := h.pl hp
  have h2 := h.P
  split
  · omega
  · split
    · exact Nat.or_lt_two_pow (n := 5) (h.sg (by omega)) (Nat.pow_lt_pow_right (by omega) (by omega))
    · omega
/-- the model's row -/
theorem m_isFern_v {s : Rec} {d : Nat → Nat} (h : gA s 14 = RF d) (hd : DI d) {p : Nat} (hp : p < 31) : m_isFern s (nI p) = some (bI ((d 23).testBit p)) := by
  have h1 := hd.ferns
  unfold m_isFern
  rw [m_has_v, BD_some, BZ_b, h, RF_a (by omega), hs_nI (by omega) hp]
theorem m_around_v {s : Rec} {d : Nat → Nat} (h : gA s 14 = RF d) (hd : DI d) {l : Nat} (hl : l < 5) : m_around s (nI l) = some (nI (d (6 + l) ||| 2 ^ l)) := by
  have h1 := hd.sg hl
  have h2 : 2 ^ l < 32 := Nat.pow_lt_pow_right (m := l) (n := 5) (a := 2) (by omega) hl
  unfold m_around
  simp (disch := omega) only [Nat.zero_add, LT, BD_some, BD2_some, JN1, JN2, IX_nI, nI_add, pk_mul, pk_sub, leT, leF, ltT, ltF, eqT, eqF, M1_lit, bI_true, bI_false, BZ_n0, BZ_n1, BZ_b, ↓reduceIte, l_0, l_1, l_2, l_3, l_4, l_5, l_6, l_7, l_8, l_9, l_10, l_11, l_12, l_13, l_14, l_15, l_16, l_17, l_18, l_19, l_20, l_21, l_22, l_23, l_24, l_25, l_26, l_27, l_28, l_29, l_30, l_31, l_32, l_33, l_34, l_35, l_36, l_37, l_38, l_39, l_40, l_41, l_42, l_43, l_44, l_45, l_46, l_47, l_48, l_49, l_50, l_51, l_52, l_53, l_54, l_55, l_56, l_57, l_58, l_59, l_60, l_61, l_62, l_63, l_64, l_72, l_74, l_86, l_97, l_99, l_100, l_122, l_140, l_158, l_160, l_164, l_200, l_240, l_255, l_400, l_406, l_900, l_940, l_980, l_999, l_1120, l_1000, l_100000, h, RF_a]
  rw [shl1' l (by omega), nI_or (by omega) (by omega)]
theorem m_seesOf_v {s : Rec} {d : Nat → Nat} (h : gA s 14 = RF d) (hd : DI d) {p k : Nat} (hp : p < d 1) (hk : k ≤ 1000) : m_seesOf s (nI p) (nI k) = some (nI (sees d p k)) := by
  have h1 := hd.N
  have h2 := hd.pl hp
  have h3 := hd.P
  have h4 := hd.dust (p := p) (by omega)
  have h5 := hd.dusty
  unfold m_seesOf sees
  rw [m_isFern_v h hd (by omega)]
  by_cases hf : (d 23).testBit p = true
  · simp (disch := omega) only [Nat.zero_add, LT, BD_some, BD2_some, JN1, JN2, IX_nI, nI_add, pk_mul, pk_sub, leT, leF, ltT, ltF, eqT, eqF, M1_lit, bI_true, bI_false, BZ_n0, BZ_n1, BZ_b, ↓reduceIte, l_0, l_1, l_2, l_3, l_4, l_5, l_6, l_7, l_8, l_9, l_10, l_11, l_12, l_13, l_14, l_15, l_16, l_17, l_18, l_19, l_20, l_21, l_22, l_23, l_24, l_25, l_26, l_27, l_28, l_29, l_30, l_31, l_32, l_33, l_34, l_35, l_36, l_37, l_38, l_39, l_40, l_41, l_42, l_43, l_44, l_45, l_46, l_47, l_48, l_49, l_50, l_51, l_52, l_53, l_54, l_55, l_56, l_57, l_58, l_59, l_60, l_61, l_62, l_63, l_64, l_72, l_74, l_86, l_97, l_99, l_100, l_122, l_140, l_158, l_160, l_164, l_200, l_240, l_255, l_400, l_406, l_900, l_940, l_980, l_999, l_1120, l_1000, l_100000, hf]
  · have hf' : (d 23).testBit p = false := by simpa using hf
    by_cases hb : d (32 + p) + k < d 4
    · simp (disch := omega) only [Nat.zero_add, LT, BD_some, BD2_some, JN1, JN2, IX_nI, nI_add, pk_mul, pk_sub, leT, leF, ltT, ltF, eqT, eqF, M1_lit, bI_true, bI_false, BZ_n0, BZ_n1, BZ_b, ↓reduceIte, l_0, l_1, l_2, l_3, l_4, l_5, l_6, l_7, l_8, l_9, l_10, l_11, l_12, l_13, l_14, l_15, l_16, l_17, l_18, l_19, l_20, l_21, l_22, l_23, l_24, l_25, l_26, l_27, l_28, l_29, l_30, l_31, l_32, l_33, l_34, l_35, l_36, l_37, l_38, l_39, l_40, l_41, l_42, l_43, l_44, l_45, l_46, l_47, l_48, l_49, l_50, l_51, l_52, l_53, l_54, l_55, l_56, l_57, l_58, l_59, l_60, l_61, l_62, l_63, l_64, l_72, l_74, l_86, l_97, l_99, l_100, l_122, l_140, l_158, l_160, l_164, l_200, l_240, l_255, l_400, l_406, l_900, l_940, l_980, l_999, l_1120, l_1000, l_100000, hf', h, RF_a, hb, m_around_v h hd, Bool.false_eq_true]
    · simp (disch := omega) only [Nat.zero_add, LT, BD_some, BD2_some, JN1, JN2, IX_nI, nI_add, pk_mul, pk_sub, leT, leF, ltT, ltF, eqT, eqF, M1_lit, bI_true, bI_false, BZ_n0, BZ_n1, BZ_b, ↓reduceIte, l_0, l_1, l_2, l_3, l_4, l_5, l_6, l_7, l_8, l_9, l_10, l_11, l_12, l_13, l_14, l_15, l_16, l_17, l_18, l_19, l_20, l_21, l_22, l_23, l_24, l_25, l_26, l_27, l_28, l_29, l_30, l_31, l_32, l_33, l_34, l_35, l_36, l_37, l_38, l_39, l_40, l_41, l_42, l_43, l_44, l_45, l_46, l_47, l_48, l_49, l_50, l_51, l_52, l_53, l_54, l_55, l_56, l_57, l_58, l_59, l_60, l_61, l_62, l_63, l_64, l_72, l_74, l_86, l_97, l_99, l_100, l_122, l_140, l_158, l_160, l_164, l_200, l_240, l_255, l_400, l_406, l_900, l_940, l_980, l_999, l_1120, l_1000, l_100000, hf', h, RF_a, hb, Bool.false_eq_true]
theorem m_leafOf_v {s : Rec} {d : Nat → Nat} (h : gA s 14 = RF d) {p i : Nat} (hp : p < 6) (hi : i < 12) : m_leafOf s (nI p) (nI i) = some (lf (d (86 + 12 * p + i))) := by
  unfold m_leafOf
  simp (disch := omega) only [Nat.zero_add, LT, BD_some, BD2_some, JN1, JN2, IX_nI, nI_add, pk_mul, pk_sub, leT, leF, ltT, ltF, eqT, eqF, M1_lit, bI_true, bI_false, BZ_n0, BZ_n1, BZ_b, ↓reduceIte, l_0, l_1, l_2, l_3, l_4, l_5, l_6, l_7, l_8, l_9, l_10, l_11, l_12, l_13, l_14, l_15, l_16, l_17, l_18, l_19, l_20, l_21, l_22, l_23, l_24, l_25, l_26, l_27, l_28, l_29, l_30, l_31, l_32, l_33, l_34, l_35, l_36, l_37, l_38, l_39, l_40, l_41, l_42, l_43, l_44, l_45, l_46, l_47, l_48, l_49, l_50, l_51, l_52, l_53, l_54, l_55, l_56, l_57, l_58, l_59, l_60, l_61, l_62, l_63, l_64, l_72, l_74, l_86, l_97, l_99, l_100, l_122, l_140, l_158, l_160, l_164, l_200, l_240, l_255, l_400, l_406, l_900, l_940, l_980, l_999, l_1120, l_1000, l_100000, h, RF_l]
theorem m_hasCome_v {s : Rec} {d : Nat → Nat} (h : gA s 14 = RF d) (hd : DI d) {p i : Nat} (hp : p < 6) (hi : i < 12) : m_hasCome s (nI p) (nI i) = some (bI (hc d p i)) := by
  have h1 := hd.leaf hp hi
  have h2 := hd.day
  unfold m_hasCome
  rw [m_leafOf_v h hp hi, BD_some, h, RF_a (by omega)]
  by_cases a : d (86 + 12 * p + i) = 0
  · have e : hc d p i = false := by unfold hc; simp [a]
    rw [a, lf_0, e]; rfl
  · by_cases b : d (86 + 12 * p + i) ≤ d 24 + 1
    · have e : hc d p i = true := by unfold hc; simp [a, b]
      simp (disch := omega) only [Nat.zero_add, LT, BD_some, BD2_some, JN1, JN2, IX_nI, nI_add, pk_mul, pk_sub, leT, leF, ltT, ltF, eqT, eqF, M1_lit, bI_true, bI_false, BZ_n0, BZ_n1, BZ_b, ↓reduceIte, l_0, l_1, l_2, l_3, l_4, l_5, l_6, l_7, l_8, l_9, l_10, l_11, l_12, l_13, l_14, l_15, l_16, l_17, l_18, l_19, l_20, l_21, l_22, l_23, l_24, l_25, l_26, l_27, l_28, l_29, l_30, l_31, l_32, l_33, l_34, l_35, l_36, l_37, l_38, l_39, l_40, l_41, l_42, l_43, l_44, l_45, l_46, l_47, l_48, l_49, l_50, l_51, l_52, l_53, l_54, l_55, l_56, l_57, l_58, l_59, l_60, l_61, l_62, l_63, l_64, l_72, l_74, l_86, l_97, l_99, l_100, l_122, l_140, l_158, l_160, l_164, l_200, l_240, l_255, l_400, l_406, l_900, l_940, l_980, l_999, l_1120, l_1000, l_100000, e, M1_d, lf_M1, lf_ltF]
    · have e : hc d p i = false := by unfold hc; simp [b]
      simp (disch := omega) only [Nat.zero_add, LT, BD_some, BD2_some, JN1, JN2, IX_nI, nI_add, pk_mul, pk_sub, leT, leF, ltT, ltF, eqT, eqF, M1_lit, bI_true, bI_false, BZ_n0, BZ_n1, BZ_b, ↓reduceIte, l_0, l_1, l_2, l_3, l_4, l_5, l_6, l_7, l_8, l_9, l_10, l_11, l_12, l_13, l_14, l_15, l_16, l_17, l_18, l_19, l_20, l_21, l_22, l_23, l_24, l_25, l_26, l_27, l_28, l_29, l_30, l_31, l_32, l_33, l_34, l_35, l_36, l_37, l_38, l_39, l_40, l_41, l_42, l_43, l_44, l_45, l_46, l_47, l_48, l_49, l_50, l_51, l_52, l_53, l_54, l_55, l_56, l_57, l_58, l_59, l_60, l_61, l_62, l_63, l_64, l_72, l_74, l_86, l_97, l_99, l_100, l_122, l_140, l_158, l_160, l_164, l_200, l_240, l_255, l_400, l_406, l_900, l_940, l_980, l_999, l_1120, l_1000, l_100000, e, M1_d, lf_M1, lf_ltT]
theorem m_willCome_v {s : Rec} {d : Nat → Nat} (h : gA s 14 = RF d) (hd : DI d) {p i : Nat} (hp : p < 6) (hi : i < 12) : m_willCome s (nI p) (nI i) = some (bI (wc d p i)) := by
  have h1 := hd.leaf hp hi
  have h2 := hd.day
  unfold m_willCome
  rw [m_leafOf_v h hp hi, BD_some, h, RF_a (by omega)]
  by_cases b : d (86 + 12 * p + i) ≤ d 24 + 1
  · have e : wc d p i = false := by unfold wc; simp; omega
    simp (disch := omega) only [Nat.zero_add, LT, BD_some, BD2_some, JN1, JN2, IX_nI, nI_add, pk_mul, pk_sub, leT, leF, ltT, ltF, eqT, eqF, M1_lit, bI_true, bI_false, BZ_n0, BZ_n1, BZ_b, ↓reduceIte, l_0, l_1, l_2, l_3, l_4, l_5, l_6, l_7, l_8, l_9, l_10, l_11, l_12, l_13, l_14, l_15, l_16, l_17, l_18, l_19, l_20, l_21, l_22, l_23, l_24, l_25, l_26, l_27, l_28, l_29, l_30, l_31, l_32, l_33, l_34, l_35, l_36, l_37, l_38, l_39, l_40, l_41, l_42, l_43, l_44, l_45, l_46, l_47, l_48, l_49, l_50, l_51, l_52, l_53, l_54, l_55, l_56, l_57, l_58, l_59, l_60, l_61, l_62, l_63, l_64, l_72, l_74, l_86, l_97, l_99, l_100, l_122, l_140, l_158, l_160, l_164, l_200, l_240, l_255, l_400, l_406, l_900, l_940, l_980, l_999, l_1120, l_1000, l_100000, e, lf_leT]
  · have e : wc d p i = true := by unfold wc; simp; omega
    simp (disch := omega) only [Nat.zero_add, LT, BD_some, BD2_some, JN1, JN2, IX_nI, nI_add, pk_mul, pk_sub, leT, leF, ltT, ltF, eqT, eqF, M1_lit, bI_true, bI_false, BZ_n0, BZ_n1, BZ_b, ↓reduceIte, l_0, l_1, l_2, l_3, l_4, l_5, l_6, l_7, l_8, l_9, l_10, l_11, l_12, l_13, l_14, l_15, l_16, l_17, l_18, l_19, l_20, l_21, l_22, l_23, l_24, l_25, l_26, l_27, l_28, l_29, l_30, l_31, l_32, l_33, l_34, l_35, l_36, l_37, l_38, l_39, l_40, l_41, l_42, l_43, l_44, l_45, l_46, l_47, l_48, l_49, l_50, l_51, l_52, l_53, l_54, l_55, l_56, l_57, l_58, l_59, l_60, l_61, l_62, l_63, l_64, l_72, l_74, l_86, l_97, l_99, l_100, l_122, l_140, l_158, l_160, l_164, l_200, l_240, l_255, l_400, l_406, l_900, l_940, l_980, l_999, l_1120, l_1000, l_100000, e, lf_leF]
def hw (d : Nat → Nat) (come : Bool) (p i : Nat) : Bool := cond come (hc d p i) (wc d p i)
theorem m_shownBy_v {s : Rec} {d : Nat → Nat} (h : gA s 14 = RF d) (hd : DI d) {p : Nat} (come : Bool) (hp : p < 6) : m_shownBy s (nI p) (bI come) = some (nI (setN (hw d come p) (d 25))) := by
  have h2 := hd.acts
  unfold m_shownBy
  refine LP2_run (fun i => nI (setN (hw d come p) i)) (fun i => nI i) 0 (d 25) (by omega) rfl rfl (fun i _ hi rec => ?_) (fun rec => ?_)
  · cases come
    · cases hb : wc d p i
      · have e : setN (hw d false p) (i + 1) = setN (hw d false p) i := setN_f hb
        simp (disch := omega) only [Nat.zero_add, LT, BD_some, BD2_some, JN1, JN2, IX_nI, nI_add, pk_mul, pk_sub, leT, leF, ltT, ltF, eqT, eqF, M1_lit, bI_true, bI_false, BZ_n0, BZ_n1, BZ_b, ↓reduceIte, l_0, l_1, l_2, l_3, l_4, l_5, l_6, l_7, l_8, l_9, l_10, l_11, l_12, l_13, l_14, l_15, l_16, l_17, l_18, l_19, l_20, l_21, l_22, l_23, l_24, l_25, l_26, l_27, l_28, l_29, l_30, l_31, l_32, l_33, l_34, l_35, l_36, l_37, l_38, l_39, l_40, l_41, l_42, l_43, l_44, l_45, l_46, l_47, l_48, l_49, l_50, l_51, l_52, l_53, l_54, l_55, l_56, l_57, l_58, l_59, l_60, l_61, l_62, l_63, l_64, l_72, l_74, l_86, l_97, l_99, l_100, l_122, l_140, l_158, l_160, l_164, l_200, l_240, l_255, l_400, l_406, l_900, l_940, l_980, l_999, l_1120, l_1000, l_100000, h, RF_a, m_willCome_v h hd hp, hb, e]
      · simp (disch := omega) only [Nat.zero_add, LT, BD_some, BD2_some, JN1, JN2, IX_nI, nI_add, pk_mul, pk_sub, leT, leF, ltT, ltF, eqT, eqF, M1_lit, bI_true, bI_false, BZ_n0, BZ_n1, BZ_b, ↓reduceIte, l_0, l_1, l_2, l_3, l_4, l_5, l_6, l_7, l_8, l_9, l_10, l_11, l_12, l_13, l_14, l_15, l_16, l_17, l_18, l_19, l_20, l_21, l_22, l_23, l_24, l_25, l_26, l_27, l_28, l_29, l_30, l_31, l_32, l_33, l_34, l_35, l_36, l_37, l_38, l_39, l_40, l_41, l_42, l_43, l_44, l_45, l_46, l_47, l_48, l_49, l_50, l_51, l_52, l_53, l_54, l_55, l_56, l_57, l_58, l_59, l_60, l_61, l_62, l_63, l_64, l_72, l_74, l_86, l_97, l_99, l_100, l_122, l_140, l_158, l_160, l_164, l_200, l_240, l_255, l_400, l_406, l_900, l_940, l_980, l_999, l_1120, l_1000, l_100000, h, RF_a, m_willCome_v h hd hp, hb]
        rw [or_set' (c := hw d false p) (by omega) hb]
    · cases hb : hc d p i
      · have e : setN (hw d true p) (i + 1) = setN (hw d true p) i := setN_f hb
        simp (disch := omega) only [Nat.zero_add, LT, BD_some, BD2_some, JN1, JN2, IX_nI, nI_add, pk_mul, pk_sub, leT, leF, ltT, ltF, eqT, eqF, M1_lit, bI_true, bI_false, BZ_n0, BZ_n1, BZ_b, ↓reduceIte, l_0, l_1, l_2, l_3, l_4, l_5, l_6, l_7, l_8, l_9, l_10, l_11, l_12, l_13, l_14, l_15, l_16, l_17, l_18, l_19, l_20, l_21, l_22, l_23, l_24, l_25, l_26, l_27, l_28, l_29, l_30, l_31, l_32, l_33, l_34, l_35, l_36, l_37, l_38, l_39, l_40, l_41, l_42, l_43, l_44, l_45, l_46, l_47, l_48, l_49, l_50, l_51, l_52, l_53, l_54, l_55, l_56, l_57, l_58, l_59, l_60, l_61, l_62, l_63, l_64, l_72, l_74, l_86, l_97, l_99, l_100, l_122, l_140, l_158, l_160, l_164, l_200, l_240, l_255, l_400, l_406, l_900, l_940, l_980, l_999, l_1120, l_1000, l_100000, h, RF_a, m_hasCome_v h hd hp, hb, e]
      · simp (disch := omega) only [Nat.zero_add, LT, BD_some, BD2_some, JN1, JN2, IX_nI, nI_add, pk_mul, pk_sub, leT, leF, ltT, ltF, eqT, eqF, M1_lit, bI_true, bI_false, BZ_n0, BZ_n1, BZ_b, ↓reduceIte, l_0, l_1, l_2, l_3, l_4, l_5, l_6, l_7, l_8, l_9, l_10, l_11, l_12, l_13, l_14, l_15, l_16, l_17, l_18, l_19, l_20, l_21, l_22, l_23, l_24, l_25, l_26, l_27, l_28, l_29, l_30, l_31, l_32, l_33, l_34, l_35, l_36, l_37, l_38, l_39, l_40, l_41, l_42, l_43, l_44, l_45, l_46, l_47, l_48, l_49, l_50, l_51, l_52, l_53, l_54, l_55, l_56, l_57, l_58, l_59, l_60, l_61, l_62, l_63, l_64, l_72, l_74, l_86, l_97, l_99, l_100, l_122, l_140, l_158, l_160, l_164, l_200, l_240, l_255, l_400, l_406, l_900, l_940, l_980, l_999, l_1120, l_1000, l_100000, h, RF_a, m_hasCome_v h hd hp, hb]
        rw [or_set' (c := hw d true p) (by omega) hb]
  · simp (disch := omega) only [Nat.zero_add, LT, BD_some, BD2_some, JN1, JN2, IX_nI, nI_add, pk_mul, pk_sub, leT, leF, ltT, ltF, eqT, eqF, M1_lit, bI_true, bI_false, BZ_n0, BZ_n1, BZ_b, ↓reduceIte, l_0, l_1, l_2, l_3, l_4, l_5, l_6, l_7, l_8, l_9, l_10, l_11, l_12, l_13, l_14, l_15, l_16, l_17, l_18, l_19, l_20, l_21, l_22, l_23, l_24, l_25, l_26, l_27, l_28, l_29, l_30, l_31, l_32, l_33, l_34, l_35, l_36, l_37, l_38, l_39, l_40, l_41, l_42, l_43, l_44, l_45, l_46, l_47, l_48, l_49, l_50, l_51, l_52, l_53, l_54, l_55, l_56, l_57, l_58, l_59, l_60, l_61, l_62, l_63, l_64, l_72, l_74, l_86, l_97, l_99, l_100, l_122, l_140, l_158, l_160, l_164, l_200, l_240, l_255, l_400, l_406, l_900, l_940, l_980, l_999, l_1120, l_1000, l_100000, h, RF_a]
theorem m_plantsFor_v {s : Rec} {d : Nat → Nat} (h : gA s 14 = RF d) (hd : DI d) {i : Nat} (come : Bool) (hi : i < 12) : m_plantsFor s (nI i) (bI come) = some (nI (setN (fun p => hw d come p i) (d 1))) := by
  have h2 := hd.N
  unfold m_plantsFor
  refine LP2_run (fun p => nI (setN (fun p => hw d come p i) p)) (fun i => nI i) 0 (d 1) (by omega) rfl rfl (fun p _ hp rec => ?_) (fun rec => ?_)
  · cases come
    · cases hb : wc d p i
      · have e : setN (fun p => hw d false p i) (p + 1) = setN (fun p => hw d false p i) p := setN_f hb
        simp (disch := omega) only [Nat.zero_add, LT, BD_some, BD2_some, JN1, JN2, IX_nI, nI_add, pk_mul, pk_sub, leT, leF, ltT, ltF, eqT, eqF, M1_lit, bI_true, bI_false, BZ_n0, BZ_n1, BZ_b, ↓reduceIte, l_0, l_1, l_2, l_3, l_4, l_5, l_6, l_7, l_8, l_9, l_10, l_11, l_12, l_13, l_14, l_15, l_16, l_17, l_18, l_19, l_20, l_21, l_22, l_23, l_24, l_25, l_26, l_27, l_28, l_29, l_30, l_31, l_32, l_33, l_34, l_35, l_36, l_37, l_38, l_39, l_40, l_41, l_42, l_43, l_44, l_45, l_46, l_47, l_48, l_49, l_50, l_51, l_52, l_53, l_54, l_55, l_56, l_57, l_58, l_59, l_60, l_61, l_62, l_63, l_64, l_72, l_74, l_86, l_97, l_99, l_100, l_122, l_140, l_158, l_160, l_164, l_200, l_240, l_255, l_400, l_406, l_900, l_940, l_980, l_999, l_1120, l_1000, l_100000, h, RF_a, m_willCome_v h hd, hb, e]
      · simp (disch := omega) only [Nat.zero_add, LT, BD_some, BD2_some, JN1, JN2, IX_nI, nI_add, pk_mul, pk_sub, leT, leF, ltT, ltF, eqT, eqF, M1_lit, bI_true, bI_false, BZ_n0, BZ_n1, BZ_b, ↓reduceIte, l_0, l_1, l_2, l_3, l_4, l_5, l_6, l_7, l_8, l_9, l_10, l_11, l_12, l_13, l_14, l_15, l_16, l_17, l_18, l_19, l_20, l_21, l_22, l_23, l_24, l_25, l_26, l_27, l_28, l_29, l_30, l_31, l_32, l_33, l_34, l_35, l_36, l_37, l_38, l_39, l_40, l_41, l_42, l_43, l_44, l_45, l_46, l_47, l_48, l_49, l_50, l_51, l_52, l_53, l_54, l_55, l_56, l_57, l_58, l_59, l_60, l_61, l_62, l_63, l_64, l_72, l_74, l_86, l_97, l_99, l_100, l_122, l_140, l_158, l_160, l_164, l_200, l_240, l_255, l_400, l_406, l_900, l_940, l_980, l_999, l_1120, l_1000, l_100000, h, RF_a, m_willCome_v h hd, hb]
        rw [or_set' (c := fun p => hw d false p i) (by omega) hb]
    · cases hb : hc d p i
      · have e : setN (fun p => hw d true p i) (p + 1) = setN (fun p => hw d true p i) p := setN_f hb
        simp (disch := omega) only [Nat.zero_add, LT, BD_some, BD2_some, JN1, JN2, IX_nI, nI_add, pk_mul, pk_sub, leT, leF, ltT, ltF, eqT, eqF, M1_lit, bI_true, bI_false, BZ_n0, BZ_n1, BZ_b, ↓reduceIte, l_0, l_1, l_2, l_3, l_4, l_5, l_6, l_7, l_8, l_9, l_10, l_11, l_12, l_13, l_14, l_15, l_16, l_17, l_18, l_19, l_20, l_21, l_22, l_23, l_24, l_25, l_26, l_27, l_28, l_29, l_30, l_31, l_32, l_33, l_34, l_35, l_36, l_37, l_38, l_39, l_40, l_41, l_42, l_43, l_44, l_45, l_46, l_47, l_48, l_49, l_50, l_51, l_52, l_53, l_54, l_55, l_56, l_57, l_58, l_59, l_60, l_61, l_62, l_63, l_64, l_72, l_74, l_86, l_97, l_99, l_100, l_122, l_140, l_158, l_160, l_164, l_200, l_240, l_255, l_400, l_406, l_900, l_940, l_980, l_999, l_1120, l_1000, l_100000, h, RF_a, m_hasCome_v h hd, hb, e]
      · simp (disch := omega) only [Nat.zero_add, LT, BD_some, BD2_some, JN1, JN2, IX_nI, nI_add, pk_mul, pk_sub, leT, leF, ltT, ltF, eqT, eqF, M1_lit, bI_true, bI_false, BZ_n0, BZ_n1, BZ_b, ↓reduceIte, l_0, l_1, l_2, l_3, l_4, l_5, l_6, l_7, l_8, l_9, l_10, l_11, l_12, l_13, l_14, l_15, l_16, l_17, l_18, l_19, l_20, l_21, l_22, l_23, l_24, l_25, l_26, l_27, l_28, l_29, l_30, l_31, l_32, l_33, l_34, l_35, l_36, l_37, l_38, l_39, l_40, l_41, l_42, l_43, l_44, l_45, l_46, l_47, l_48, l_49, l_50, l_51, l_52, l_53, l_54, l_55, l_56, l_57, l_58, l_59, l_60, l_61, l_62, l_63, l_64, l_72, l_74, l_86, l_97, l_99, l_100, l_122, l_140, l_158, l_160, l_164, l_200, l_240, l_255, l_400, l_406, l_900, l_940, l_980, l_999, l_1120, l_1000, l_100000, h, RF_a, m_hasCome_v h hd, hb]
        rw [or_set' (c := fun p => hw d true p i) (by omega) hb]
  · simp (disch := omega) only [Nat.zero_add, LT, BD_some, BD2_some, JN1, JN2, IX_nI, nI_add, pk_mul, pk_sub, leT, leF, ltT, ltF, eqT, eqF, M1_lit, bI_true, bI_false, BZ_n0, BZ_n1, BZ_b, ↓reduceIte, l_0, l_1, l_2, l_3, l_4, l_5, l_6, l_7, l_8, l_9, l_10, l_11, l_12, l_13, l_14, l_15, l_16, l_17, l_18, l_19, l_20, l_21, l_22, l_23, l_24, l_25, l_26, l_27, l_28, l_29, l_30, l_31, l_32, l_33, l_34, l_35, l_36, l_37, l_38, l_39, l_40, l_41, l_42, l_43, l_44, l_45, l_46, l_47, l_48, l_49, l_50, l_51, l_52, l_53, l_54, l_55, l_56, l_57, l_58, l_59, l_60, l_61, l_62, l_63, l_64, l_72, l_74, l_86, l_97, l_99, l_100, l_122, l_140, l_158, l_160, l_164, l_200, l_240, l_255, l_400, l_406, l_900, l_940, l_980, l_999, l_1120, l_1000, l_100000, h, RF_a]
theorem m_bits_set {c : Nat → Bool} {n : Nat} (h : n ≤ 12) : m_bits (nI (setN c n)) = some (nI (cntN c n)) := by
  rw [m_bits_v (Nat.lt_of_lt_of_le (setN_lt c n) (p12 h)), pop_set h]
theorem bc_set {c : Nat → Bool} {n : Nat} (h : n ≤ 6) : j9_bitCount (nI (setN c n)) = some (nI (cntN c n)) := by
  rw [bc_v _ (Nat.lt_of_lt_of_le (setN_lt c n) (p6 h)), pop_set (by omega)]
/-- an act is proved -/
def prv (d : Nat → Nat) (i : Nat) : Bool := decide (d 5 ≤ cntN (fun p => hc d p i) (d 1))
theorem m_isProved_v {s : Rec} {d : Nat → Nat} (h : gA s 14 = RF d) (hd : DI d) {i : Nat} (hi : i < 12) : m_isProved s (nI i) = some (bI (prv d i)) := by
  have h2 := hd.N
  have h3 := hd.proof
  have h4 := cntN_le (fun p => hc d p i) (d 1)
  have e : m_plantsFor s (nI i) (1 : Int32) = some (nI (setN (fun p => hc d p i) (d 1))) := m_plantsFor_v h hd true hi
  unfold m_isProved
  rw [e, BD_some, m_bits_set (by omega), BD_some, h, RF_a (by omega)]
  by_cases b : cntN (fun p => hc d p i) (d 1) < d 5
  · have e : prv d i = false := by unfold prv; simp; omega
    simp (disch := omega) only [Nat.zero_add, LT, BD_some, BD2_some, JN1, JN2, IX_nI, nI_add, pk_mul, pk_sub, leT, leF, ltT, ltF, eqT, eqF, M1_lit, bI_true, bI_false, BZ_n0, BZ_n1, BZ_b, ↓reduceIte, l_0, l_1, l_2, l_3, l_4, l_5, l_6, l_7, l_8, l_9, l_10, l_11, l_12, l_13, l_14, l_15, l_16, l_17, l_18, l_19, l_20, l_21, l_22, l_23, l_24, l_25, l_26, l_27, l_28, l_29, l_30, l_31, l_32, l_33, l_34, l_35, l_36, l_37, l_38, l_39, l_40, l_41, l_42, l_43, l_44, l_45, l_46, l_47, l_48, l_49, l_50, l_51, l_52, l_53, l_54, l_55, l_56, l_57, l_58, l_59, l_60, l_61, l_62, l_63, l_64, l_72, l_74, l_86, l_97, l_99, l_100, l_122, l_140, l_158, l_160, l_164, l_200, l_240, l_255, l_400, l_406, l_900, l_940, l_980, l_999, l_1120, l_1000, l_100000, e]
  · have e : prv d i = true := by unfold prv; simp; omega
    simp (disch := omega) only [Nat.zero_add, LT, BD_some, BD2_some, JN1, JN2, IX_nI, nI_add, pk_mul, pk_sub, leT, leF, ltT, ltF, eqT, eqF, M1_lit, bI_true, bI_false, BZ_n0, BZ_n1, BZ_b, ↓reduceIte, l_0, l_1, l_2, l_3, l_4, l_5, l_6, l_7, l_8, l_9, l_10, l_11, l_12, l_13, l_14, l_15, l_16, l_17, l_18, l_19, l_20, l_21, l_22, l_23, l_24, l_25, l_26, l_27, l_28, l_29, l_30, l_31, l_32, l_33, l_34, l_35, l_36, l_37, l_38, l_39, l_40, l_41, l_42, l_43, l_44, l_45, l_46, l_47, l_48, l_49, l_50, l_51, l_52, l_53, l_54, l_55, l_56, l_57, l_58, l_59, l_60, l_61, l_62, l_63, l_64, l_72, l_74, l_86, l_97, l_99, l_100, l_122, l_140, l_158, l_160, l_164, l_200, l_240, l_255, l_400, l_406, l_900, l_940, l_980, l_999, l_1120, l_1000, l_100000, e]
theorem m_proved_v {s : Rec} {d : Nat → Nat} (h : gA s 14 = RF d) (hd : DI d) : m_proved s = some (nI (setN (prv d) (d 25))) := by
  have h2 := hd.acts
  unfold m_proved
  refine LP2_run (fun i => nI (setN (prv d) i)) (fun i => nI i) 0 (d 25) (by omega) rfl rfl (fun i _ hi rec => ?_) (fun rec => ?_)
  · cases hb : prv d i
    · have e : setN (prv d) (i + 1) = setN (prv d) i := setN_f hb
      simp (disch := omega) only [Nat.zero_add, LT, BD_some, BD2_some, JN1, JN2, IX_nI, nI_add, pk_mul, pk_sub, leT, leF, ltT, ltF, eqT, eqF, M1_lit, bI_true, bI_false, BZ_n0, BZ_n1, BZ_b, ↓reduceIte, l_0, l_1, l_2, l_3, l_4, l_5, l_6, l_7, l_8, l_9, l_10, l_11, l_12, l_13, l_14, l_15, l_16, l_17, l_18, l_19, l_20, l_21, l_22, l_23, l_24, l_25, l_26, l_27, l_28, l_29, l_30, l_31, l_32, l_33, l_34, l_35, l_36, l_37, l_38, l_39, l_40, l_41, l_42, l_43, l_44, l_45, l_46, l_47, l_48, l_49, l_50, l_51, l_52, l_53, l_54, l_55, l_56, l_57, l_58, l_59, l_60, l_61, l_62, l_63, l_64, l_72, l_74, l_86, l_97, l_99, l_100, l_122, l_140, l_158, l_160, l_164, l_200, l_240, l_255, l_400, l_406, l_900, l_940, l_980, l_999, l_1120, l_1000, l_100000, h, RF_a, m_isProved_v h hd, hb, e]
    · simp (disch := omega) only [Nat.zero_add, LT, BD_some, BD2_some, JN1, JN2, IX_nI, nI_add, pk_mul, pk_sub, leT, leF, ltT, ltF, eqT, eqF, M1_lit, bI_true, bI_false, BZ_n0, BZ_n1, BZ_b, ↓reduceIte, l_0, l_1, l_2, l_3, l_4, l_5, l_6, l_7, l_8, l_9, l_10, l_11, l_12, l_13, l_14, l_15, l_16, l_17, l_18, l_19, l_20, l_21, l_22, l_23, l_24, l_25, l_26, l_27, l_28, l_29, l_30, l_31, l_32, l_33, l_34, l_35, l_36, l_37, l_38, l_39, l_40, l_41, l_42, l_43, l_44, l_45, l_46, l_47, l_48, l_49, l_50, l_51, l_52, l_53, l_54, l_55, l_56, l_57, l_58, l_59, l_60, l_61, l_62, l_63, l_64, l_72, l_74, l_86, l_97, l_99, l_100, l_122, l_140, l_158, l_160, l_164, l_200, l_240, l_255, l_400, l_406, l_900, l_940, l_980, l_999, l_1120, l_1000, l_100000, h, RF_a, m_isProved_v h hd, hb]
      rw [or_set' (c := prv d) (by omega) hb]
  · simp (disch := omega) only [Nat.zero_add, LT, BD_some, BD2_some, JN1, JN2, IX_nI, nI_add, pk_mul, pk_sub, leT, leF, ltT, ltF, eqT, eqF, M1_lit, bI_true, bI_false, BZ_n0, BZ_n1, BZ_b, ↓reduceIte, l_0, l_1, l_2, l_3, l_4, l_5, l_6, l_7, l_8, l_9, l_10, l_11, l_12, l_13, l_14, l_15, l_16, l_17, l_18, l_19, l_20, l_21, l_22, l_23, l_24, l_25, l_26, l_27, l_28, l_29, l_30, l_31, l_32, l_33, l_34, l_35, l_36, l_37, l_38, l_39, l_40, l_41, l_42, l_43, l_44, l_45, l_46, l_47, l_48, l_49, l_50, l_51, l_52, l_53, l_54, l_55, l_56, l_57, l_58, l_59, l_60, l_61, l_62, l_63, l_64, l_72, l_74, l_86, l_97, l_99, l_100, l_122, l_140, l_158, l_160, l_164, l_200, l_240, l_255, l_400, l_406, l_900, l_940, l_980, l_999, l_1120, l_1000, l_100000, h, RF_a]
/-- the day on which a leaf for what is done now comes -/
def nxt (d : Nat → Nat) (p : Nat) : Nat := (if d 24 + 1 < d (158 + p) then d (158 + p) - 1 else d 24) + d (17 + p)
theorem lf_p {n : Nat} (h : 0 < n) : lf n = nI (n - 1) := by
  obtain ⟨k, rfl⟩ : ∃ k, n = k + 1 := ⟨n - 1, by omega⟩
  exact lf_s k
theorem m_nextLeaf_v {s : Rec} {d : Nat → Nat} (h : gA s 14 = RF d) (hd : DI d) {p : Nat} (hp : p < 6) : m_nextLeaf s (nI p) = some (nI (nxt d p)) := by
  have h1 := hd.late hp
  have h2 := hd.day
  have h3 := hd.slow hp
  unfold m_nextLeaf nxt
  by_cases b : d 24 + 1 < d (158 + p)
  · simp (disch := omega) only [Nat.zero_add, LT, BD_some, BD2_some, JN1, JN2, IX_nI, nI_add, pk_mul, pk_sub, leT, leF, ltT, ltF, eqT, eqF, M1_lit, bI_true, bI_false, BZ_n0, BZ_n1, BZ_b, ↓reduceIte, l_0, l_1, l_2, l_3, l_4, l_5, l_6, l_7, l_8, l_9, l_10, l_11, l_12, l_13, l_14, l_15, l_16, l_17, l_18, l_19, l_20, l_21, l_22, l_23, l_24, l_25, l_26, l_27, l_28, l_29, l_30, l_31, l_32, l_33, l_34, l_35, l_36, l_37, l_38, l_39, l_40, l_41, l_42, l_43, l_44, l_45, l_46, l_47, l_48, l_49, l_50, l_51, l_52, l_53, l_54, l_55, l_56, l_57, l_58, l_59, l_60, l_61, l_62, l_63, l_64, l_72, l_74, l_86, l_97, l_99, l_100, l_122, l_140, l_158, l_160, l_164, l_200, l_240, l_255, l_400, l_406, l_900, l_940, l_980, l_999, l_1120, l_1000, l_100000, h, RF_a, RF_l, b, lf_leF]
    rw [lf_p (by omega), nI_add]
  · simp (disch := omega) only [Nat.zero_add, LT, BD_some, BD2_some, JN1, JN2, IX_nI, nI_add, pk_mul, pk_sub, leT, leF, ltT, ltF, eqT, eqF, M1_lit, bI_true, bI_false, BZ_n0, BZ_n1, BZ_b, ↓reduceIte, l_0, l_1, l_2, l_3, l_4, l_5, l_6, l_7, l_8, l_9, l_10, l_11, l_12, l_13, l_14, l_15, l_16, l_17, l_18, l_19, l_20, l_21, l_22, l_23, l_24, l_25, l_26, l_27, l_28, l_29, l_30, l_31, l_32, l_33, l_34, l_35, l_36, l_37, l_38, l_39, l_40, l_41, l_42, l_43, l_44, l_45, l_46, l_47, l_48, l_49, l_50, l_51, l_52, l_53, l_54, l_55, l_56, l_57, l_58, l_59, l_60, l_61, l_62, l_63, l_64, l_72, l_74, l_86, l_97, l_99, l_100, l_122, l_140, l_158, l_160, l_164, l_200, l_240, l_255, l_400, l_406, l_900, l_940, l_980, l_999, l_1120, l_1000, l_100000, h, RF_a, RF_l, b, lf_leT]
/-- all parlours; those that nothing sees -/
def allp (d : Nat → Nat) : Nat := 2 ^ d 0 - 1
theorem allp_lt {d : Nat → Nat} (h : DI d) : allp d < 32 := by
  have := p5 h.P
  have := Nat.pow_pos (n := d 0) (a := 2) (by omega)
  unfold allp; omega
def unN (d : Nat → Nat) (k : Nat) : Nat → Nat
  | 0 => allp d
  | n + 1 => dif (unN d k n) (sees d n k)
theorem unN_lt {d : Nat → Nat} (h : DI d) (k : Nat) : ∀ n, unN d k n < 32 := by
  intro n
  induction n with
  | zero => exact allp_lt h
  | succ n ih => exact Nat.lt_of_le_of_lt (dif_le _ _) ih
theorem m_unseen_v {s : Rec} {d : Nat → Nat} (h : gA s 14 = RF d) (hd : DI d) {k : Nat} (hk : k ≤ 1000) : m_unseen s (nI k) = some (nI (unN d k (d 1))) := by
  have h2 := hd.N
  have h0 := hd.P
  unfold m_unseen
  refine LP2_run (fun i => nI (unN d k i)) (fun i => nI i) 0 (d 1) (by omega) ?_ rfl (fun i _ hi rec => ?_) (fun rec => ?_)
  · rw [h, RF_a (by omega)]; exact all_v _ h0
  · have h5 := unN_lt hd k i
    have h6 := sees_lt hd (p := i) (k := k) (by omega)
    simp (disch := omega) only [Nat.zero_add, LT, BD_some, BD2_some, JN1, JN2, IX_nI, nI_add, pk_mul, pk_sub, leT, leF, ltT, ltF, eqT, eqF, M1_lit, bI_true, bI_false, BZ_n0, BZ_n1, BZ_b, ↓reduceIte, l_0, l_1, l_2, l_3, l_4, l_5, l_6, l_7, l_8, l_9, l_10, l_11, l_12, l_13, l_14, l_15, l_16, l_17, l_18, l_19, l_20, l_21, l_22, l_23, l_24, l_25, l_26, l_27, l_28, l_29, l_30, l_31, l_32, l_33, l_34, l_35, l_36, l_37, l_38, l_39, l_40, l_41, l_42, l_43, l_44, l_45, l_46, l_47, l_48, l_49, l_50, l_51, l_52, l_53, l_54, l_55, l_56, l_57, l_58, l_59, l_60, l_61, l_62, l_63, l_64, l_72, l_74, l_86, l_97, l_99, l_100, l_122, l_140, l_158, l_160, l_164, l_200, l_240, l_255, l_400, l_406, l_900, l_940, l_980, l_999, l_1120, l_1000, l_100000, h, RF_a, m_seesOf_v h hd]
    rw [nI_dif (by omega) (by omega)]; rfl
  · simp (disch := omega) only [Nat.zero_add, LT, BD_some, BD2_some, JN1, JN2, IX_nI, nI_add, pk_mul, pk_sub, leT, leF, ltT, ltF, eqT, eqF, M1_lit, bI_true, bI_false, BZ_n0, BZ_n1, BZ_b, ↓reduceIte, l_0, l_1, l_2, l_3, l_4, l_5, l_6, l_7, l_8, l_9, l_10, l_11, l_12, l_13, l_14, l_15, l_16, l_17, l_18, l_19, l_20, l_21, l_22, l_23, l_24, l_25, l_26, l_27, l_28, l_29, l_30, l_31, l_32, l_33, l_34, l_35, l_36, l_37, l_38, l_39, l_40, l_41, l_42, l_43, l_44, l_45, l_46, l_47, l_48, l_49, l_50, l_51, l_52, l_53, l_54, l_55, l_56, l_57, l_58, l_59, l_60, l_61, l_62, l_63, l_64, l_72, l_74, l_86, l_97, l_99, l_100, l_122, l_140, l_158, l_160, l_164, l_200, l_240, l_255, l_400, l_406, l_900, l_940, l_980, l_999, l_1120, l_1000, l_100000, h, RF_a]
theorem unN_bit {d : Nat → Nat} (h : DI d) (k l : Nat) : ∀ n, n ≤ d 1 → (unN d k n).testBit l = (decide (l < d 0) && !((List.range n).any (fun p => (sees d p k).testBit l))) := by
  intro n
  induction n with
  | zero => intro _; show (2 ^ d 0 - 1).testBit l = _; rw [Nat.testBit_two_pow_sub_one]; simp
  | succ n ih =>
    intro hn
    show (dif (unN d k n) (sees d n k)).testBit l = _
    rw [dif_bit (by have := unN_lt h k n; omega), ih (by omega), List.range_succ]
    simp [Bool.and_assoc]
theorem m_isPlant_v {s : Rec} {d : Nat → Nat} (h : gA s 14 = RF d) (x : Int32) : m_isPlant s x = some (bI (inn x 0 (nI (d 1) - 1))) := by
  unfold m_isPlant; rw [m_isIn_v, BD_some, BZ_b, h, RF_a (by omega)]
theorem m_isParlour_v {s : Rec} {d : Nat → Nat} (h : gA s 14 = RF d) (x : Int32) : m_isParlour s x = some (bI (inn x 0 (nI (d 0) - 1))) := by
  unfold m_isParlour; rw [m_isIn_v, BD_some, BZ_b, h, RF_a (by omega)]
theorem m_isPerson_v {s : Rec} {d : Nat → Nat} (h : gA s 14 = RF d) (x : Int32) : m_isPerson s x = some (bI (inn x 0 (nI (d 2) - 1))) := by
  unfold m_isPerson; rw [m_isIn_v, BD_some, BZ_b, h, RF_a (by omega)]
theorem m_isDeed_v {s : Rec} {d : Nat → Nat} (h : gA s 14 = RF d) (x : Int32) : m_isDeed s x = some (bI (inn x 0 (nI (d 3) - 1))) := by
  unfold m_isDeed; rw [m_isIn_v, BD_some, BZ_b, h, RF_a (by omega)]
theorem m_isAct_v {s : Rec} {d : Nat → Nat} (h : gA s 14 = RF d) (x : Int32) : m_isAct s x = some (bI (inn x 0 (nI (d 25) - 1))) := by
  unfold m_isAct; rw [m_isIn_v, BD_some, BZ_b, h, RF_a (by omega)]
