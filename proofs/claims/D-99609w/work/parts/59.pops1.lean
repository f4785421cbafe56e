/-! PURE: single questions, both sides -/
def sumN (g : Nat → Nat) : Nat → Nat
  | 0 => 0
  | n + 1 => sumN g n + g n
def orN (g : Nat → Nat) : Nat → Nat
  | 0 => 0
  | n + 1 => orN g n ||| g n
theorem sumN_le {g : Nat → Nat} {m : Nat} : ∀ {n : Nat}, (∀ i, i < n → g i ≤ m) → sumN g n ≤ n * m := by
  intro n
  induction n with
  | zero => intro _; exact Nat.zero_le _
  | succ n ih =>
    intro h
    have h1 := ih (fun i hi => h i (by omega))
    have h2 := h n (by omega)
    show sumN g n + g n ≤ (n + 1) * m
    rw [Nat.succ_mul]; omega
theorem orN_lt {g : Nat → Nat} : ∀ {n : Nat}, (∀ i, i < n → g i < 32) → orN g n < 32 := by
  intro n
  induction n with
  | zero => intro _; show (0 : Nat) < 32; omega
  | succ n ih =>
    intro h
    exact Nat.or_lt_two_pow (n := 5) (ih (fun i hi => h i (by omega))) (h n (by omega))
theorem orN_bit (g : Nat → Nat) (k : Nat) : ∀ n, (orN g n).testBit k = (List.range n).any (fun p => (g p).testBit k) := by
  intro n
  induction n with
  | zero => show (0 : Nat).testBit k = _; simp
  | succ n ih =>
    show (orN g n ||| g n).testBit k = _
    rw [Nat.testBit_or, ih, List.range_succ]; simp
theorem dif_or {a b c : Nat} (ha : a < 2 ^ 32) : dif (dif a b) c = dif a (b ||| c) := Nat.eq_of_testBit_eq (fun k => by
  rw [dif_bit (Nat.lt_of_le_of_lt (dif_le _ _) ha), dif_bit ha, dif_bit ha, Nat.testBit_or]
  cases a.testBit k <;> cases b.testBit k <;> cases c.testBit k <;> rfl)
theorem dif_0 {a : Nat} (ha : a < 2 ^ 32) : dif a 0 = a := Nat.eq_of_testBit_eq (fun k => by rw [dif_bit ha]; simp)
theorem unN_or {d : Nat → Nat} (h : DI d) (k : Nat) : ∀ n, unN d k n = dif (allp d) (orN (fun p => sees d p k) n) := by
  intro n
  have ha := allp_lt h
  induction n with
  | zero => show allp d = dif (allp d) 0; rw [dif_0 (by omega)]
  | succ n ih =>
    show dif (unN d k n) (sees d n k) = dif (allp d) (orN (fun p => sees d p k) n ||| sees d n k)
    rw [ih, dif_or (by omega)]
section OPS
variable {x : Nat} {G : Wd} {m c : Rec} {b : Nat} {e z : Rec} {d : Nat → Nat} {ow : Nat → Nat} {n : Nat} {U : Nat → Nat → Nat}
theorem RR.hx (h : RR x G m c b e z d ow n U) : G.2 x = some (0, c) := h.1.1
theorem RR.hb (h : RR x G m c b e z d ow n U) : gP c 6 = some b := h.1.2.1
theorem RR.g2 (h : RR x G m c b e z d ow n U) : G.2 b = some (2, e) := h.1.2.2.1
theorem RR.g3 (h : RR x G m c b e z d ow n U) : G.2 (x + 13) = some (3, z) := h.1.2.2.2.1
theorem RR.he (h : RR x G m c b e z d ow n U) : HS e d := h.2.1.1
theorem RR.nm (h : RR x G m c b e z d ow n U) : NM e (gL m 19) d := h.2.1.2.1
theorem RR.hz (h : RR x G m c b e z d ow n U) : ZS z d := h.2.1.2.2.1
theorem RR.gd (h : RR x G m c b e z d ow n U) : GD d := h.2.1.2.2.2.1
theorem RR.di (h : RR x G m c b e z d ow n U) : DI d := h.2.1.2.2.2.1.1
theorem RR.h14 (h : RR x G m c b e z d ow n U) : gA m 14 = RF d := h.2.1.2.2.2.2
theorem RR.t14 (h : RR x G m c b e z d ow n U) (v : Int32) : gA (sI m 0 v) 14 = RF d := h.h14
theorem RR.ms (h : RR x G m c b e z d ow n U) : MS c m := h.2.2.1
theorem MS_t {c m : Rec} (h : MS c m) (v : Int32) : MS c (sI m 0 v) := h
theorem RR.t0 (h : RR x G m c b e z d ow n U) (v : Int32) : RR x G (sI m 0 v) c b e z d ow n U := h.ro (MS_t h.ms v) (MK_sI m v (by omega))
theorem x1_isParlour_v (hb : gP c 6 = some b) (he : HS e d) (v : Int32) : x1_isParlour c b e v = some (bI (inn v 0 (nI (d 0) - 1))) := by
  unfold x1_isParlour; rw [PG_of _ hb, x1_isIn_v, BD_some, BZ_b, he.1]
theorem x1_isPlant_v (hb : gP c 6 = some b) (he : HS e d) (v : Int32) : x1_isPlant c b e v = some (bI (inn v 0 (nI (d 1) - 1))) := by
  unfold x1_isPlant; rw [PG_of _ hb, x1_isIn_v, BD_some, BZ_b, he.2.1]
theorem x1_isPerson_v (hb : gP c 6 = some b) (he : HS e d) (v : Int32) : x1_isPerson c b e v = some (bI (inn v 0 (nI (d 2) - 1))) := by
  unfold x1_isPerson; rw [PG_of _ hb, x1_isIn_v, BD_some, BZ_b, he.2.2.1]
theorem x1_isDeed_v (hb : gP c 6 = some b) (he : HS e d) (v : Int32) : x1_isDeed c b e v = some (bI (inn v 0 (nI (d 3) - 1))) := by
  unfold x1_isDeed; rw [PG_of _ hb, x1_isIn_v, BD_some, BZ_b, he.2.2.2.1]
theorem x1_isAct_v (hz : ZS z d) (v : Int32) : x1_isAct c z v = some (bI (inn v 0 (nI (d 25) - 1))) := by
  unfold x1_isAct; rw [x1_isIn_v, BD_some, BZ_b, hz.2.1]
theorem op_comes (h : RR x G m c b e z d ow n U) (p i : Int32) : ∃ v, x1_comes c b e z p i = some v ∧ m_comes m p i = some (v, sI m 0 0) := by
  have hN := h.di.N
  have hA := h.di.acts
  have t := h.t14 0
  unfold x1_comes m_comes
  simp only [LT]
  generalize sI m 0 0 = s at t ⊢
  rw [x1_isPlant_v h.hb h.he, m_isPlant_v t, x1_isAct_v h.hz, m_isAct_v t]
  rcases inn_count p (d 1) (by omega) with ⟨hp, k, hk, rfl⟩ | hp
  · rcases inn_count i (d 25) (by omega) with ⟨hi, j, hj, rfl⟩ | hi
    · rw [hp, hi]
      refine ⟨lf (d (86 + 12 * k + j)), ?_, ?_⟩
      · simp (disch := omega) only [Nat.zero_add, LT, BD_some, BD2_some, JN1, JN2, IX_nI, nI_add, pk_mul, pk_sub, leT, leF, ltT, ltF, eqT, eqF, M1_lit, bI_true, bI_false, BZ_n0, BZ_n1, BZ_b, ↓reduceIte, l_0, l_1, l_2, l_3, l_4, l_5, l_6, l_7, l_8, l_9, l_10, l_11, l_12, l_13, l_14, l_15, l_16, l_17, l_18, l_19, l_20, l_21, l_22, l_23, l_24, l_25, l_26, l_27, l_28, l_29, l_30, l_31, l_32, l_33, l_34, l_35, l_36, l_37, l_38, l_39, l_40, l_41, l_42, l_43, l_44, l_45, l_46, l_47, l_48, l_49, l_50, l_51, l_52, l_53, l_54, l_55, l_56, l_57, l_58, l_59, l_60, l_61, l_62, l_63, l_64, l_72, l_74, l_86, l_97, l_99, l_100, l_122, l_140, l_158, l_160, l_164, l_200, l_240, l_255, l_400, l_406, l_900, l_940, l_980, l_999, l_1120, l_1000, l_100000, x4_comes_v h.hz]
      · simp (disch := omega) only [Nat.zero_add, LT, BD_some, BD2_some, JN1, JN2, IX_nI, nI_add, pk_mul, pk_sub, leT, leF, ltT, ltF, eqT, eqF, M1_lit, bI_true, bI_false, BZ_n0, BZ_n1, BZ_b, ↓reduceIte, l_0, l_1, l_2, l_3, l_4, l_5, l_6, l_7, l_8, l_9, l_10, l_11, l_12, l_13, l_14, l_15, l_16, l_17, l_18, l_19, l_20, l_21, l_22, l_23, l_24, l_25, l_26, l_27, l_28, l_29, l_30, l_31, l_32, l_33, l_34, l_35, l_36, l_37, l_38, l_39, l_40, l_41, l_42, l_43, l_44, l_45, l_46, l_47, l_48, l_49, l_50, l_51, l_52, l_53, l_54, l_55, l_56, l_57, l_58, l_59, l_60, l_61, l_62, l_63, l_64, l_72, l_74, l_86, l_97, l_99, l_100, l_122, l_140, l_158, l_160, l_164, l_200, l_240, l_255, l_400, l_406, l_900, l_940, l_980, l_999, l_1120, l_1000, l_100000, m_leafOf_v t]
    · rw [hp, hi]
      exact ⟨M1, by simp (disch := omega) only [Nat.zero_add, LT, BD_some, BD2_some, JN1, JN2, IX_nI, nI_add, pk_mul, pk_sub, leT, leF, ltT, ltF, eqT, eqF, M1_lit, bI_true, bI_false, BZ_n0, BZ_n1, BZ_b, ↓reduceIte, l_0, l_1, l_2, l_3, l_4, l_5, l_6, l_7, l_8, l_9, l_10, l_11, l_12, l_13, l_14, l_15, l_16, l_17, l_18, l_19, l_20, l_21, l_22, l_23, l_24, l_25, l_26, l_27, l_28, l_29, l_30, l_31, l_32, l_33, l_34, l_35, l_36, l_37, l_38, l_39, l_40, l_41, l_42, l_43, l_44, l_45, l_46, l_47, l_48, l_49, l_50, l_51, l_52, l_53, l_54, l_55, l_56, l_57, l_58, l_59, l_60, l_61, l_62, l_63, l_64, l_72, l_74, l_86, l_97, l_99, l_100, l_122, l_140, l_158, l_160, l_164, l_200, l_240, l_255, l_400, l_406, l_900, l_940, l_980, l_999, l_1120, l_1000, l_100000], by simp (disch := omega) only [Nat.zero_add, LT, BD_some, BD2_some, JN1, JN2, IX_nI, nI_add, pk_mul, pk_sub, leT, leF, ltT, ltF, eqT, eqF, M1_lit, bI_true, bI_false, BZ_n0, BZ_n1, BZ_b, ↓reduceIte, l_0, l_1, l_2, l_3, l_4, l_5, l_6, l_7, l_8, l_9, l_10, l_11, l_12, l_13, l_14, l_15, l_16, l_17, l_18, l_19, l_20, l_21, l_22, l_23, l_24, l_25, l_26, l_27, l_28, l_29, l_30, l_31, l_32, l_33, l_34, l_35, l_36, l_37, l_38, l_39, l_40, l_41, l_42, l_43, l_44, l_45, l_46, l_47, l_48, l_49, l_50, l_51, l_52, l_53, l_54, l_55, l_56, l_57, l_58, l_59, l_60, l_61, l_62, l_63, l_64, l_72, l_74, l_86, l_97, l_99, l_100, l_122, l_140, l_158, l_160, l_164, l_200, l_240, l_255, l_400, l_406, l_900, l_940, l_980, l_999, l_1120, l_1000, l_100000]⟩
  · rw [hp]
    exact ⟨M1, by simp (disch := omega) only [Nat.zero_add, LT, BD_some, BD2_some, JN1, JN2, IX_nI, nI_add, pk_mul, pk_sub, leT, leF, ltT, ltF, eqT, eqF, M1_lit, bI_true, bI_false, BZ_n0, BZ_n1, BZ_b, ↓reduceIte, l_0, l_1, l_2, l_3, l_4, l_5, l_6, l_7, l_8, l_9, l_10, l_11, l_12, l_13, l_14, l_15, l_16, l_17, l_18, l_19, l_20, l_21, l_22, l_23, l_24, l_25, l_26, l_27, l_28, l_29, l_30, l_31, l_32, l_33, l_34, l_35, l_36, l_37, l_38, l_39, l_40, l_41, l_42, l_43, l_44, l_45, l_46, l_47, l_48, l_49, l_50, l_51, l_52, l_53, l_54, l_55, l_56, l_57, l_58, l_59, l_60, l_61, l_62, l_63, l_64, l_72, l_74, l_86, l_97, l_99, l_100, l_122, l_140, l_158, l_160, l_164, l_200, l_240, l_255, l_400, l_406, l_900, l_940, l_980, l_999, l_1120, l_1000, l_100000], by simp (disch := omega) only [Nat.zero_add, LT, BD_some, BD2_some, JN1, JN2, IX_nI, nI_add, pk_mul, pk_sub, leT, leF, ltT, ltF, eqT, eqF, M1_lit, bI_true, bI_false, BZ_n0, BZ_n1, BZ_b, ↓reduceIte, l_0, l_1, l_2, l_3, l_4, l_5, l_6, l_7, l_8, l_9, l_10, l_11, l_12, l_13, l_14, l_15, l_16, l_17, l_18, l_19, l_20, l_21, l_22, l_23, l_24, l_25, l_26, l_27, l_28, l_29, l_30, l_31, l_32, l_33, l_34, l_35, l_36, l_37, l_38, l_39, l_40, l_41, l_42, l_43, l_44, l_45, l_46, l_47, l_48, l_49, l_50, l_51, l_52, l_53, l_54, l_55, l_56, l_57, l_58, l_59, l_60, l_61, l_62, l_63, l_64, l_72, l_74, l_86, l_97, l_99, l_100, l_122, l_140, l_158, l_160, l_164, l_200, l_240, l_255, l_400, l_406, l_900, l_940, l_980, l_999, l_1120, l_1000, l_100000]⟩
theorem op_sights (h : RR x G m c b e z d ow n U) (l : Int32) : ∃ v, x1_sights c b e l = some v ∧ m_sights m l = some (v, sI m 0 0) := by
  have hP := h.di.P
  have t := h.t14 0
  obtain ⟨-, -, -, -, -, -, -, e4, -, -⟩ := h.he
  unfold x1_sights m_sights
  simp only [LT]
  generalize sI m 0 0 = s at t ⊢
  rw [x1_isParlour_v h.hb h.he, m_isParlour_v t]
  rcases inn_count l (d 0) (by omega) with ⟨hp, k, hk, rfl⟩ | hp
  · rw [hp]
    refine ⟨nI (d (6 + k)), ?_, ?_⟩
    · simp (disch := omega) only [Nat.zero_add, LT, BD_some, BD2_some, JN1, JN2, IX_nI, nI_add, pk_mul, pk_sub, leT, leF, ltT, ltF, eqT, eqF, M1_lit, bI_true, bI_false, BZ_n0, BZ_n1, BZ_b, ↓reduceIte, l_0, l_1, l_2, l_3, l_4, l_5, l_6, l_7, l_8, l_9, l_10, l_11, l_12, l_13, l_14, l_15, l_16, l_17, l_18, l_19, l_20, l_21, l_22, l_23, l_24, l_25, l_26, l_27, l_28, l_29, l_30, l_31, l_32, l_33, l_34, l_35, l_36, l_37, l_38, l_39, l_40, l_41, l_42, l_43, l_44, l_45, l_46, l_47, l_48, l_49, l_50, l_51, l_52, l_53, l_54, l_55, l_56, l_57, l_58, l_59, l_60, l_61, l_62, l_63, l_64, l_72, l_74, l_86, l_97, l_99, l_100, l_122, l_140, l_158, l_160, l_164, l_200, l_240, l_255, l_400, l_406, l_900, l_940, l_980, l_999, l_1120, l_1000, l_100000, PG_of _ h.hb, e4]
    · simp (disch := omega) only [Nat.zero_add, LT, BD_some, BD2_some, JN1, JN2, IX_nI, nI_add, pk_mul, pk_sub, leT, leF, ltT, ltF, eqT, eqF, M1_lit, bI_true, bI_false, BZ_n0, BZ_n1, BZ_b, ↓reduceIte, l_0, l_1, l_2, l_3, l_4, l_5, l_6, l_7, l_8, l_9, l_10, l_11, l_12, l_13, l_14, l_15, l_16, l_17, l_18, l_19, l_20, l_21, l_22, l_23, l_24, l_25, l_26, l_27, l_28, l_29, l_30, l_31, l_32, l_33, l_34, l_35, l_36, l_37, l_38, l_39, l_40, l_41, l_42, l_43, l_44, l_45, l_46, l_47, l_48, l_49, l_50, l_51, l_52, l_53, l_54, l_55, l_56, l_57, l_58, l_59, l_60, l_61, l_62, l_63, l_64, l_72, l_74, l_86, l_97, l_99, l_100, l_122, l_140, l_158, l_160, l_164, l_200, l_240, l_255, l_400, l_406, l_900, l_940, l_980, l_999, l_1120, l_1000, l_100000, t, RF_a]
  · rw [hp]
    exact ⟨M1, by simp (disch := omega) only [Nat.zero_add, LT, BD_some, BD2_some, JN1, JN2, IX_nI, nI_add, pk_mul, pk_sub, leT, leF, ltT, ltF, eqT, eqF, M1_lit, bI_true, bI_false, BZ_n0, BZ_n1, BZ_b, ↓reduceIte, l_0, l_1, l_2, l_3, l_4, l_5, l_6, l_7, l_8, l_9, l_10, l_11, l_12, l_13, l_14, l_15, l_16, l_17, l_18, l_19, l_20, l_21, l_22, l_23, l_24, l_25, l_26, l_27, l_28, l_29, l_30, l_31, l_32, l_33, l_34, l_35, l_36, l_37, l_38, l_39, l_40, l_41, l_42, l_43, l_44, l_45, l_46, l_47, l_48, l_49, l_50, l_51, l_52, l_53, l_54, l_55, l_56, l_57, l_58, l_59, l_60, l_61, l_62, l_63, l_64, l_72, l_74, l_86, l_97, l_99, l_100, l_122, l_140, l_158, l_160, l_164, l_200, l_240, l_255, l_400, l_406, l_900, l_940, l_980, l_999, l_1120, l_1000, l_100000], by simp (disch := omega) only [Nat.zero_add, LT, BD_some, BD2_some, JN1, JN2, IX_nI, nI_add, pk_mul, pk_sub, leT, leF, ltT, ltF, eqT, eqF, M1_lit, bI_true, bI_false, BZ_n0, BZ_n1, BZ_b, ↓reduceIte, l_0, l_1, l_2, l_3, l_4, l_5, l_6, l_7, l_8, l_9, l_10, l_11, l_12, l_13, l_14, l_15, l_16, l_17, l_18, l_19, l_20, l_21, l_22, l_23, l_24, l_25, l_26, l_27, l_28, l_29, l_30, l_31, l_32, l_33, l_34, l_35, l_36, l_37, l_38, l_39, l_40, l_41, l_42, l_43, l_44, l_45, l_46, l_47, l_48, l_49, l_50, l_51, l_52, l_53, l_54, l_55, l_56, l_57, l_58, l_59, l_60, l_61, l_62, l_63, l_64, l_72, l_74, l_86, l_97, l_99, l_100, l_122, l_140, l_158, l_160, l_164, l_200, l_240, l_255, l_400, l_406, l_900, l_940, l_980, l_999, l_1120, l_1000, l_100000]⟩
theorem op_count (h : RR x G m c b e z d ow n U) (w : Int32) : ∃ v, x1_count c b e w = some v ∧ m_count m w = some (v, sI m 0 0) := by
  have t := h.t14 0
  obtain ⟨k, -, k1, k2⟩ := h.ms.2.1
  have k2' : gI (sI m 0 0) 2 = nI k := k2
  obtain ⟨e7, e8, e9, e10, -, e12, e13, -⟩ := h.he
  unfold x1_count m_count
  simp only [LT, PG_of _ h.hb]
  generalize sI m 0 0 = s at t k2' ⊢
  rw [e7, e8, e9, e10, e12, e13, k1, k2', t, RF_a (show 0 < 86 by omega), RF_a (show 1 < 86 by omega), RF_a (show 2 < 86 by omega), RF_a (show 3 < 86 by omega), RF_a (show 4 < 86 by omega), RF_a (show 5 < 86 by omega)]
  by_cases h0 : w = 0
  · simp only [if_pos h0]; exact ⟨_, rfl, rfl⟩
  by_cases h1 : w = 1
  · simp only [if_neg h0, if_pos h1]; exact ⟨_, rfl, rfl⟩
  by_cases h2 : w = 2
  · simp only [if_neg h0, if_neg h1, if_pos h2]; exact ⟨_, rfl, rfl⟩
  by_cases h3 : w = 3
  · simp only [if_neg h0, if_neg h1, if_neg h2, if_pos h3]; exact ⟨_, rfl, rfl⟩
  by_cases h4 : w = 4
  · simp only [if_neg h0, if_neg h1, if_neg h2, if_neg h3, if_pos h4]; exact ⟨_, rfl, rfl⟩
  by_cases h5 : w = 5
  · simp only [if_neg h0, if_neg h1, if_neg h2, if_neg h3, if_neg h4, if_pos h5]; exact ⟨_, rfl, rfl⟩
  by_cases h6 : w = 6
  · simp only [if_neg h0, if_neg h1, if_neg h2, if_neg h3, if_neg h4, if_neg h5, if_pos h6]; exact ⟨_, rfl, rfl⟩
  · simp only [if_neg h0, if_neg h1, if_neg h2, if_neg h3, if_neg h4, if_neg h5, if_neg h6]; exact ⟨_, rfl, rfl⟩
theorem op_fault (h : RR x G m c b e z d ow n U) : ∃ v, x1_fault c = some v ∧ m_fault m = some (v, sI m 0 0) := by
  refine ⟨gI m 10, ?_, rfl⟩
  unfold x1_fault; rw [h.ms.2.2.1]
theorem op_ask (h : RR x G m c b e z d ow n U) : ∃ v, x1_ask c = some v ∧ m_ask m = some (v, sI m 0 0) := by
  refine ⟨gI m 25, ?_, rfl⟩
  unfold x1_ask
  rcases h.ms.2.2.2.1 with ⟨a, a2⟩ | ⟨a, a2⟩
  · rw [a, a2]; rfl
  · rw [a, ← a2]; rfl
theorem op_covering (h : RR x G m c b e z d ow n U) : ∃ v, x1_covering c = some v ∧ m_covering m = some (v, sI m 0 0) := by
  refine ⟨gI m 26, ?_, rfl⟩
  unfold x1_covering
  rcases h.ms.2.2.2.2.1 with ⟨a, a2⟩ | ⟨a, a2⟩
  · rw [a, a2]; rfl
  · rw [a, ← a2]; rfl
theorem op_roundAt (h : RR x G m c b e z d ow n U) (w : Int32) : ∃ v, x1_roundAt c w = some v ∧ m_roundAt m w = some (v, sI m 0 0) := by
  obtain ⟨k, hk, k1, k2, k3⟩ := h.ms.2.2.2.2.2.1
  have k1' : gI (sI m 0 0) 29 = nI k := k1
  have k3' : ∀ i, i < k → gA c 19 i = gA (sI m 0 0) 28 i := k3
  unfold x1_roundAt m_roundAt
  simp only [LT, x1_isIn_v, m_isIn_v, BD_some]
  generalize sI m 0 0 = s at k1' k3' ⊢
  rw [k1']
  rcases k2 with k2 | ⟨k0, k2⟩
  · rw [k2]
    rcases inn_count w k (by omega) with ⟨hp, j, hj, rfl⟩ | hp
    · rw [hp]
      refine ⟨gA s 28 j, ?_, ?_⟩
      · simp (disch := omega) only [Nat.zero_add, LT, BD_some, BD2_some, JN1, JN2, IX_nI, nI_add, pk_mul, pk_sub, leT, leF, ltT, ltF, eqT, eqF, M1_lit, bI_true, bI_false, BZ_n0, BZ_n1, BZ_b, ↓reduceIte, l_0, l_1, l_2, l_3, l_4, l_5, l_6, l_7, l_8, l_9, l_10, l_11, l_12, l_13, l_14, l_15, l_16, l_17, l_18, l_19, l_20, l_21, l_22, l_23, l_24, l_25, l_26, l_27, l_28, l_29, l_30, l_31, l_32, l_33, l_34, l_35, l_36, l_37, l_38, l_39, l_40, l_41, l_42, l_43, l_44, l_45, l_46, l_47, l_48, l_49, l_50, l_51, l_52, l_53, l_54, l_55, l_56, l_57, l_58, l_59, l_60, l_61, l_62, l_63, l_64, l_72, l_74, l_86, l_97, l_99, l_100, l_122, l_140, l_158, l_160, l_164, l_200, l_240, l_255, l_400, l_406, l_900, l_940, l_980, l_999, l_1120, l_1000, l_100000, k3' j hj]
      · simp (disch := omega) only [Nat.zero_add, LT, BD_some, BD2_some, JN1, JN2, IX_nI, nI_add, pk_mul, pk_sub, leT, leF, ltT, ltF, eqT, eqF, M1_lit, bI_true, bI_false, BZ_n0, BZ_n1, BZ_b, ↓reduceIte, l_0, l_1, l_2, l_3, l_4, l_5, l_6, l_7, l_8, l_9, l_10, l_11, l_12, l_13, l_14, l_15, l_16, l_17, l_18, l_19, l_20, l_21, l_22, l_23, l_24, l_25, l_26, l_27, l_28, l_29, l_30, l_31, l_32, l_33, l_34, l_35, l_36, l_37, l_38, l_39, l_40, l_41, l_42, l_43, l_44, l_45, l_46, l_47, l_48, l_49, l_50, l_51, l_52, l_53, l_54, l_55, l_56, l_57, l_58, l_59, l_60, l_61, l_62, l_63, l_64, l_72, l_74, l_86, l_97, l_99, l_100, l_122, l_140, l_158, l_160, l_164, l_200, l_240, l_255, l_400, l_406, l_900, l_940, l_980, l_999, l_1120, l_1000, l_100000]
    · rw [hp]
      exact ⟨M1, by simp (disch := omega) only [Nat.zero_add, LT, BD_some, BD2_some, JN1, JN2, IX_nI, nI_add, pk_mul, pk_sub, leT, leF, ltT, ltF, eqT, eqF, M1_lit, bI_true, bI_false, BZ_n0, BZ_n1, BZ_b, ↓reduceIte, l_0, l_1, l_2, l_3, l_4, l_5, l_6, l_7, l_8, l_9, l_10, l_11, l_12, l_13, l_14, l_15, l_16, l_17, l_18, l_19, l_20, l_21, l_22, l_23, l_24, l_25, l_26, l_27, l_28, l_29, l_30, l_31, l_32, l_33, l_34, l_35, l_36, l_37, l_38, l_39, l_40, l_41, l_42, l_43, l_44, l_45, l_46, l_47, l_48, l_49, l_50, l_51, l_52, l_53, l_54, l_55, l_56, l_57, l_58, l_59, l_60, l_61, l_62, l_63, l_64, l_72, l_74, l_86, l_97, l_99, l_100, l_122, l_140, l_158, l_160, l_164, l_200, l_240, l_255, l_400, l_406, l_900, l_940, l_980, l_999, l_1120, l_1000, l_100000], by simp (disch := omega) only [Nat.zero_add, LT, BD_some, BD2_some, JN1, JN2, IX_nI, nI_add, pk_mul, pk_sub, leT, leF, ltT, ltF, eqT, eqF, M1_lit, bI_true, bI_false, BZ_n0, BZ_n1, BZ_b, ↓reduceIte, l_0, l_1, l_2, l_3, l_4, l_5, l_6, l_7, l_8, l_9, l_10, l_11, l_12, l_13, l_14, l_15, l_16, l_17, l_18, l_19, l_20, l_21, l_22, l_23, l_24, l_25, l_26, l_27, l_28, l_29, l_30, l_31, l_32, l_33, l_34, l_35, l_36, l_37, l_38, l_39, l_40, l_41, l_42, l_43, l_44, l_45, l_46, l_47, l_48, l_49, l_50, l_51, l_52, l_53, l_54, l_55, l_56, l_57, l_58, l_59, l_60, l_61, l_62, l_63, l_64, l_72, l_74, l_86, l_97, l_99, l_100, l_122, l_140, l_158, l_160, l_164, l_200, l_240, l_255, l_400, l_406, l_900, l_940, l_980, l_999, l_1120, l_1000, l_100000]⟩
  · subst k0
    rcases inn_count w 0 (by omega) with ⟨hp, j, hj, rfl⟩ | hp
    · omega
    · have hq : inn w 0 (gI c 20 - 1) = false := by
        rw [k2]
        unfold inn at hp ⊢
        rw [decide_eq_false_iff_not] at hp ⊢
        rintro ⟨q1, q2⟩
        have a1 : ¬ w.toInt < 0 := fun hx => q1 (Int32.lt_iff_toInt_lt.mpr (by simpa using hx))
        have a2 : ¬ (-2 : Int) < w.toInt := fun hx => q2 (Int32.lt_iff_toInt_lt.mpr (by
          have e : ((-1 : Int32) - 1).toInt = -2 := by decide
          rw [e]; exact hx))
        omega
      rw [hp, hq]
      exact ⟨M1, by simp (disch := omega) only [Nat.zero_add, LT, BD_some, BD2_some, JN1, JN2, IX_nI, nI_add, pk_mul, pk_sub, leT, leF, ltT, ltF, eqT, eqF, M1_lit, bI_true, bI_false, BZ_n0, BZ_n1, BZ_b, ↓reduceIte, l_0, l_1, l_2, l_3, l_4, l_5, l_6, l_7, l_8, l_9, l_10, l_11, l_12, l_13, l_14, l_15, l_16, l_17, l_18, l_19, l_20, l_21, l_22, l_23, l_24, l_25, l_26, l_27, l_28, l_29, l_30, l_31, l_32, l_33, l_34, l_35, l_36, l_37, l_38, l_39, l_40, l_41, l_42, l_43, l_44, l_45, l_46, l_47, l_48, l_49, l_50, l_51, l_52, l_53, l_54, l_55, l_56, l_57, l_58, l_59, l_60, l_61, l_62, l_63, l_64, l_72, l_74, l_86, l_97, l_99, l_100, l_122, l_140, l_158, l_160, l_164, l_200, l_240, l_255, l_400, l_406, l_900, l_940, l_980, l_999, l_1120, l_1000, l_100000], by simp (disch := omega) only [Nat.zero_add, LT, BD_some, BD2_some, JN1, JN2, IX_nI, nI_add, pk_mul, pk_sub, leT, leF, ltT, ltF, eqT, eqF, M1_lit, bI_true, bI_false, BZ_n0, BZ_n1, BZ_b, ↓reduceIte, l_0, l_1, l_2, l_3, l_4, l_5, l_6, l_7, l_8, l_9, l_10, l_11, l_12, l_13, l_14, l_15, l_16, l_17, l_18, l_19, l_20, l_21, l_22, l_23, l_24, l_25, l_26, l_27, l_28, l_29, l_30, l_31, l_32, l_33, l_34, l_35, l_36, l_37, l_38, l_39, l_40, l_41, l_42, l_43, l_44, l_45, l_46, l_47, l_48, l_49, l_50, l_51, l_52, l_53, l_54, l_55, l_56, l_57, l_58, l_59, l_60, l_61, l_62, l_63, l_64, l_72, l_74, l_86, l_97, l_99, l_100, l_122, l_140, l_158, l_160, l_164, l_200, l_240, l_255, l_400, l_406, l_900, l_940, l_980, l_999, l_1120, l_1000, l_100000]⟩
theorem op_chosen (h : RR x G m c b e z d ow n U) (w : Int32) : ∃ v, x1_chosen c w = some v ∧ m_chosen m w = some (v, sI m 0 0) := by
  have q := h.ms.2.2.2.2.2.2.1
  have q' : (gI c 25 = 0 ∧ gI (sI m 0 0) 31 = 0) ∨ (gI c 25 = 1 ∧ gI (sI m 0 0) 31 = 1 ∧ gI c 21 = gA (sI m 0 0) 30 0 ∧ gI c 22 = gA (sI m 0 0) 30 1 ∧ gI c 23 = gA (sI m 0 0) 30 2) := q
  unfold x1_chosen m_chosen
  simp only [LT, m_isIn_v, BD_some]
  generalize sI m 0 0 = s at q' ⊢
  rcases q' with ⟨a1, a2⟩ | ⟨a1, a2, a3, a4, a5⟩
  · rw [a1, a2]; exact ⟨_, rfl, rfl⟩
  · rw [a1, a2, a3, a4, a5, show (2 : Int32) = nI 2 from rfl, show (1 : Int32) = nI 1 from rfl, show (0 : Int32) = nI 0 from rfl]
    rcases inn_cases w 0 2 (by omega) (by omega) with ⟨hp, j, -, hj, rfl⟩ | hp
    · rw [hp]
      rcases (show j = 0 ∨ j = 1 ∨ j = 2 by omega) with rfl | rfl | rfl
      · refine ⟨gA s 30 0, ?_, ?_⟩
        · simp (disch := omega) only [Nat.zero_add, LT, BD_some, BD2_some, JN1, JN2, IX_nI, nI_add, pk_mul, pk_sub, leT, leF, ltT, ltF, eqT, eqF, M1_lit, bI_true, bI_false, BZ_n0, BZ_n1, BZ_b, ↓reduceIte, l_0, l_1, l_2, l_3, l_4, l_5, l_6, l_7, l_8, l_9, l_10, l_11, l_12, l_13, l_14, l_15, l_16, l_17, l_18, l_19, l_20, l_21, l_22, l_23, l_24, l_25, l_26, l_27, l_28, l_29, l_30, l_31, l_32, l_33, l_34, l_35, l_36, l_37, l_38, l_39, l_40, l_41, l_42, l_43, l_44, l_45, l_46, l_47, l_48, l_49, l_50, l_51, l_52, l_53, l_54, l_55, l_56, l_57, l_58, l_59, l_60, l_61, l_62, l_63, l_64, l_72, l_74, l_86, l_97, l_99, l_100, l_122, l_140, l_158, l_160, l_164, l_200, l_240, l_255, l_400, l_406, l_900, l_940, l_980, l_999, l_1120, l_1000, l_100000]
        · simp (disch := omega) only [Nat.zero_add, LT, BD_some, BD2_some, JN1, JN2, IX_nI, nI_add, pk_mul, pk_sub, leT, leF, ltT, ltF, eqT, eqF, M1_lit, bI_true, bI_false, BZ_n0, BZ_n1, BZ_b, ↓reduceIte, l_0, l_1, l_2, l_3, l_4, l_5, l_6, l_7, l_8, l_9, l_10, l_11, l_12, l_13, l_14, l_15, l_16, l_17, l_18, l_19, l_20, l_21, l_22, l_23, l_24, l_25, l_26, l_27, l_28, l_29, l_30, l_31, l_32, l_33, l_34, l_35, l_36, l_37, l_38, l_39, l_40, l_41, l_42, l_43, l_44, l_45, l_46, l_47, l_48, l_49, l_50, l_51, l_52, l_53, l_54, l_55, l_56, l_57, l_58, l_59, l_60, l_61, l_62, l_63, l_64, l_72, l_74, l_86, l_97, l_99, l_100, l_122, l_140, l_158, l_160, l_164, l_200, l_240, l_255, l_400, l_406, l_900, l_940, l_980, l_999, l_1120, l_1000, l_100000]
      · refine ⟨gA s 30 1, ?_, ?_⟩
        · simp (disch := omega) only [Nat.zero_add, LT, BD_some, BD2_some, JN1, JN2, IX_nI, nI_add, pk_mul, pk_sub, leT, leF, ltT, ltF, eqT, eqF, M1_lit, bI_true, bI_false, BZ_n0, BZ_n1, BZ_b, ↓reduceIte, l_0, l_1, l_2, l_3, l_4, l_5, l_6, l_7, l_8, l_9, l_10, l_11, l_12, l_13, l_14, l_15, l_16, l_17, l_18, l_19, l_20, l_21, l_22, l_23, l_24, l_25, l_26, l_27, l_28, l_29, l_30, l_31, l_32, l_33, l_34, l_35, l_36, l_37, l_38, l_39, l_40, l_41, l_42, l_43, l_44, l_45, l_46, l_47, l_48, l_49, l_50, l_51, l_52, l_53, l_54, l_55, l_56, l_57, l_58, l_59, l_60, l_61, l_62, l_63, l_64, l_72, l_74, l_86, l_97, l_99, l_100, l_122, l_140, l_158, l_160, l_164, l_200, l_240, l_255, l_400, l_406, l_900, l_940, l_980, l_999, l_1120, l_1000, l_100000]
        · simp (disch := omega) only [Nat.zero_add, LT, BD_some, BD2_some, JN1, JN2, IX_nI, nI_add, pk_mul, pk_sub, leT, leF, ltT, ltF, eqT, eqF, M1_lit, bI_true, bI_false, BZ_n0, BZ_n1, BZ_b, ↓reduceIte, l_0, l_1, l_2, l_3, l_4, l_5, l_6, l_7, l_8, l_9, l_10, l_11, l_12, l_13, l_14, l_15, l_16, l_17, l_18, l_19, l_20, l_21, l_22, l_23, l_24, l_25, l_26, l_27, l_28, l_29, l_30, l_31, l_32, l_33, l_34, l_35, l_36, l_37, l_38, l_39, l_40, l_41, l_42, l_43, l_44, l_45, l_46, l_47, l_48, l_49, l_50, l_51, l_52, l_53, l_54, l_55, l_56, l_57, l_58, l_59, l_60, l_61, l_62, l_63, l_64, l_72, l_74, l_86, l_97, l_99, l_100, l_122, l_140, l_158, l_160, l_164, l_200, l_240, l_255, l_400, l_406, l_900, l_940, l_980, l_999, l_1120, l_1000, l_100000]
      · refine ⟨gA s 30 2, ?_, ?_⟩
        · simp (disch := omega) only [Nat.zero_add, LT, BD_some, BD2_some, JN1, JN2, IX_nI, nI_add, pk_mul, pk_sub, leT, leF, ltT, ltF, eqT, eqF, M1_lit, bI_true, bI_false, BZ_n0, BZ_n1, BZ_b, ↓reduceIte, l_0, l_1, l_2, l_3, l_4, l_5, l_6, l_7, l_8, l_9, l_10, l_11, l_12, l_13, l_14, l_15, l_16, l_17, l_18, l_19, l_20, l_21, l_22, l_23, l_24, l_25, l_26, l_27, l_28, l_29, l_30, l_31, l_32, l_33, l_34, l_35, l_36, l_37, l_38, l_39, l_40, l_41, l_42, l_43, l_44, l_45, l_46, l_47, l_48, l_49, l_50, l_51, l_52, l_53, l_54, l_55, l_56, l_57, l_58, l_59, l_60, l_61, l_62, l_63, l_64, l_72, l_74, l_86, l_97, l_99, l_100, l_122, l_140, l_158, l_160, l_164, l_200, l_240, l_255, l_400, l_406, l_900, l_940, l_980, l_999, l_1120, l_1000, l_100000]
        · simp (disch := omega) only [Nat.zero_add, LT, BD_some, BD2_some, JN1, JN2, IX_nI, nI_add, pk_mul, pk_sub, leT, leF, ltT, ltF, eqT, eqF, M1_lit, bI_true, bI_false, BZ_n0, BZ_n1, BZ_b, ↓reduceIte, l_0, l_1, l_2, l_3, l_4, l_5, l_6, l_7, l_8, l_9, l_10, l_11, l_12, l_13, l_14, l_15, l_16, l_17, l_18, l_19, l_20, l_21, l_22, l_23, l_24, l_25, l_26, l_27, l_28, l_29, l_30, l_31, l_32, l_33, l_34, l_35, l_36, l_37, l_38, l_39, l_40, l_41, l_42, l_43, l_44, l_45, l_46, l_47, l_48, l_49, l_50, l_51, l_52, l_53, l_54, l_55, l_56, l_57, l_58, l_59, l_60, l_61, l_62, l_63, l_64, l_72, l_74, l_86, l_97, l_99, l_100, l_122, l_140, l_158, l_160, l_164, l_200, l_240, l_255, l_400, l_406, l_900, l_940, l_980, l_999, l_1120, l_1000, l_100000]
    · have q0 : ¬ w = nI 0 := fun e => by rw [e, inn_T (by omega) (by omega) (by omega)] at hp; cases hp
      have q1 : ¬ w = nI 1 := fun e => by rw [e, inn_T (by omega) (by omega) (by omega)] at hp; cases hp
      have q2 : ¬ w = nI 2 := fun e => by rw [e, inn_T (by omega) (by omega) (by omega)] at hp; cases hp
      rw [hp, if_neg q0, if_neg q1, if_neg q2]
      exact ⟨M1, by simp (disch := omega) only [Nat.zero_add, LT, BD_some, BD2_some, JN1, JN2, IX_nI, nI_add, pk_mul, pk_sub, leT, leF, ltT, ltF, eqT, eqF, M1_lit, bI_true, bI_false, BZ_n0, BZ_n1, BZ_b, ↓reduceIte, l_0, l_1, l_2, l_3, l_4, l_5, l_6, l_7, l_8, l_9, l_10, l_11, l_12, l_13, l_14, l_15, l_16, l_17, l_18, l_19, l_20, l_21, l_22, l_23, l_24, l_25, l_26, l_27, l_28, l_29, l_30, l_31, l_32, l_33, l_34, l_35, l_36, l_37, l_38, l_39, l_40, l_41, l_42, l_43, l_44, l_45, l_46, l_47, l_48, l_49, l_50, l_51, l_52, l_53, l_54, l_55, l_56, l_57, l_58, l_59, l_60, l_61, l_62, l_63, l_64, l_72, l_74, l_86, l_97, l_99, l_100, l_122, l_140, l_158, l_160, l_164, l_200, l_240, l_255, l_400, l_406, l_900, l_940, l_980, l_999, l_1120, l_1000, l_100000], by simp (disch := omega) only [Nat.zero_add, LT, BD_some, BD2_some, JN1, JN2, IX_nI, nI_add, pk_mul, pk_sub, leT, leF, ltT, ltF, eqT, eqF, M1_lit, bI_true, bI_false, BZ_n0, BZ_n1, BZ_b, ↓reduceIte, l_0, l_1, l_2, l_3, l_4, l_5, l_6, l_7, l_8, l_9, l_10, l_11, l_12, l_13, l_14, l_15, l_16, l_17, l_18, l_19, l_20, l_21, l_22, l_23, l_24, l_25, l_26, l_27, l_28, l_29, l_30, l_31, l_32, l_33, l_34, l_35, l_36, l_37, l_38, l_39, l_40, l_41, l_42, l_43, l_44, l_45, l_46, l_47, l_48, l_49, l_50, l_51, l_52, l_53, l_54, l_55, l_56, l_57, l_58, l_59, l_60, l_61, l_62, l_63, l_64, l_72, l_74, l_86, l_97, l_99, l_100, l_122, l_140, l_158, l_160, l_164, l_200, l_240, l_255, l_400, l_406, l_900, l_940, l_980, l_999, l_1120, l_1000, l_100000]⟩
theorem op_byteAt (h : RR x G m c b e z d ow n U) (w : Int32) : ∃ v, x1_byteAt c w = some v ∧ m_byteAt m w = some (v, sI m 0 0) := by
  obtain ⟨k, hk, k2, k1, k3⟩ := h.ms.2.2.2.2.2.2.2.1
  have k1' : gI (sI m 0 0) 34 = nI k := k1
  have k3' : ∀ i, i < k → gA c 26 i = gA (sI m 0 0) 33 i := k3
  unfold x1_byteAt m_byteAt
  simp only [LT, x1_isIn_v, m_isIn_v, BD_some]
  generalize sI m 0 0 = s at k1' k3' ⊢
  rw [k1', k2]
  rcases inn_count w k (by omega) with ⟨hp, j, hj, rfl⟩ | hp
  · rw [hp]
    refine ⟨gA s 33 j, ?_, ?_⟩
    · simp (disch := omega) only [Nat.zero_add, LT, BD_some, BD2_some, JN1, JN2, IX_nI, nI_add, pk_mul, pk_sub, leT, leF, ltT, ltF, eqT, eqF, M1_lit, bI_true, bI_false, BZ_n0, BZ_n1, BZ_b, ↓reduceIte, l_0, l_1, l_2, l_3, l_4, l_5, l_6, l_7, l_8, l_9, l_10, l_11, l_12, l_13, l_14, l_15, l_16, l_17, l_18, l_19, l_20, l_21, l_22, l_23, l_24, l_25, l_26, l_27, l_28, l_29, l_30, l_31, l_32, l_33, l_34, l_35, l_36, l_37, l_38, l_39, l_40, l_41, l_42, l_43, l_44, l_45, l_46, l_47, l_48, l_49, l_50, l_51, l_52, l_53, l_54, l_55, l_56, l_57, l_58, l_59, l_60, l_61, l_62, l_63, l_64, l_72, l_74, l_86, l_97, l_99, l_100, l_122, l_140, l_158, l_160, l_164, l_200, l_240, l_255, l_400, l_406, l_900, l_940, l_980, l_999, l_1120, l_1000, l_100000, k3' j hj]
    · simp (disch := omega) only [Nat.zero_add, LT, BD_some, BD2_some, JN1, JN2, IX_nI, nI_add, pk_mul, pk_sub, leT, leF, ltT, ltF, eqT, eqF, M1_lit, bI_true, bI_false, BZ_n0, BZ_n1, BZ_b, ↓reduceIte, l_0, l_1, l_2, l_3, l_4, l_5, l_6, l_7, l_8, l_9, l_10, l_11, l_12, l_13, l_14, l_15, l_16, l_17, l_18, l_19, l_20, l_21, l_22, l_23, l_24, l_25, l_26, l_27, l_28, l_29, l_30, l_31, l_32, l_33, l_34, l_35, l_36, l_37, l_38, l_39, l_40, l_41, l_42, l_43, l_44, l_45, l_46, l_47, l_48, l_49, l_50, l_51, l_52, l_53, l_54, l_55, l_56, l_57, l_58, l_59, l_60, l_61, l_62, l_63, l_64, l_72, l_74, l_86, l_97, l_99, l_100, l_122, l_140, l_158, l_160, l_164, l_200, l_240, l_255, l_400, l_406, l_900, l_940, l_980, l_999, l_1120, l_1000, l_100000]
  · rw [hp]
    exact ⟨M1, by simp (disch := omega) only [Nat.zero_add, LT, BD_some, BD2_some, JN1, JN2, IX_nI, nI_add, pk_mul, pk_sub, leT, leF, ltT, ltF, eqT, eqF, M1_lit, bI_true, bI_false, BZ_n0, BZ_n1, BZ_b, ↓reduceIte, l_0, l_1, l_2, l_3, l_4, l_5, l_6, l_7, l_8, l_9, l_10, l_11, l_12, l_13, l_14, l_15, l_16, l_17, l_18, l_19, l_20, l_21, l_22, l_23, l_24, l_25, l_26, l_27, l_28, l_29, l_30, l_31, l_32, l_33, l_34, l_35, l_36, l_37, l_38, l_39, l_40, l_41, l_42, l_43, l_44, l_45, l_46, l_47, l_48, l_49, l_50, l_51, l_52, l_53, l_54, l_55, l_56, l_57, l_58, l_59, l_60, l_61, l_62, l_63, l_64, l_72, l_74, l_86, l_97, l_99, l_100, l_122, l_140, l_158, l_160, l_164, l_200, l_240, l_255, l_400, l_406, l_900, l_940, l_980, l_999, l_1120, l_1000, l_100000], by simp (disch := omega) only [Nat.zero_add, LT, BD_some, BD2_some, JN1, JN2, IX_nI, nI_add, pk_mul, pk_sub, leT, leF, ltT, ltF, eqT, eqF, M1_lit, bI_true, bI_false, BZ_n0, BZ_n1, BZ_b, ↓reduceIte, l_0, l_1, l_2, l_3, l_4, l_5, l_6, l_7, l_8, l_9, l_10, l_11, l_12, l_13, l_14, l_15, l_16, l_17, l_18, l_19, l_20, l_21, l_22, l_23, l_24, l_25, l_26, l_27, l_28, l_29, l_30, l_31, l_32, l_33, l_34, l_35, l_36, l_37, l_38, l_39, l_40, l_41, l_42, l_43, l_44, l_45, l_46, l_47, l_48, l_49, l_50, l_51, l_52, l_53, l_54, l_55, l_56, l_57, l_58, l_59, l_60, l_61, l_62, l_63, l_64, l_72, l_74, l_86, l_97, l_99, l_100, l_122, l_140, l_158, l_160, l_164, l_200, l_240, l_255, l_400, l_406, l_900, l_940, l_980, l_999, l_1120, l_1000, l_100000]⟩
theorem op_told (h : RR x G m c b e z d ow n U) (w : Int32) : ∃ v, x1_told c w = some v ∧ m_told m w = some (v, sI m 0 0) := by
  have q := h.ms.2.2.2.2.2.2.2.2
  have q' : (gI c 29 = 0 ∧ gI (sI m 0 0) 39 = 0) ∨ (gI c 29 = 1 ∧ gI (sI m 0 0) 39 = 1 ∧ ∀ i, i < 4 → gA c 28 i = gA (sI m 0 0) 37 i) := q
  unfold x1_told m_told
  simp only [LT, x1_isIn_v, m_isIn_v, BD_some]
  generalize sI m 0 0 = s at q' ⊢
  rcases q' with ⟨a1, a2⟩ | ⟨a1, a2, a3⟩
  · rw [a1, a2]; exact ⟨_, rfl, rfl⟩
  · rw [a1, a2, show (3 : Int32) = nI 3 from rfl, show (0 : Int32) = nI 0 from rfl]
    rcases inn_cases w 0 3 (by omega) (by omega) with ⟨hp, j, -, hj, rfl⟩ | hp
    · rw [hp]
      refine ⟨gA s 37 j, ?_, ?_⟩
      · simp (disch := omega) only [Nat.zero_add, LT, BD_some, BD2_some, JN1, JN2, IX_nI, nI_add, pk_mul, pk_sub, leT, leF, ltT, ltF, eqT, eqF, M1_lit, bI_true, bI_false, BZ_n0, BZ_n1, BZ_b, ↓reduceIte, l_0, l_1, l_2, l_3, l_4, l_5, l_6, l_7, l_8, l_9, l_10, l_11, l_12, l_13, l_14, l_15, l_16, l_17, l_18, l_19, l_20, l_21, l_22, l_23, l_24, l_25, l_26, l_27, l_28, l_29, l_30, l_31, l_32, l_33, l_34, l_35, l_36, l_37, l_38, l_39, l_40, l_41, l_42, l_43, l_44, l_45, l_46, l_47, l_48, l_49, l_50, l_51, l_52, l_53, l_54, l_55, l_56, l_57, l_58, l_59, l_60, l_61, l_62, l_63, l_64, l_72, l_74, l_86, l_97, l_99, l_100, l_122, l_140, l_158, l_160, l_164, l_200, l_240, l_255, l_400, l_406, l_900, l_940, l_980, l_999, l_1120, l_1000, l_100000, a3 j (by omega)]
      · simp (disch := omega) only [Nat.zero_add, LT, BD_some, BD2_some, JN1, JN2, IX_nI, nI_add, pk_mul, pk_sub, leT, leF, ltT, ltF, eqT, eqF, M1_lit, bI_true, bI_false, BZ_n0, BZ_n1, BZ_b, ↓reduceIte, l_0, l_1, l_2, l_3, l_4, l_5, l_6, l_7, l_8, l_9, l_10, l_11, l_12, l_13, l_14, l_15, l_16, l_17, l_18, l_19, l_20, l_21, l_22, l_23, l_24, l_25, l_26, l_27, l_28, l_29, l_30, l_31, l_32, l_33, l_34, l_35, l_36, l_37, l_38, l_39, l_40, l_41, l_42, l_43, l_44, l_45, l_46, l_47, l_48, l_49, l_50, l_51, l_52, l_53, l_54, l_55, l_56, l_57, l_58, l_59, l_60, l_61, l_62, l_63, l_64, l_72, l_74, l_86, l_97, l_99, l_100, l_122, l_140, l_158, l_160, l_164, l_200, l_240, l_255, l_400, l_406, l_900, l_940, l_980, l_999, l_1120, l_1000, l_100000]
    · rw [hp]
      exact ⟨M1, by simp (disch := omega) only [Nat.zero_add, LT, BD_some, BD2_some, JN1, JN2, IX_nI, nI_add, pk_mul, pk_sub, leT, leF, ltT, ltF, eqT, eqF, M1_lit, bI_true, bI_false, BZ_n0, BZ_n1, BZ_b, ↓reduceIte, l_0, l_1, l_2, l_3, l_4, l_5, l_6, l_7, l_8, l_9, l_10, l_11, l_12, l_13, l_14, l_15, l_16, l_17, l_18, l_19, l_20, l_21, l_22, l_23, l_24, l_25, l_26, l_27, l_28, l_29, l_30, l_31, l_32, l_33, l_34, l_35, l_36, l_37, l_38, l_39, l_40, l_41, l_42, l_43, l_44, l_45, l_46, l_47, l_48, l_49, l_50, l_51, l_52, l_53, l_54, l_55, l_56, l_57, l_58, l_59, l_60, l_61, l_62, l_63, l_64, l_72, l_74, l_86, l_97, l_99, l_100, l_122, l_140, l_158, l_160, l_164, l_200, l_240, l_255, l_400, l_406, l_900, l_940, l_980, l_999, l_1120, l_1000, l_100000], by simp (disch := omega) only [Nat.zero_add, LT, BD_some, BD2_some, JN1, JN2, IX_nI, nI_add, pk_mul, pk_sub, leT, leF, ltT, ltF, eqT, eqF, M1_lit, bI_true, bI_false, BZ_n0, BZ_n1, BZ_b, ↓reduceIte, l_0, l_1, l_2, l_3, l_4, l_5, l_6, l_7, l_8, l_9, l_10, l_11, l_12, l_13, l_14, l_15, l_16, l_17, l_18, l_19, l_20, l_21, l_22, l_23, l_24, l_25, l_26, l_27, l_28, l_29, l_30, l_31, l_32, l_33, l_34, l_35, l_36, l_37, l_38, l_39, l_40, l_41, l_42, l_43, l_44, l_45, l_46, l_47, l_48, l_49, l_50, l_51, l_52, l_53, l_54, l_55, l_56, l_57, l_58, l_59, l_60, l_61, l_62, l_63, l_64, l_72, l_74, l_86, l_97, l_99, l_100, l_122, l_140, l_158, l_160, l_164, l_200, l_240, l_255, l_400, l_406, l_900, l_940, l_980, l_999, l_1120, l_1000, l_100000]⟩
theorem op_end (h : RR x G m c b e z d ow n U) (w : Int32) : ∃ v c' m', x1_end c w = some (v, c') ∧ m_end m w = some (v, m') ∧ RR x (wp G x 0 c') m' c' b e z d ow n U := by
  obtain ⟨k, hk, k1, k2⟩ := h.ms.2.1
  have h0 : RR x (wp G x 0 c) (sI m 0 0) c b e z d ow n U := by rw [wp_id h.hx]; exact h.t0 0
  have k2' : gI (sI m 0 0) 2 = nI k := k2
  unfold x1_end m_end
  simp only [LT]
  rw [k1, k2']
  by_cases c1 : w < 0
  · rw [if_pos c1, if_pos c1]; exact ⟨_, _, _, rfl, rfl, h0⟩
  · rw [if_neg c1, if_neg c1]
    by_cases c2 : w ≤ nI k
    · rw [if_pos c2, if_pos c2]
      refine ⟨_, _, _, rfl, rfl, ?_⟩
      obtain ⟨j, hj, rfl⟩ := nI_of c1
      have hjk : j ≤ k := Nat.le_of_not_lt (fun hh => nI_ge hh hj c2)
      have hM := h.ms
      obtain ⟨q1, q2, q3⟩ := hM
      refine h.main (CK_sI c _ (by omega)) ⟨q1, ⟨j, by omega, rfl, rfl⟩, q3⟩ ((MK_sI m _ (by omega)).trans (MK_sI _ _ (by omega)))
    · rw [if_neg c2, if_neg c2]; exact ⟨_, _, _, rfl, rfl, h0⟩
end OPS
