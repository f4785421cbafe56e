/-! PURE: questions with loops, both sides -/
theorem or_bitF {c : Nat → Bool} {n : Nat} (h : c n = false) : nI (setN c n) = nI (setN c (n + 1)) := by rw [setN_f h]
section OPS
variable {x : Nat} {G : Wd} {m c : Rec} {b : Nat} {e z : Rec} {d : Nat → Nat} {ow : Nat → Nat} {n : Nat} {U : Nat → Nat → Nat}
def c_see (d : Nat → Nat) (p : Nat) : Bool := decide (sees d p 0 ≠ 0)
def c_dus (d : Nat → Nat) (p : Nat) : Bool := decide (0 < d (32 + p))
def s_hw (d : Nat → Nat) (come : Bool) (p : Nat) : Nat := cntN (hw d come p) (d 25)
theorem s_hw_le {d : Nat → Nat} (hd : DI d) (come : Bool) (p : Nat) : s_hw d come p ≤ 12 := Nat.le_trans (cntN_le _ _) hd.acts
theorem x1_now_v (hb : gP c 6 = some b) (he : HS e d) (hz : ZS z d) (hd : DI d) (w : Int32) : x1_now c b e z w = (if w = 0 then some (nI (d 24)) else if w = 1 then some (nI (d 25)) else if w = 2 then some (nI (setN (prv d) (d 25))) else if w = 3 then some (nI (setN (c_see d) (d 1))) else if w = 4 then some (nI (setN (c_dus d) (d 1))) else if w = 5 then some (nI (sumN (s_hw d true) (d 1))) else if w = 6 then some (nI (sumN (s_hw d false) (d 1))) else if w = 7 then some (nI (unN d 0 (d 1))) else some M1) := by
  have hN := hd.N
  have e8 := he.2.1
  have z7 := hz.1
  have z8 := hz.2.1
  have z1 := hz.2.2.2.1
  unfold x1_now
  refine LP6_run (fun p => nI (setN (c_see d) p)) (fun p => nI (setN (c_dus d) p)) (fun p => nI (sumN (s_hw d true) p)) (fun p => nI (sumN (s_hw d false) p)) (fun p => nI (orN (fun p => sees d p 0) p)) (fun p => nI p) 0 (d 1) (by omega) rfl rfl rfl rfl rfl rfl (fun p _ hp rec => ?_) (fun rec => ?_)
  · have h6 := sees_lt hd (p := p) (k := 0) (by omega)
    have h7 := orN_lt (g := fun p => sees d p 0) (n := p) (fun i hi => sees_lt hd (by omega))
    have h8 := hd.dust (p := p) (by omega)
    have l1 : x4_leaves z (nI p) (nI 1) = some (nI (s_hw d true p)) := x4_leaves_v hz hd true (by omega)
    have l0 : x4_leaves z (nI p) (nI 0) = some (nI (s_hw d false p)) := x4_leaves_v hz hd false (by omega)
    have eo : nI (orN (fun p => sees d p 0) p) ||| nI (sees d p 0) = nI (orN (fun p => sees d p 0) (p + 1)) := nI_or (by omega) (by omega)
    have ea : nI (sumN (s_hw d true) p + s_hw d true p) = nI (sumN (s_hw d true) (p + 1)) := rfl
    have eb : nI (sumN (s_hw d false) p + s_hw d false p) = nI (sumN (s_hw d false) (p + 1)) := rfl
    by_cases a : sees d p 0 = 0
    · have a1 : c_see d p = false := by unfold c_see; simp [a]
      have a2 : setN (c_see d) (p + 1) = setN (c_see d) p := setN_f a1
      by_cases g0 : 0 < d (32 + p)
      · have g1 : c_dus d p = true := by unfold c_dus; simp [g0]
        have g2 := or_set' (c := c_dus d) (n := p) (by omega) g1
        simp (disch := omega) only [Nat.zero_add, LT, BD_some, BD2_some, JN1, JN2, IX_nI, nI_add, pk_mul, pk_sub, leT, leF, ltT, ltF, eqT, eqF, M1_lit, bI_true, bI_false, BZ_n0, BZ_n1, BZ_b, ↓reduceIte, l_0, l_1, l_2, l_3, l_4, l_5, l_6, l_7, l_8, l_9, l_10, l_11, l_12, l_13, l_14, l_15, l_16, l_17, l_18, l_19, l_20, l_21, l_22, l_23, l_24, l_25, l_26, l_27, l_28, l_29, l_30, l_31, l_32, l_33, l_34, l_35, l_36, l_37, l_38, l_39, l_40, l_41, l_42, l_43, l_44, l_45, l_46, l_47, l_48, l_49, l_50, l_51, l_52, l_53, l_54, l_55, l_56, l_57, l_58, l_59, l_60, l_61, l_62, l_63, l_64, l_72, l_74, l_86, l_97, l_99, l_100, l_122, l_140, l_158, l_160, l_164, l_200, l_240, l_255, l_400, l_406, l_900, l_940, l_980, l_999, l_1120, l_1000, l_100000, PG_of _ hb, e8, x4_sees_v he hz hd, a, z1, l1, l0, ea, eb, g2, a2]
        rw [a] at eo
        rw [eo]
      · have g1 : c_dus d p = false := by unfold c_dus; simp [g0]
        have g2 : setN (c_dus d) (p + 1) = setN (c_dus d) p := setN_f g1
        simp (disch := omega) only [Nat.zero_add, LT, BD_some, BD2_some, JN1, JN2, IX_nI, nI_add, pk_mul, pk_sub, leT, leF, ltT, ltF, eqT, eqF, M1_lit, bI_true, bI_false, BZ_n0, BZ_n1, BZ_b, ↓reduceIte, l_0, l_1, l_2, l_3, l_4, l_5, l_6, l_7, l_8, l_9, l_10, l_11, l_12, l_13, l_14, l_15, l_16, l_17, l_18, l_19, l_20, l_21, l_22, l_23, l_24, l_25, l_26, l_27, l_28, l_29, l_30, l_31, l_32, l_33, l_34, l_35, l_36, l_37, l_38, l_39, l_40, l_41, l_42, l_43, l_44, l_45, l_46, l_47, l_48, l_49, l_50, l_51, l_52, l_53, l_54, l_55, l_56, l_57, l_58, l_59, l_60, l_61, l_62, l_63, l_64, l_72, l_74, l_86, l_97, l_99, l_100, l_122, l_140, l_158, l_160, l_164, l_200, l_240, l_255, l_400, l_406, l_900, l_940, l_980, l_999, l_1120, l_1000, l_100000, PG_of _ hb, e8, x4_sees_v he hz hd, a, z1, l1, l0, ea, eb, g2, a2]
        rw [a] at eo
        rw [eo]
    · have a1 : c_see d p = true := by unfold c_see; simp [a]
      have a2 := or_set' (c := c_see d) (n := p) (by omega) a1
      by_cases g0 : 0 < d (32 + p)
      · have g1 : c_dus d p = true := by unfold c_dus; simp [g0]
        have g2 := or_set' (c := c_dus d) (n := p) (by omega) g1
        simp (disch := omega) only [Nat.zero_add, LT, BD_some, BD2_some, JN1, JN2, IX_nI, nI_add, pk_mul, pk_sub, leT, leF, ltT, ltF, eqT, eqF, M1_lit, bI_true, bI_false, BZ_n0, BZ_n1, BZ_b, ↓reduceIte, l_0, l_1, l_2, l_3, l_4, l_5, l_6, l_7, l_8, l_9, l_10, l_11, l_12, l_13, l_14, l_15, l_16, l_17, l_18, l_19, l_20, l_21, l_22, l_23, l_24, l_25, l_26, l_27, l_28, l_29, l_30, l_31, l_32, l_33, l_34, l_35, l_36, l_37, l_38, l_39, l_40, l_41, l_42, l_43, l_44, l_45, l_46, l_47, l_48, l_49, l_50, l_51, l_52, l_53, l_54, l_55, l_56, l_57, l_58, l_59, l_60, l_61, l_62, l_63, l_64, l_72, l_74, l_86, l_97, l_99, l_100, l_122, l_140, l_158, l_160, l_164, l_200, l_240, l_255, l_400, l_406, l_900, l_940, l_980, l_999, l_1120, l_1000, l_100000, PG_of _ hb, e8, x4_sees_v he hz hd, z1, l1, l0, ea, eb, g2, a2, eo]
      · have g1 : c_dus d p = false := by unfold c_dus; simp [g0]
        have g2 : setN (c_dus d) (p + 1) = setN (c_dus d) p := setN_f g1
        simp (disch := omega) only [Nat.zero_add, LT, BD_some, BD2_some, JN1, JN2, IX_nI, nI_add, pk_mul, pk_sub, leT, leF, ltT, ltF, eqT, eqF, M1_lit, bI_true, bI_false, BZ_n0, BZ_n1, BZ_b, ↓reduceIte, l_0, l_1, l_2, l_3, l_4, l_5, l_6, l_7, l_8, l_9, l_10, l_11, l_12, l_13, l_14, l_15, l_16, l_17, l_18, l_19, l_20, l_21, l_22, l_23, l_24, l_25, l_26, l_27, l_28, l_29, l_30, l_31, l_32, l_33, l_34, l_35, l_36, l_37, l_38, l_39, l_40, l_41, l_42, l_43, l_44, l_45, l_46, l_47, l_48, l_49, l_50, l_51, l_52, l_53, l_54, l_55, l_56, l_57, l_58, l_59, l_60, l_61, l_62, l_63, l_64, l_72, l_74, l_86, l_97, l_99, l_100, l_122, l_140, l_158, l_160, l_164, l_200, l_240, l_255, l_400, l_406, l_900, l_940, l_980, l_999, l_1120, l_1000, l_100000, PG_of _ hb, e8, x4_sees_v he hz hd, z1, l1, l0, ea, eb, g2, a2, eo]
  · have h7 := orN_lt (g := fun p => sees d p 0) (n := d 1) (fun i hi => sees_lt hd (by omega))
    have h9 := allp_lt hd
    have eu : nI (allp d) &&& (nI (orN (fun p => sees d p 0) (d 1)) ^^^ M1) = nI (unN d 0 (d 1)) := by rw [nI_dif (by omega) (by omega), unN_or hd]
    simp (disch := omega) only [Nat.zero_add, LT, BD_some, BD2_some, JN1, JN2, IX_nI, nI_add, pk_mul, pk_sub, leT, leF, ltT, ltF, eqT, eqF, M1_lit, bI_true, bI_false, BZ_n0, BZ_n1, BZ_b, ↓reduceIte, l_0, l_1, l_2, l_3, l_4, l_5, l_6, l_7, l_8, l_9, l_10, l_11, l_12, l_13, l_14, l_15, l_16, l_17, l_18, l_19, l_20, l_21, l_22, l_23, l_24, l_25, l_26, l_27, l_28, l_29, l_30, l_31, l_32, l_33, l_34, l_35, l_36, l_37, l_38, l_39, l_40, l_41, l_42, l_43, l_44, l_45, l_46, l_47, l_48, l_49, l_50, l_51, l_52, l_53, l_54, l_55, l_56, l_57, l_58, l_59, l_60, l_61, l_62, l_63, l_64, l_72, l_74, l_86, l_97, l_99, l_100, l_122, l_140, l_158, l_160, l_164, l_200, l_240, l_255, l_400, l_406, l_900, l_940, l_980, l_999, l_1120, l_1000, l_100000, PG_of _ hb, e8, z7, z8, x4_proved_v he hz hd, x3_all_v he hd, eu]
    rfl
theorem m_now_v (t : gA m 14 = RF d) (hd : DI d) (w : Int32) : (if w = (0 : Int32) then some ((gA m 14 24), m) else if w = (1 : Int32) then some ((gA m 14 25), m) else if w = (2 : Int32) then BD (m_proved m) (fun v5 => some (v5, m)) else if w = (3 : Int32) then LP2 (fun (rec9 : Int32 → Int32 → Option (Int32 × Rec)) (v7 : Int32) (v8 : Int32) => (if (gA m 14 1) ≤ v8 then some (v7, m) else BD (m_seesOf m v8 (0 : Int32)) (fun v11 => (if v11 = 0 then rec9 v7 (v8 + (1 : Int32)) else rec9 (v7 ||| ((1 : Int32) <<< (v8 &&& 31))) (v8 + (1 : Int32)))))) FU (0 : Int32) (0 : Int32) else if w = (4 : Int32) then LP2 (fun (rec15 : Int32 → Int32 → Option (Int32 × Rec)) (v13 : Int32) (v14 : Int32) => (if (gA m 14 1) ≤ v14 then some (v13, m) else IX ((32 : Int32) + v14) 406 (fun i16 => (if (gA m 14 i16) ≤ 0 then rec15 v13 (v14 + (1 : Int32)) else rec15 (v13 ||| ((1 : Int32) <<< (v14 &&& 31))) (v14 + (1 : Int32)))))) FU (0 : Int32) (0 : Int32) else if w = (5 : Int32) then LP2 (fun (rec20 : Int32 → Int32 → Option (Int32 × Rec)) (v18 : Int32) (v19 : Int32) => (if (gA m 14 1) ≤ v19 then some (v18, m) else JN1 (fun (v21 : Int32) => BD (m_shownBy m v19 v21) (fun v24 => BD (m_bits v24) (fun v26 => rec20 (v18 + v26) (v19 + (1 : Int32))))) (fun (j22 : Int32 → Option (Int32 × Rec)) => (if w = (5 : Int32) then j22 (1 : Int32) else j22 (0 : Int32))))) FU (0 : Int32) (0 : Int32) else if w = (6 : Int32) then LP2 (fun (rec30 : Int32 → Int32 → Option (Int32 × Rec)) (v28 : Int32) (v29 : Int32) => (if (gA m 14 1) ≤ v29 then some (v28, m) else JN1 (fun (v31 : Int32) => BD (m_shownBy m v29 v31) (fun v34 => BD (m_bits v34) (fun v36 => rec30 (v28 + v36) (v29 + (1 : Int32))))) (fun (j32 : Int32 → Option (Int32 × Rec)) => (if w = (5 : Int32) then j32 (1 : Int32) else j32 (0 : Int32))))) FU (0 : Int32) (0 : Int32) else if w = (7 : Int32) then BD (m_unseen m (0 : Int32)) (fun v39 => some (v39, m)) else some ((-1 : Int32), m)) = (if w = 0 then some (nI (d 24), m) else if w = 1 then some (nI (d 25), m) else if w = 2 then some (nI (setN (prv d) (d 25)), m) else if w = 3 then some (nI (setN (c_see d) (d 1)), m) else if w = 4 then some (nI (setN (c_dus d) (d 1)), m) else if w = 5 then some (nI (sumN (s_hw d true) (d 1)), m) else if w = 6 then some (nI (sumN (s_hw d false) (d 1)), m) else if w = 7 then some (nI (unN d 0 (d 1)), m) else some (M1, m)) := by
  have hN := hd.N
  by_cases h0 : w = 0
  · simp only [if_pos h0]; simp (disch := omega) only [Nat.zero_add, LT, BD_some, BD2_some, JN1, JN2, IX_nI, nI_add, pk_mul, pk_sub, leT, leF, ltT, ltF, eqT, eqF, M1_lit, bI_true, bI_false, BZ_n0, BZ_n1, BZ_b, ↓reduceIte, l_0, l_1, l_2, l_3, l_4, l_5, l_6, l_7, l_8, l_9, l_10, l_11, l_12, l_13, l_14, l_15, l_16, l_17, l_18, l_19, l_20, l_21, l_22, l_23, l_24, l_25, l_26, l_27, l_28, l_29, l_30, l_31, l_32, l_33, l_34, l_35, l_36, l_37, l_38, l_39, l_40, l_41, l_42, l_43, l_44, l_45, l_46, l_47, l_48, l_49, l_50, l_51, l_52, l_53, l_54, l_55, l_56, l_57, l_58, l_59, l_60, l_61, l_62, l_63, l_64, l_72, l_74, l_86, l_97, l_99, l_100, l_122, l_140, l_158, l_160, l_164, l_200, l_240, l_255, l_400, l_406, l_900, l_940, l_980, l_999, l_1120, l_1000, l_100000, t, RF_a]
  by_cases h1 : w = 1
  · simp only [if_neg h0, if_pos h1]; simp (disch := omega) only [Nat.zero_add, LT, BD_some, BD2_some, JN1, JN2, IX_nI, nI_add, pk_mul, pk_sub, leT, leF, ltT, ltF, eqT, eqF, M1_lit, bI_true, bI_false, BZ_n0, BZ_n1, BZ_b, ↓reduceIte, l_0, l_1, l_2, l_3, l_4, l_5, l_6, l_7, l_8, l_9, l_10, l_11, l_12, l_13, l_14, l_15, l_16, l_17, l_18, l_19, l_20, l_21, l_22, l_23, l_24, l_25, l_26, l_27, l_28, l_29, l_30, l_31, l_32, l_33, l_34, l_35, l_36, l_37, l_38, l_39, l_40, l_41, l_42, l_43, l_44, l_45, l_46, l_47, l_48, l_49, l_50, l_51, l_52, l_53, l_54, l_55, l_56, l_57, l_58, l_59, l_60, l_61, l_62, l_63, l_64, l_72, l_74, l_86, l_97, l_99, l_100, l_122, l_140, l_158, l_160, l_164, l_200, l_240, l_255, l_400, l_406, l_900, l_940, l_980, l_999, l_1120, l_1000, l_100000, t, RF_a]
  by_cases h2 : w = 2
  · simp only [if_neg h0, if_neg h1, if_pos h2]; simp (disch := omega) only [Nat.zero_add, LT, BD_some, BD2_some, JN1, JN2, IX_nI, nI_add, pk_mul, pk_sub, leT, leF, ltT, ltF, eqT, eqF, M1_lit, bI_true, bI_false, BZ_n0, BZ_n1, BZ_b, ↓reduceIte, l_0, l_1, l_2, l_3, l_4, l_5, l_6, l_7, l_8, l_9, l_10, l_11, l_12, l_13, l_14, l_15, l_16, l_17, l_18, l_19, l_20, l_21, l_22, l_23, l_24, l_25, l_26, l_27, l_28, l_29, l_30, l_31, l_32, l_33, l_34, l_35, l_36, l_37, l_38, l_39, l_40, l_41, l_42, l_43, l_44, l_45, l_46, l_47, l_48, l_49, l_50, l_51, l_52, l_53, l_54, l_55, l_56, l_57, l_58, l_59, l_60, l_61, l_62, l_63, l_64, l_72, l_74, l_86, l_97, l_99, l_100, l_122, l_140, l_158, l_160, l_164, l_200, l_240, l_255, l_400, l_406, l_900, l_940, l_980, l_999, l_1120, l_1000, l_100000, m_proved_v t hd]
  by_cases h3 : w = 3
  · simp only [if_neg h0, if_neg h1, if_neg h2, if_pos h3]
    refine LP2_run (fun p => nI (setN (c_see d) p)) (fun p => nI p) 0 (d 1) (by omega) rfl rfl (fun p _ hp rec => ?_) (fun rec => ?_)
    · have h6 := sees_lt hd (p := p) (k := 0) (by omega)
      by_cases a : sees d p 0 = 0
      · have a1 : c_see d p = false := by unfold c_see; simp [a]
        have a2 : setN (c_see d) (p + 1) = setN (c_see d) p := setN_f a1
        simp (disch := omega) only [Nat.zero_add, LT, BD_some, BD2_some, JN1, JN2, IX_nI, nI_add, pk_mul, pk_sub, leT, leF, ltT, ltF, eqT, eqF, M1_lit, bI_true, bI_false, BZ_n0, BZ_n1, BZ_b, ↓reduceIte, l_0, l_1, l_2, l_3, l_4, l_5, l_6, l_7, l_8, l_9, l_10, l_11, l_12, l_13, l_14, l_15, l_16, l_17, l_18, l_19, l_20, l_21, l_22, l_23, l_24, l_25, l_26, l_27, l_28, l_29, l_30, l_31, l_32, l_33, l_34, l_35, l_36, l_37, l_38, l_39, l_40, l_41, l_42, l_43, l_44, l_45, l_46, l_47, l_48, l_49, l_50, l_51, l_52, l_53, l_54, l_55, l_56, l_57, l_58, l_59, l_60, l_61, l_62, l_63, l_64, l_72, l_74, l_86, l_97, l_99, l_100, l_122, l_140, l_158, l_160, l_164, l_200, l_240, l_255, l_400, l_406, l_900, l_940, l_980, l_999, l_1120, l_1000, l_100000, t, RF_a, m_seesOf_v t hd, a, a2]
      · have a1 : c_see d p = true := by unfold c_see; simp [a]
        have a2 := or_set' (c := c_see d) (n := p) (by omega) a1
        simp (disch := omega) only [Nat.zero_add, LT, BD_some, BD2_some, JN1, JN2, IX_nI, nI_add, pk_mul, pk_sub, leT, leF, ltT, ltF, eqT, eqF, M1_lit, bI_true, bI_false, BZ_n0, BZ_n1, BZ_b, ↓reduceIte, l_0, l_1, l_2, l_3, l_4, l_5, l_6, l_7, l_8, l_9, l_10, l_11, l_12, l_13, l_14, l_15, l_16, l_17, l_18, l_19, l_20, l_21, l_22, l_23, l_24, l_25, l_26, l_27, l_28, l_29, l_30, l_31, l_32, l_33, l_34, l_35, l_36, l_37, l_38, l_39, l_40, l_41, l_42, l_43, l_44, l_45, l_46, l_47, l_48, l_49, l_50, l_51, l_52, l_53, l_54, l_55, l_56, l_57, l_58, l_59, l_60, l_61, l_62, l_63, l_64, l_72, l_74, l_86, l_97, l_99, l_100, l_122, l_140, l_158, l_160, l_164, l_200, l_240, l_255, l_400, l_406, l_900, l_940, l_980, l_999, l_1120, l_1000, l_100000, t, RF_a, m_seesOf_v t hd, a2]
    · simp (disch := omega) only [Nat.zero_add, LT, BD_some, BD2_some, JN1, JN2, IX_nI, nI_add, pk_mul, pk_sub, leT, leF, ltT, ltF, eqT, eqF, M1_lit, bI_true, bI_false, BZ_n0, BZ_n1, BZ_b, ↓reduceIte, l_0, l_1, l_2, l_3, l_4, l_5, l_6, l_7, l_8, l_9, l_10, l_11, l_12, l_13, l_14, l_15, l_16, l_17, l_18, l_19, l_20, l_21, l_22, l_23, l_24, l_25, l_26, l_27, l_28, l_29, l_30, l_31, l_32, l_33, l_34, l_35, l_36, l_37, l_38, l_39, l_40, l_41, l_42, l_43, l_44, l_45, l_46, l_47, l_48, l_49, l_50, l_51, l_52, l_53, l_54, l_55, l_56, l_57, l_58, l_59, l_60, l_61, l_62, l_63, l_64, l_72, l_74, l_86, l_97, l_99, l_100, l_122, l_140, l_158, l_160, l_164, l_200, l_240, l_255, l_400, l_406, l_900, l_940, l_980, l_999, l_1120, l_1000, l_100000, t, RF_a]
  by_cases h4 : w = 4
  · simp only [if_neg h0, if_neg h1, if_neg h2, if_neg h3, if_pos h4]
    refine LP2_run (fun p => nI (setN (c_dus d) p)) (fun p => nI p) 0 (d 1) (by omega) rfl rfl (fun p _ hp rec => ?_) (fun rec => ?_)
    · have h8 := hd.dust (p := p) (by omega)
      by_cases g0 : 0 < d (32 + p)
      · have g1 : c_dus d p = true := by unfold c_dus; simp [g0]
        have g2 := or_set' (c := c_dus d) (n := p) (by omega) g1
        simp (disch := omega) only [Nat.zero_add, LT, BD_some, BD2_some, JN1, JN2, IX_nI, nI_add, pk_mul, pk_sub, leT, leF, ltT, ltF, eqT, eqF, M1_lit, bI_true, bI_false, BZ_n0, BZ_n1, BZ_b, ↓reduceIte, l_0, l_1, l_2, l_3, l_4, l_5, l_6, l_7, l_8, l_9, l_10, l_11, l_12, l_13, l_14, l_15, l_16, l_17, l_18, l_19, l_20, l_21, l_22, l_23, l_24, l_25, l_26, l_27, l_28, l_29, l_30, l_31, l_32, l_33, l_34, l_35, l_36, l_37, l_38, l_39, l_40, l_41, l_42, l_43, l_44, l_45, l_46, l_47, l_48, l_49, l_50, l_51, l_52, l_53, l_54, l_55, l_56, l_57, l_58, l_59, l_60, l_61, l_62, l_63, l_64, l_72, l_74, l_86, l_97, l_99, l_100, l_122, l_140, l_158, l_160, l_164, l_200, l_240, l_255, l_400, l_406, l_900, l_940, l_980, l_999, l_1120, l_1000, l_100000, t, RF_a, g2]
      · have g1 : c_dus d p = false := by unfold c_dus; simp [g0]
        have g2 : setN (c_dus d) (p + 1) = setN (c_dus d) p := setN_f g1
        simp (disch := omega) only [Nat.zero_add, LT, BD_some, BD2_some, JN1, JN2, IX_nI, nI_add, pk_mul, pk_sub, leT, leF, ltT, ltF, eqT, eqF, M1_lit, bI_true, bI_false, BZ_n0, BZ_n1, BZ_b, ↓reduceIte, l_0, l_1, l_2, l_3, l_4, l_5, l_6, l_7, l_8, l_9, l_10, l_11, l_12, l_13, l_14, l_15, l_16, l_17, l_18, l_19, l_20, l_21, l_22, l_23, l_24, l_25, l_26, l_27, l_28, l_29, l_30, l_31, l_32, l_33, l_34, l_35, l_36, l_37, l_38, l_39, l_40, l_41, l_42, l_43, l_44, l_45, l_46, l_47, l_48, l_49, l_50, l_51, l_52, l_53, l_54, l_55, l_56, l_57, l_58, l_59, l_60, l_61, l_62, l_63, l_64, l_72, l_74, l_86, l_97, l_99, l_100, l_122, l_140, l_158, l_160, l_164, l_200, l_240, l_255, l_400, l_406, l_900, l_940, l_980, l_999, l_1120, l_1000, l_100000, t, RF_a, g2]
    · simp (disch := omega) only [Nat.zero_add, LT, BD_some, BD2_some, JN1, JN2, IX_nI, nI_add, pk_mul, pk_sub, leT, leF, ltT, ltF, eqT, eqF, M1_lit, bI_true, bI_false, BZ_n0, BZ_n1, BZ_b, ↓reduceIte, l_0, l_1, l_2, l_3, l_4, l_5, l_6, l_7, l_8, l_9, l_10, l_11, l_12, l_13, l_14, l_15, l_16, l_17, l_18, l_19, l_20, l_21, l_22, l_23, l_24, l_25, l_26, l_27, l_28, l_29, l_30, l_31, l_32, l_33, l_34, l_35, l_36, l_37, l_38, l_39, l_40, l_41, l_42, l_43, l_44, l_45, l_46, l_47, l_48, l_49, l_50, l_51, l_52, l_53, l_54, l_55, l_56, l_57, l_58, l_59, l_60, l_61, l_62, l_63, l_64, l_72, l_74, l_86, l_97, l_99, l_100, l_122, l_140, l_158, l_160, l_164, l_200, l_240, l_255, l_400, l_406, l_900, l_940, l_980, l_999, l_1120, l_1000, l_100000, t, RF_a]
  by_cases h5 : w = 5
  · simp only [if_neg h0, if_neg h1, if_neg h2, if_neg h3, if_neg h4, if_pos h5]
    refine LP2_run (fun p => nI (sumN (s_hw d true) p)) (fun p => nI p) 0 (d 1) (by omega) rfl rfl (fun p _ hp rec => ?_) (fun rec => ?_)
    · have l1 : m_shownBy m (nI p) (nI 1) = some (nI (setN (hw d true p) (d 25))) := m_shownBy_v t hd true (by omega)
      have l2 : m_bits (nI (setN (hw d true p) (d 25))) = some (nI (s_hw d true p)) := m_bits_set hd.acts
      have ea : nI (sumN (s_hw d true) p + s_hw d true p) = nI (sumN (s_hw d true) (p + 1)) := rfl
      simp (disch := omega) only [Nat.zero_add, LT, BD_some, BD2_some, JN1, JN2, IX_nI, nI_add, pk_mul, pk_sub, leT, leF, ltT, ltF, eqT, eqF, M1_lit, bI_true, bI_false, BZ_n0, BZ_n1, BZ_b, ↓reduceIte, l_0, l_1, l_2, l_3, l_4, l_5, l_6, l_7, l_8, l_9, l_10, l_11, l_12, l_13, l_14, l_15, l_16, l_17, l_18, l_19, l_20, l_21, l_22, l_23, l_24, l_25, l_26, l_27, l_28, l_29, l_30, l_31, l_32, l_33, l_34, l_35, l_36, l_37, l_38, l_39, l_40, l_41, l_42, l_43, l_44, l_45, l_46, l_47, l_48, l_49, l_50, l_51, l_52, l_53, l_54, l_55, l_56, l_57, l_58, l_59, l_60, l_61, l_62, l_63, l_64, l_72, l_74, l_86, l_97, l_99, l_100, l_122, l_140, l_158, l_160, l_164, l_200, l_240, l_255, l_400, l_406, l_900, l_940, l_980, l_999, l_1120, l_1000, l_100000, t, RF_a, l1, l2, ea]
    · simp (disch := omega) only [Nat.zero_add, LT, BD_some, BD2_some, JN1, JN2, IX_nI, nI_add, pk_mul, pk_sub, leT, leF, ltT, ltF, eqT, eqF, M1_lit, bI_true, bI_false, BZ_n0, BZ_n1, BZ_b, ↓reduceIte, l_0, l_1, l_2, l_3, l_4, l_5, l_6, l_7, l_8, l_9, l_10, l_11, l_12, l_13, l_14, l_15, l_16, l_17, l_18, l_19, l_20, l_21, l_22, l_23, l_24, l_25, l_26, l_27, l_28, l_29, l_30, l_31, l_32, l_33, l_34, l_35, l_36, l_37, l_38, l_39, l_40, l_41, l_42, l_43, l_44, l_45, l_46, l_47, l_48, l_49, l_50, l_51, l_52, l_53, l_54, l_55, l_56, l_57, l_58, l_59, l_60, l_61, l_62, l_63, l_64, l_72, l_74, l_86, l_97, l_99, l_100, l_122, l_140, l_158, l_160, l_164, l_200, l_240, l_255, l_400, l_406, l_900, l_940, l_980, l_999, l_1120, l_1000, l_100000, t, RF_a]
  by_cases h6 : w = 6
  · simp only [if_neg h0, if_neg h1, if_neg h2, if_neg h3, if_neg h4, if_neg h5, if_pos h6]
    refine LP2_run (fun p => nI (sumN (s_hw d false) p)) (fun p => nI p) 0 (d 1) (by omega) rfl rfl (fun p _ hp rec => ?_) (fun rec => ?_)
    · have l1 : m_shownBy m (nI p) (nI 0) = some (nI (setN (hw d false p) (d 25))) := m_shownBy_v t hd false (by omega)
      have l2 : m_bits (nI (setN (hw d false p) (d 25))) = some (nI (s_hw d false p)) := m_bits_set hd.acts
      have ea : nI (sumN (s_hw d false) p + s_hw d false p) = nI (sumN (s_hw d false) (p + 1)) := rfl
      simp (disch := omega) only [Nat.zero_add, LT, BD_some, BD2_some, JN1, JN2, IX_nI, nI_add, pk_mul, pk_sub, leT, leF, ltT, ltF, eqT, eqF, M1_lit, bI_true, bI_false, BZ_n0, BZ_n1, BZ_b, ↓reduceIte, l_0, l_1, l_2, l_3, l_4, l_5, l_6, l_7, l_8, l_9, l_10, l_11, l_12, l_13, l_14, l_15, l_16, l_17, l_18, l_19, l_20, l_21, l_22, l_23, l_24, l_25, l_26, l_27, l_28, l_29, l_30, l_31, l_32, l_33, l_34, l_35, l_36, l_37, l_38, l_39, l_40, l_41, l_42, l_43, l_44, l_45, l_46, l_47, l_48, l_49, l_50, l_51, l_52, l_53, l_54, l_55, l_56, l_57, l_58, l_59, l_60, l_61, l_62, l_63, l_64, l_72, l_74, l_86, l_97, l_99, l_100, l_122, l_140, l_158, l_160, l_164, l_200, l_240, l_255, l_400, l_406, l_900, l_940, l_980, l_999, l_1120, l_1000, l_100000, t, RF_a, l1, l2, ea]
    · simp (disch := omega) only [Nat.zero_add, LT, BD_some, BD2_some, JN1, JN2, IX_nI, nI_add, pk_mul, pk_sub, leT, leF, ltT, ltF, eqT, eqF, M1_lit, bI_true, bI_false, BZ_n0, BZ_n1, BZ_b, ↓reduceIte, l_0, l_1, l_2, l_3, l_4, l_5, l_6, l_7, l_8, l_9, l_10, l_11, l_12, l_13, l_14, l_15, l_16, l_17, l_18, l_19, l_20, l_21, l_22, l_23, l_24, l_25, l_26, l_27, l_28, l_29, l_30, l_31, l_32, l_33, l_34, l_35, l_36, l_37, l_38, l_39, l_40, l_41, l_42, l_43, l_44, l_45, l_46, l_47, l_48, l_49, l_50, l_51, l_52, l_53, l_54, l_55, l_56, l_57, l_58, l_59, l_60, l_61, l_62, l_63, l_64, l_72, l_74, l_86, l_97, l_99, l_100, l_122, l_140, l_158, l_160, l_164, l_200, l_240, l_255, l_400, l_406, l_900, l_940, l_980, l_999, l_1120, l_1000, l_100000, t, RF_a]
  by_cases h7 : w = 7
  · simp only [if_neg h0, if_neg h1, if_neg h2, if_neg h3, if_neg h4, if_neg h5, if_neg h6, if_pos h7]
    simp (disch := omega) only [Nat.zero_add, LT, BD_some, BD2_some, JN1, JN2, IX_nI, nI_add, pk_mul, pk_sub, leT, leF, ltT, ltF, eqT, eqF, M1_lit, bI_true, bI_false, BZ_n0, BZ_n1, BZ_b, ↓reduceIte, l_0, l_1, l_2, l_3, l_4, l_5, l_6, l_7, l_8, l_9, l_10, l_11, l_12, l_13, l_14, l_15, l_16, l_17, l_18, l_19, l_20, l_21, l_22, l_23, l_24, l_25, l_26, l_27, l_28, l_29, l_30, l_31, l_32, l_33, l_34, l_35, l_36, l_37, l_38, l_39, l_40, l_41, l_42, l_43, l_44, l_45, l_46, l_47, l_48, l_49, l_50, l_51, l_52, l_53, l_54, l_55, l_56, l_57, l_58, l_59, l_60, l_61, l_62, l_63, l_64, l_72, l_74, l_86, l_97, l_99, l_100, l_122, l_140, l_158, l_160, l_164, l_200, l_240, l_255, l_400, l_406, l_900, l_940, l_980, l_999, l_1120, l_1000, l_100000, m_unseen_v t hd]
  · simp only [if_neg h0, if_neg h1, if_neg h2, if_neg h3, if_neg h4, if_neg h5, if_neg h6, if_neg h7]; simp (disch := omega) only [Nat.zero_add, LT, BD_some, BD2_some, JN1, JN2, IX_nI, nI_add, pk_mul, pk_sub, leT, leF, ltT, ltF, eqT, eqF, M1_lit, bI_true, bI_false, BZ_n0, BZ_n1, BZ_b, ↓reduceIte, l_0, l_1, l_2, l_3, l_4, l_5, l_6, l_7, l_8, l_9, l_10, l_11, l_12, l_13, l_14, l_15, l_16, l_17, l_18, l_19, l_20, l_21, l_22, l_23, l_24, l_25, l_26, l_27, l_28, l_29, l_30, l_31, l_32, l_33, l_34, l_35, l_36, l_37, l_38, l_39, l_40, l_41, l_42, l_43, l_44, l_45, l_46, l_47, l_48, l_49, l_50, l_51, l_52, l_53, l_54, l_55, l_56, l_57, l_58, l_59, l_60, l_61, l_62, l_63, l_64, l_72, l_74, l_86, l_97, l_99, l_100, l_122, l_140, l_158, l_160, l_164, l_200, l_240, l_255, l_400, l_406, l_900, l_940, l_980, l_999, l_1120, l_1000, l_100000]
theorem op_now (h : RR x G m c b e z d ow n U) (w : Int32) : ∃ v, x1_now c b e z w = some v ∧ m_now m w = some (v, sI m 0 0) := by
  have t := h.t14 0
  unfold m_now
  rw [x1_now_v h.hb h.he h.hz h.di]
  simp only [LT]
  generalize sI m 0 0 = s at t ⊢
  rw [m_now_v t h.di]
  by_cases h0 : w = 0
  · simp only [if_pos h0]; exact ⟨_, rfl, rfl⟩
  by_cases h1 : w = 1
  · simp only [if_neg h0, if_pos h1]; exact ⟨_, rfl, rfl⟩
  by_cases h2 : w = 2
  · simp only [if_neg h0, if_neg h1, if_pos h2]; exact ⟨_, rfl, rfl⟩
  by_cases h3 : w = 3
  · simp only [if_neg h0, if_neg h1, if_neg h2, if_pos h3]; exact ⟨_, rfl, rfl⟩
  by_cases h4 : w = 4
  · simp only [if_neg h0, if_neg h1, if_neg h2, if_neg h3, if_pos h4]; exact ⟨_, rfl, rfl⟩
  by_cases h5 : w = 5
  · simp only [if_neg h0, if_neg h1, if_neg h2, if_neg h3, if_neg h4, if_pos h5]; exact ⟨_, rfl, rfl⟩
  by_cases h6 : w = 6
  · simp only [if_neg h0, if_neg h1, if_neg h2, if_neg h3, if_neg h4, if_neg h5, if_pos h6]; exact ⟨_, rfl, rfl⟩
  by_cases h7 : w = 7
  · simp only [if_neg h0, if_neg h1, if_neg h2, if_neg h3, if_neg h4, if_neg h5, if_neg h6, if_pos h7]; exact ⟨_, rfl, rfl⟩
  · simp only [if_neg h0, if_neg h1, if_neg h2, if_neg h3, if_neg h4, if_neg h5, if_neg h6, if_neg h7]; exact ⟨_, rfl, rfl⟩
/-- acts of a person, by a deed, proved -/
def c_gui (d : Nat → Nat) (p t : Int32) (i : Nat) : Bool := decide (nI (d (38 + i)) = p) && (decide (nI (d (50 + i)) = t) && prv d i)
theorem x1_guilty_v (hb : gP c 6 = some b) (he : HS e d) (hz : ZS z d) (hd : DI d) {p t : Int32} (hp : inn p 0 (nI (d 2) - 1) = true) (ht : inn t 0 (nI (d 3) - 1) = true) : x1_guilty c b e z p t = some (bI ((List.range (d 25)).any (c_gui d p t))) := by
  have hA := hd.acts
  have z8 := hz.2.1
  have z2 := hz.2.2.2.2.1
  have z3 := hz.2.2.2.2.2.1
  have step : ∀ i, i < d 25 → c_gui d p t i = false → ∀ rec : Int32 → Option Int32, (if (gI z 8) ≤ nI i then some (0 : Int32) else IX (nI i) 12 (fun i7 => (if (gA z 2 i7) = p then (if (gA z 3 i7) = t then PG (gP c 6) b (BD (x4_isProved z e (nI i)) (fun v10 => (if v10 = 0 then rec (nI i + (1 : Int32)) else some (1 : Int32)))) else rec (nI i + (1 : Int32))) else rec (nI i + (1 : Int32))))) = rec (nI (i + 1)) := by
    intro i hi hc rec
    by_cases a1 : nI (d (38 + i)) = p
    · by_cases a2 : nI (d (50 + i)) = t
      · have a3 : prv d i = false := by unfold c_gui at hc; simpa [a1, a2] using hc
        simp (disch := omega) only [Nat.zero_add, LT, BD_some, BD2_some, JN1, JN2, IX_nI, nI_add, pk_mul, pk_sub, leT, leF, ltT, ltF, eqT, eqF, M1_lit, bI_true, bI_false, BZ_n0, BZ_n1, BZ_b, ↓reduceIte, l_0, l_1, l_2, l_3, l_4, l_5, l_6, l_7, l_8, l_9, l_10, l_11, l_12, l_13, l_14, l_15, l_16, l_17, l_18, l_19, l_20, l_21, l_22, l_23, l_24, l_25, l_26, l_27, l_28, l_29, l_30, l_31, l_32, l_33, l_34, l_35, l_36, l_37, l_38, l_39, l_40, l_41, l_42, l_43, l_44, l_45, l_46, l_47, l_48, l_49, l_50, l_51, l_52, l_53, l_54, l_55, l_56, l_57, l_58, l_59, l_60, l_61, l_62, l_63, l_64, l_72, l_74, l_86, l_97, l_99, l_100, l_122, l_140, l_158, l_160, l_164, l_200, l_240, l_255, l_400, l_406, l_900, l_940, l_980, l_999, l_1120, l_1000, l_100000, z8, z2, z3, a1, a2, PG_of _ hb, x4_isProved_v he hz hd, a3]
      · simp (disch := omega) only [Nat.zero_add, LT, BD_some, BD2_some, JN1, JN2, IX_nI, nI_add, pk_mul, pk_sub, leT, leF, ltT, ltF, eqT, eqF, M1_lit, bI_true, bI_false, BZ_n0, BZ_n1, BZ_b, ↓reduceIte, l_0, l_1, l_2, l_3, l_4, l_5, l_6, l_7, l_8, l_9, l_10, l_11, l_12, l_13, l_14, l_15, l_16, l_17, l_18, l_19, l_20, l_21, l_22, l_23, l_24, l_25, l_26, l_27, l_28, l_29, l_30, l_31, l_32, l_33, l_34, l_35, l_36, l_37, l_38, l_39, l_40, l_41, l_42, l_43, l_44, l_45, l_46, l_47, l_48, l_49, l_50, l_51, l_52, l_53, l_54, l_55, l_56, l_57, l_58, l_59, l_60, l_61, l_62, l_63, l_64, l_72, l_74, l_86, l_97, l_99, l_100, l_122, l_140, l_158, l_160, l_164, l_200, l_240, l_255, l_400, l_406, l_900, l_940, l_980, l_999, l_1120, l_1000, l_100000, z8, z2, z3, a1, a2]
    · simp (disch := omega) only [Nat.zero_add, LT, BD_some, BD2_some, JN1, JN2, IX_nI, nI_add, pk_mul, pk_sub, leT, leF, ltT, ltF, eqT, eqF, M1_lit, bI_true, bI_false, BZ_n0, BZ_n1, BZ_b, ↓reduceIte, l_0, l_1, l_2, l_3, l_4, l_5, l_6, l_7, l_8, l_9, l_10, l_11, l_12, l_13, l_14, l_15, l_16, l_17, l_18, l_19, l_20, l_21, l_22, l_23, l_24, l_25, l_26, l_27, l_28, l_29, l_30, l_31, l_32, l_33, l_34, l_35, l_36, l_37, l_38, l_39, l_40, l_41, l_42, l_43, l_44, l_45, l_46, l_47, l_48, l_49, l_50, l_51, l_52, l_53, l_54, l_55, l_56, l_57, l_58, l_59, l_60, l_61, l_62, l_63, l_64, l_72, l_74, l_86, l_97, l_99, l_100, l_122, l_140, l_158, l_160, l_164, l_200, l_240, l_255, l_400, l_406, l_900, l_940, l_980, l_999, l_1120, l_1000, l_100000, z8, z2, a1]
  unfold x1_guilty
  rw [x1_isPerson_v hb he, x1_isDeed_v hb he, hp, ht]
  simp only [BD_some]
  rw [if_neg (by decide), if_neg (by decide)]
  rcases least_cases (c_gui d p t) (d 25) with ⟨k, hk, k1, k2⟩ | hn
  · have ea : (List.range (d 25)).any (c_gui d p t) = true := List.any_eq_true.mpr ⟨k, List.mem_range.mpr hk, k1⟩
    rw [ea]
    refine LP1_run (fun i => nI i) 0 k (by omega) rfl (fun i _ hi rec => step i (by omega) (k2 i (by omega)) rec) (fun rec => ?_)
    unfold c_gui at k1
    simp only [Bool.and_eq_true, decide_eq_true_eq] at k1
    obtain ⟨a1, a2, a3⟩ := k1
    simp (disch := omega) only [Nat.zero_add, LT, BD_some, BD2_some, JN1, JN2, IX_nI, nI_add, pk_mul, pk_sub, leT, leF, ltT, ltF, eqT, eqF, M1_lit, bI_true, bI_false, BZ_n0, BZ_n1, BZ_b, ↓reduceIte, l_0, l_1, l_2, l_3, l_4, l_5, l_6, l_7, l_8, l_9, l_10, l_11, l_12, l_13, l_14, l_15, l_16, l_17, l_18, l_19, l_20, l_21, l_22, l_23, l_24, l_25, l_26, l_27, l_28, l_29, l_30, l_31, l_32, l_33, l_34, l_35, l_36, l_37, l_38, l_39, l_40, l_41, l_42, l_43, l_44, l_45, l_46, l_47, l_48, l_49, l_50, l_51, l_52, l_53, l_54, l_55, l_56, l_57, l_58, l_59, l_60, l_61, l_62, l_63, l_64, l_72, l_74, l_86, l_97, l_99, l_100, l_122, l_140, l_158, l_160, l_164, l_200, l_240, l_255, l_400, l_406, l_900, l_940, l_980, l_999, l_1120, l_1000, l_100000, z8, z2, z3, a1, a2, PG_of _ hb, x4_isProved_v he hz hd, a3]
  · have ea : (List.range (d 25)).any (c_gui d p t) = false := by
      rw [List.any_eq_false]
      intro i hi; rw [hn i (List.mem_range.mp hi)]; simp
    rw [ea]
    refine LP1_run (fun i => nI i) 0 (d 25) (by omega) rfl (fun i _ hi rec => step i (by omega) (hn i (by omega)) rec) (fun rec => ?_)
    simp (disch := omega) only [Nat.zero_add, LT, BD_some, BD2_some, JN1, JN2, IX_nI, nI_add, pk_mul, pk_sub, leT, leF, ltT, ltF, eqT, eqF, M1_lit, bI_true, bI_false, BZ_n0, BZ_n1, BZ_b, ↓reduceIte, l_0, l_1, l_2, l_3, l_4, l_5, l_6, l_7, l_8, l_9, l_10, l_11, l_12, l_13, l_14, l_15, l_16, l_17, l_18, l_19, l_20, l_21, l_22, l_23, l_24, l_25, l_26, l_27, l_28, l_29, l_30, l_31, l_32, l_33, l_34, l_35, l_36, l_37, l_38, l_39, l_40, l_41, l_42, l_43, l_44, l_45, l_46, l_47, l_48, l_49, l_50, l_51, l_52, l_53, l_54, l_55, l_56, l_57, l_58, l_59, l_60, l_61, l_62, l_63, l_64, l_72, l_74, l_86, l_97, l_99, l_100, l_122, l_140, l_158, l_160, l_164, l_200, l_240, l_255, l_400, l_406, l_900, l_940, l_980, l_999, l_1120, l_1000, l_100000, z8]
theorem m_guilty_v {s : Rec} (h : gA s 14 = RF d) (hd : DI d) (p t : Int32) : LP1 (fun (rec7 : Int32 → Option (Int32 × Rec)) (v6 : Int32) => (if (gA s 14 25) ≤ v6 then some ((0 : Int32), s) else IX ((38 : Int32) + v6) 406 (fun i8 => (if (gA s 14 i8) = p then IX ((50 : Int32) + v6) 406 (fun i9 => (if (gA s 14 i9) = t then BD (m_isProved s v6) (fun v11 => (if v11 = 0 then rec7 (v6 + (1 : Int32)) else some ((1 : Int32), s))) else rec7 (v6 + (1 : Int32)))) else rec7 (v6 + (1 : Int32)))))) FU (0 : Int32) = some (bI ((List.range (d 25)).any (c_gui d p t)), s) := by
  have hA := hd.acts
  have step : ∀ i, i < d 25 → c_gui d p t i = false → ∀ rec : Int32 → Option (Int32 × Rec), (if (gA s 14 25) ≤ nI i then some ((0 : Int32), s) else IX ((38 : Int32) + nI i) 406 (fun i8 => (if (gA s 14 i8) = p then IX ((50 : Int32) + nI i) 406 (fun i9 => (if (gA s 14 i9) = t then BD (m_isProved s (nI i)) (fun v11 => (if v11 = 0 then rec (nI i + (1 : Int32)) else some ((1 : Int32), s))) else rec (nI i + (1 : Int32)))) else rec (nI i + (1 : Int32))))) = rec (nI (i + 1)) := by
    intro i hi hc rec
    by_cases a1 : nI (d (38 + i)) = p
    · by_cases a2 : nI (d (50 + i)) = t
      · have a3 : prv d i = false := by unfold c_gui at hc; simpa [a1, a2] using hc
        simp (disch := omega) only [Nat.zero_add, LT, BD_some, BD2_some, JN1, JN2, IX_nI, nI_add, pk_mul, pk_sub, leT, leF, ltT, ltF, eqT, eqF, M1_lit, bI_true, bI_false, BZ_n0, BZ_n1, BZ_b, ↓reduceIte, l_0, l_1, l_2, l_3, l_4, l_5, l_6, l_7, l_8, l_9, l_10, l_11, l_12, l_13, l_14, l_15, l_16, l_17, l_18, l_19, l_20, l_21, l_22, l_23, l_24, l_25, l_26, l_27, l_28, l_29, l_30, l_31, l_32, l_33, l_34, l_35, l_36, l_37, l_38, l_39, l_40, l_41, l_42, l_43, l_44, l_45, l_46, l_47, l_48, l_49, l_50, l_51, l_52, l_53, l_54, l_55, l_56, l_57, l_58, l_59, l_60, l_61, l_62, l_63, l_64, l_72, l_74, l_86, l_97, l_99, l_100, l_122, l_140, l_158, l_160, l_164, l_200, l_240, l_255, l_400, l_406, l_900, l_940, l_980, l_999, l_1120, l_1000, l_100000, h, RF_a, a1, a2, m_isProved_v h hd, a3]
      · simp (disch := omega) only [Nat.zero_add, LT, BD_some, BD2_some, JN1, JN2, IX_nI, nI_add, pk_mul, pk_sub, leT, leF, ltT, ltF, eqT, eqF, M1_lit, bI_true, bI_false, BZ_n0, BZ_n1, BZ_b, ↓reduceIte, l_0, l_1, l_2, l_3, l_4, l_5, l_6, l_7, l_8, l_9, l_10, l_11, l_12, l_13, l_14, l_15, l_16, l_17, l_18, l_19, l_20, l_21, l_22, l_23, l_24, l_25, l_26, l_27, l_28, l_29, l_30, l_31, l_32, l_33, l_34, l_35, l_36, l_37, l_38, l_39, l_40, l_41, l_42, l_43, l_44, l_45, l_46, l_47, l_48, l_49, l_50, l_51, l_52, l_53, l_54, l_55, l_56, l_57, l_58, l_59, l_60, l_61, l_62, l_63, l_64, l_72, l_74, l_86, l_97, l_99, l_100, l_122, l_140, l_158, l_160, l_164, l_200, l_240, l_255, l_400, l_406, l_900, l_940, l_980, l_999, l_1120, l_1000, l_100000, h, RF_a, a1, a2]
    · simp (disch := omega) only [Nat.zero_add, LT, BD_some, BD2_some, JN1, JN2, IX_nI, nI_add, pk_mul, pk_sub, leT, leF, ltT, ltF, eqT, eqF, M1_lit, bI_true, bI_false, BZ_n0, BZ_n1, BZ_b, ↓reduceIte, l_0, l_1, l_2, l_3, l_4, l_5, l_6, l_7, l_8, l_9, l_10, l_11, l_12, l_13, l_14, l_15, l_16, l_17, l_18, l_19, l_20, l_21, l_22, l_23, l_24, l_25, l_26, l_27, l_28, l_29, l_30, l_31, l_32, l_33, l_34, l_35, l_36, l_37, l_38, l_39, l_40, l_41, l_42, l_43, l_44, l_45, l_46, l_47, l_48, l_49, l_50, l_51, l_52, l_53, l_54, l_55, l_56, l_57, l_58, l_59, l_60, l_61, l_62, l_63, l_64, l_72, l_74, l_86, l_97, l_99, l_100, l_122, l_140, l_158, l_160, l_164, l_200, l_240, l_255, l_400, l_406, l_900, l_940, l_980, l_999, l_1120, l_1000, l_100000, h, RF_a, a1]
  rcases least_cases (c_gui d p t) (d 25) with ⟨k, hk, k1, k2⟩ | hn
  · have ea : (List.range (d 25)).any (c_gui d p t) = true := List.any_eq_true.mpr ⟨k, List.mem_range.mpr hk, k1⟩
    rw [ea]
    refine LP1_run (fun i => nI i) 0 k (by omega) rfl (fun i _ hi rec => step i (by omega) (k2 i (by omega)) rec) (fun rec => ?_)
    unfold c_gui at k1
    simp only [Bool.and_eq_true, decide_eq_true_eq] at k1
    obtain ⟨a1, a2, a3⟩ := k1
    simp (disch := omega) only [Nat.zero_add, LT, BD_some, BD2_some, JN1, JN2, IX_nI, nI_add, pk_mul, pk_sub, leT, leF, ltT, ltF, eqT, eqF, M1_lit, bI_true, bI_false, BZ_n0, BZ_n1, BZ_b, ↓reduceIte, l_0, l_1, l_2, l_3, l_4, l_5, l_6, l_7, l_8, l_9, l_10, l_11, l_12, l_13, l_14, l_15, l_16, l_17, l_18, l_19, l_20, l_21, l_22, l_23, l_24, l_25, l_26, l_27, l_28, l_29, l_30, l_31, l_32, l_33, l_34, l_35, l_36, l_37, l_38, l_39, l_40, l_41, l_42, l_43, l_44, l_45, l_46, l_47, l_48, l_49, l_50, l_51, l_52, l_53, l_54, l_55, l_56, l_57, l_58, l_59, l_60, l_61, l_62, l_63, l_64, l_72, l_74, l_86, l_97, l_99, l_100, l_122, l_140, l_158, l_160, l_164, l_200, l_240, l_255, l_400, l_406, l_900, l_940, l_980, l_999, l_1120, l_1000, l_100000, h, RF_a, a1, a2, m_isProved_v h hd, a3]
  · have ea : (List.range (d 25)).any (c_gui d p t) = false := by
      rw [List.any_eq_false]
      intro i hi; rw [hn i (List.mem_range.mp hi)]; simp
    rw [ea]
    refine LP1_run (fun i => nI i) 0 (d 25) (by omega) rfl (fun i _ hi rec => step i (by omega) (hn i (by omega)) rec) (fun rec => ?_)
    simp (disch := omega) only [Nat.zero_add, LT, BD_some, BD2_some, JN1, JN2, IX_nI, nI_add, pk_mul, pk_sub, leT, leF, ltT, ltF, eqT, eqF, M1_lit, bI_true, bI_false, BZ_n0, BZ_n1, BZ_b, ↓reduceIte, l_0, l_1, l_2, l_3, l_4, l_5, l_6, l_7, l_8, l_9, l_10, l_11, l_12, l_13, l_14, l_15, l_16, l_17, l_18, l_19, l_20, l_21, l_22, l_23, l_24, l_25, l_26, l_27, l_28, l_29, l_30, l_31, l_32, l_33, l_34, l_35, l_36, l_37, l_38, l_39, l_40, l_41, l_42, l_43, l_44, l_45, l_46, l_47, l_48, l_49, l_50, l_51, l_52, l_53, l_54, l_55, l_56, l_57, l_58, l_59, l_60, l_61, l_62, l_63, l_64, l_72, l_74, l_86, l_97, l_99, l_100, l_122, l_140, l_158, l_160, l_164, l_200, l_240, l_255, l_400, l_406, l_900, l_940, l_980, l_999, l_1120, l_1000, l_100000, h, RF_a]
theorem op_guilty (h : RR x G m c b e z d ow n U) (p t : Int32) : ∃ v, x1_guilty c b e z p t = some v ∧ m_guilty m p t = some (v, sI m 0 0) := by
  have hQ := h.di.Q
  have hD := h.di.D
  have tt := h.t14 0
  unfold m_guilty
  simp only [LT]
  generalize sI m 0 0 = s at tt ⊢
  rw [m_isPerson_v tt, m_isDeed_v tt]
  rcases inn_count p (d 2) (by omega) with ⟨hp, -⟩ | hp
  · rcases inn_count t (d 3) (by omega) with ⟨ht, -⟩ | ht
    · refine ⟨_, x1_guilty_v h.hb h.he h.hz h.di hp ht, ?_⟩
      rw [hp, ht]
      simp only [BD_some]
      rw [if_neg (by decide), if_neg (by decide)]
      exact m_guilty_v tt h.di p t
    · refine ⟨M1, ?_, ?_⟩
      · unfold x1_guilty; rw [x1_isPerson_v h.hb h.he, x1_isDeed_v h.hb h.he, hp, ht]; rfl
      · rw [hp, ht]; rfl
  · refine ⟨M1, ?_, ?_⟩
    · unfold x1_guilty; rw [x1_isPerson_v h.hb h.he, hp]; rfl
    · rw [hp]; rfl
/-- who has most leaves: 0 none, p + 1 the plant p -/
def eld (d : Nat → Nat) : Nat → Nat
  | 0 => 0
  | p + 1 => if (if eld d p = 0 then 0 else s_hw d true (eld d p - 1)) < s_hw d true p then p + 1 else eld d p
theorem eld_le (d : Nat → Nat) : ∀ p, eld d p ≤ p := by
  intro p
  induction p with
  | zero => exact Nat.le_refl _
  | succ p ih =>
    have hs : eld d (p + 1) = if (if eld d p = 0 then 0 else s_hw d true (eld d p - 1)) < s_hw d true p then p + 1 else eld d p := rfl
    rw [hs]
    generalize (if eld d p = 0 then 0 else s_hw d true (eld d p - 1)) = q
    split <;> omega
theorem op_elder (h : RR x G m c b e z d ow n U) : ∃ v, x1_elder c b e z = some v ∧ m_elder m = some (v, sI m 0 0) := by
  have hd := h.di
  have hN := hd.N
  have t := h.t14 0
  have e8 := h.he.2.1
  refine ⟨lf (eld d (d 1)), ?_, ?_⟩
  · unfold x1_elder
    refine LP2_run (fun p => lf (eld d p)) (fun p => nI p) 0 (d 1) (by omega) rfl rfl (fun p _ hp rec => ?_) (fun rec => ?_)
    · have l1 : x4_leaves z (nI p) (nI 1) = some (nI (s_hw d true p)) := x4_leaves_v h.hz hd true (by omega)
      have h1 := s_hw_le hd true p
      have h2 := eld_le d p
      have hs : eld d (p + 1) = if (if eld d p = 0 then 0 else s_hw d true (eld d p - 1)) < s_hw d true p then p + 1 else eld d p := rfl
      by_cases a : eld d p = 0
      · rw [a] at hs
        by_cases g : 0 < s_hw d true p
        · have e1 : eld d (p + 1) = p + 1 := by rw [hs]; simp [g]
          simp (disch := omega) only [Nat.zero_add, LT, BD_some, BD2_some, JN1, JN2, IX_nI, nI_add, pk_mul, pk_sub, leT, leF, ltT, ltF, eqT, eqF, M1_lit, bI_true, bI_false, BZ_n0, BZ_n1, BZ_b, ↓reduceIte, l_0, l_1, l_2, l_3, l_4, l_5, l_6, l_7, l_8, l_9, l_10, l_11, l_12, l_13, l_14, l_15, l_16, l_17, l_18, l_19, l_20, l_21, l_22, l_23, l_24, l_25, l_26, l_27, l_28, l_29, l_30, l_31, l_32, l_33, l_34, l_35, l_36, l_37, l_38, l_39, l_40, l_41, l_42, l_43, l_44, l_45, l_46, l_47, l_48, l_49, l_50, l_51, l_52, l_53, l_54, l_55, l_56, l_57, l_58, l_59, l_60, l_61, l_62, l_63, l_64, l_72, l_74, l_86, l_97, l_99, l_100, l_122, l_140, l_158, l_160, l_164, l_200, l_240, l_255, l_400, l_406, l_900, l_940, l_980, l_999, l_1120, l_1000, l_100000, PG_of _ h.hb, e8, l1, a, lf_0, M1_M1, e1, lf_s]
        · have e1 : eld d (p + 1) = 0 := by rw [hs]; simp; omega
          simp (disch := omega) only [Nat.zero_add, LT, BD_some, BD2_some, JN1, JN2, IX_nI, nI_add, pk_mul, pk_sub, leT, leF, ltT, ltF, eqT, eqF, M1_lit, bI_true, bI_false, BZ_n0, BZ_n1, BZ_b, ↓reduceIte, l_0, l_1, l_2, l_3, l_4, l_5, l_6, l_7, l_8, l_9, l_10, l_11, l_12, l_13, l_14, l_15, l_16, l_17, l_18, l_19, l_20, l_21, l_22, l_23, l_24, l_25, l_26, l_27, l_28, l_29, l_30, l_31, l_32, l_33, l_34, l_35, l_36, l_37, l_38, l_39, l_40, l_41, l_42, l_43, l_44, l_45, l_46, l_47, l_48, l_49, l_50, l_51, l_52, l_53, l_54, l_55, l_56, l_57, l_58, l_59, l_60, l_61, l_62, l_63, l_64, l_72, l_74, l_86, l_97, l_99, l_100, l_122, l_140, l_158, l_160, l_164, l_200, l_240, l_255, l_400, l_406, l_900, l_940, l_980, l_999, l_1120, l_1000, l_100000, PG_of _ h.hb, e8, l1, a, lf_0, M1_M1, e1]
      · have l2 : x4_leaves z (nI (eld d p - 1)) (nI 1) = some (nI (s_hw d true (eld d p - 1))) := x4_leaves_v h.hz hd true (by omega)
        have h3 := s_hw_le hd true (eld d p - 1)
        rw [if_neg a] at hs
        have ef : lf (eld d p) = nI (eld d p - 1) := lf_p (by omega)
        by_cases g : s_hw d true (eld d p - 1) < s_hw d true p
        · have e1 : eld d (p + 1) = p + 1 := by rw [hs, if_pos g]
          simp (disch := omega) only [Nat.zero_add, LT, BD_some, BD2_some, JN1, JN2, IX_nI, nI_add, pk_mul, pk_sub, leT, leF, ltT, ltF, eqT, eqF, M1_lit, bI_true, bI_false, BZ_n0, BZ_n1, BZ_b, ↓reduceIte, l_0, l_1, l_2, l_3, l_4, l_5, l_6, l_7, l_8, l_9, l_10, l_11, l_12, l_13, l_14, l_15, l_16, l_17, l_18, l_19, l_20, l_21, l_22, l_23, l_24, l_25, l_26, l_27, l_28, l_29, l_30, l_31, l_32, l_33, l_34, l_35, l_36, l_37, l_38, l_39, l_40, l_41, l_42, l_43, l_44, l_45, l_46, l_47, l_48, l_49, l_50, l_51, l_52, l_53, l_54, l_55, l_56, l_57, l_58, l_59, l_60, l_61, l_62, l_63, l_64, l_72, l_74, l_86, l_97, l_99, l_100, l_122, l_140, l_158, l_160, l_164, l_200, l_240, l_255, l_400, l_406, l_900, l_940, l_980, l_999, l_1120, l_1000, l_100000, PG_of _ h.hb, e8, l1, ef, nI_M1, l2, e1, lf_s]
        · have e1 : eld d (p + 1) = eld d p := by rw [hs, if_neg g]
          simp (disch := omega) only [Nat.zero_add, LT, BD_some, BD2_some, JN1, JN2, IX_nI, nI_add, pk_mul, pk_sub, leT, leF, ltT, ltF, eqT, eqF, M1_lit, bI_true, bI_false, BZ_n0, BZ_n1, BZ_b, ↓reduceIte, l_0, l_1, l_2, l_3, l_4, l_5, l_6, l_7, l_8, l_9, l_10, l_11, l_12, l_13, l_14, l_15, l_16, l_17, l_18, l_19, l_20, l_21, l_22, l_23, l_24, l_25, l_26, l_27, l_28, l_29, l_30, l_31, l_32, l_33, l_34, l_35, l_36, l_37, l_38, l_39, l_40, l_41, l_42, l_43, l_44, l_45, l_46, l_47, l_48, l_49, l_50, l_51, l_52, l_53, l_54, l_55, l_56, l_57, l_58, l_59, l_60, l_61, l_62, l_63, l_64, l_72, l_74, l_86, l_97, l_99, l_100, l_122, l_140, l_158, l_160, l_164, l_200, l_240, l_255, l_400, l_406, l_900, l_940, l_980, l_999, l_1120, l_1000, l_100000, PG_of _ h.hb, e8, l1, ef, nI_M1, l2, e1]
    · simp (disch := omega) only [Nat.zero_add, LT, BD_some, BD2_some, JN1, JN2, IX_nI, nI_add, pk_mul, pk_sub, leT, leF, ltT, ltF, eqT, eqF, M1_lit, bI_true, bI_false, BZ_n0, BZ_n1, BZ_b, ↓reduceIte, l_0, l_1, l_2, l_3, l_4, l_5, l_6, l_7, l_8, l_9, l_10, l_11, l_12, l_13, l_14, l_15, l_16, l_17, l_18, l_19, l_20, l_21, l_22, l_23, l_24, l_25, l_26, l_27, l_28, l_29, l_30, l_31, l_32, l_33, l_34, l_35, l_36, l_37, l_38, l_39, l_40, l_41, l_42, l_43, l_44, l_45, l_46, l_47, l_48, l_49, l_50, l_51, l_52, l_53, l_54, l_55, l_56, l_57, l_58, l_59, l_60, l_61, l_62, l_63, l_64, l_72, l_74, l_86, l_97, l_99, l_100, l_122, l_140, l_158, l_160, l_164, l_200, l_240, l_255, l_400, l_406, l_900, l_940, l_980, l_999, l_1120, l_1000, l_100000, PG_of _ h.hb, e8]
  · unfold m_elder
    simp only [LT]
    generalize sI m 0 0 = s at t ⊢
    refine LP3_run (fun p => lf (eld d p)) (fun p => nI (if eld d p = 0 then 0 else s_hw d true (eld d p - 1))) (fun p => nI p) 0 (d 1) (by omega) rfl rfl rfl (fun p _ hp rec => ?_) (fun rec => ?_)
    · have l1 : m_shownBy s (nI p) (nI 1) = some (nI (setN (hw d true p) (d 25))) := m_shownBy_v t hd true (by omega)
      have l2 : m_bits (nI (setN (hw d true p) (d 25))) = some (nI (s_hw d true p)) := m_bits_set hd.acts
      have h1 := s_hw_le hd true p
      have h2 : (if eld d p = 0 then 0 else s_hw d true (eld d p - 1)) ≤ 12 := by
        split
        · omega
        · exact s_hw_le hd true _
      have hs : eld d (p + 1) = if (if eld d p = 0 then 0 else s_hw d true (eld d p - 1)) < s_hw d true p then p + 1 else eld d p := rfl
      generalize hq : (if eld d p = 0 then 0 else s_hw d true (eld d p - 1)) = q at hs h2
      by_cases g : q < s_hw d true p
      · have e1 : eld d (p + 1) = p + 1 := by rw [hs, if_pos g]
        have e2 : (if eld d (p + 1) = 0 then 0 else s_hw d true (eld d (p + 1) - 1)) = s_hw d true p := by rw [e1, if_neg (by omega)]; rfl
        rw [e2, e1]
        simp (disch := omega) only [Nat.zero_add, LT, BD_some, BD2_some, JN1, JN2, IX_nI, nI_add, pk_mul, pk_sub, leT, leF, ltT, ltF, eqT, eqF, M1_lit, bI_true, bI_false, BZ_n0, BZ_n1, BZ_b, ↓reduceIte, l_0, l_1, l_2, l_3, l_4, l_5, l_6, l_7, l_8, l_9, l_10, l_11, l_12, l_13, l_14, l_15, l_16, l_17, l_18, l_19, l_20, l_21, l_22, l_23, l_24, l_25, l_26, l_27, l_28, l_29, l_30, l_31, l_32, l_33, l_34, l_35, l_36, l_37, l_38, l_39, l_40, l_41, l_42, l_43, l_44, l_45, l_46, l_47, l_48, l_49, l_50, l_51, l_52, l_53, l_54, l_55, l_56, l_57, l_58, l_59, l_60, l_61, l_62, l_63, l_64, l_72, l_74, l_86, l_97, l_99, l_100, l_122, l_140, l_158, l_160, l_164, l_200, l_240, l_255, l_400, l_406, l_900, l_940, l_980, l_999, l_1120, l_1000, l_100000, t, RF_a, l1, l2, hq, lf_s]
      · have e1 : eld d (p + 1) = eld d p := by rw [hs, if_neg g]
        have e2 : (if eld d (p + 1) = 0 then 0 else s_hw d true (eld d (p + 1) - 1)) = q := by rw [e1, hq]
        rw [e2, e1]
        simp (disch := omega) only [Nat.zero_add, LT, BD_some, BD2_some, JN1, JN2, IX_nI, nI_add, pk_mul, pk_sub, leT, leF, ltT, ltF, eqT, eqF, M1_lit, bI_true, bI_false, BZ_n0, BZ_n1, BZ_b, ↓reduceIte, l_0, l_1, l_2, l_3, l_4, l_5, l_6, l_7, l_8, l_9, l_10, l_11, l_12, l_13, l_14, l_15, l_16, l_17, l_18, l_19, l_20, l_21, l_22, l_23, l_24, l_25, l_26, l_27, l_28, l_29, l_30, l_31, l_32, l_33, l_34, l_35, l_36, l_37, l_38, l_39, l_40, l_41, l_42, l_43, l_44, l_45, l_46, l_47, l_48, l_49, l_50, l_51, l_52, l_53, l_54, l_55, l_56, l_57, l_58, l_59, l_60, l_61, l_62, l_63, l_64, l_72, l_74, l_86, l_97, l_99, l_100, l_122, l_140, l_158, l_160, l_164, l_200, l_240, l_255, l_400, l_406, l_900, l_940, l_980, l_999, l_1120, l_1000, l_100000, t, RF_a, l1, l2, hq]
    · simp (disch := omega) only [Nat.zero_add, LT, BD_some, BD2_some, JN1, JN2, IX_nI, nI_add, pk_mul, pk_sub, leT, leF, ltT, ltF, eqT, eqF, M1_lit, bI_true, bI_false, BZ_n0, BZ_n1, BZ_b, ↓reduceIte, l_0, l_1, l_2, l_3, l_4, l_5, l_6, l_7, l_8, l_9, l_10, l_11, l_12, l_13, l_14, l_15, l_16, l_17, l_18, l_19, l_20, l_21, l_22, l_23, l_24, l_25, l_26, l_27, l_28, l_29, l_30, l_31, l_32, l_33, l_34, l_35, l_36, l_37, l_38, l_39, l_40, l_41, l_42, l_43, l_44, l_45, l_46, l_47, l_48, l_49, l_50, l_51, l_52, l_53, l_54, l_55, l_56, l_57, l_58, l_59, l_60, l_61, l_62, l_63, l_64, l_72, l_74, l_86, l_97, l_99, l_100, l_122, l_140, l_158, l_160, l_164, l_200, l_240, l_255, l_400, l_406, l_900, l_940, l_980, l_999, l_1120, l_1000, l_100000, t, RF_a]
/-- what is hidden for k days -/
def hdc (d : Nat → Nat) (k l p : Nat) : Bool := (sees d p 0).testBit l && decide (nxt d p ≤ d 24 + k)
def hdN (d : Nat → Nat) (k : Nat) : Nat → Nat
  | 0 => allp d
  | p + 1 => if nxt d p ≤ d 24 + k then dif (hdN d k p) (sees d p 0) else hdN d k p
theorem hdN_lt {d : Nat → Nat} (h : DI d) (k : Nat) : ∀ p, hdN d k p < 32 := by
  intro p
  induction p with
  | zero => exact allp_lt h
  | succ p ih =>
    show (if _ then _ else _) < 32
    split
    · exact Nat.lt_of_le_of_lt (dif_le _ _) ih
    · exact ih
theorem hdN_bit {d : Nat → Nat} (h : DI d) (k l : Nat) : ∀ p, (hdN d k p).testBit l = (decide (l < d 0) && !(List.range p).any (hdc d k l)) := by
  intro p
  induction p with
  | zero => show (2 ^ d 0 - 1).testBit l = _; rw [Nat.testBit_two_pow_sub_one]; simp
  | succ p ih =>
    have h1 := hdN_lt h k p
    show (if _ then _ else _ : Nat).testBit l = _
    rw [List.range_succ, List.any_append]
    by_cases a : nxt d p ≤ d 24 + k
    · rw [if_pos a, dif_bit (by omega), ih]
      have : hdc d k l p = (sees d p 0).testBit l := by unfold hdc; simp [a]
      simp [this, Bool.and_assoc]
    · rw [if_neg a, ih]
      have : hdc d k l p = false := by unfold hdc; simp [a]
      simp [this]
theorem hd_set {d : Nat → Nat} (h : DI d) (k : Nat) : hdN d k (d 1) = setN (fun l => !(List.range (d 1)).any (hdc d k l)) (d 0) := Nat.eq_of_testBit_eq (fun l => by rw [hdN_bit h, setN_bit])
theorem x1_isHidden_v (hb : gP c 6 = some b) (he : HS e d) (hz : ZS z d) (g : GD d) {l k : Nat} (hl : l < 5) (hk : k ≤ 60) : x1_isHidden c b e z (nI l) (nI k) = some (bI (!(List.range (d 1)).any (hdc d k l))) := by
  have hd := g.1
  have hN := hd.N
  have hD := hd.day
  have e8 := he.2.1
  have z7 := hz.1
  have step : ∀ p, p < d 1 → hdc d k l p = false → ∀ rec : Int32 → Option Int32, PG (gP c 6) b ((if (gI e 8) ≤ nI p then some (1 : Int32) else PG (gP c 6) b (BD (x4_sees z e (nI p)) (fun v6 => BD (x1_has v6 (nI l)) (fun v8 => (if v8 = 0 then rec (nI p + (1 : Int32)) else PG (gP c 6) b (BD (x4_next z e (nI p)) (fun v11 => (if ((gI z 7) + nI k) < v11 then rec (nI p + (1 : Int32)) else some (0 : Int32)))))))))) = rec (nI (p + 1)) := by
    intro p hp hc rec
    have h6 := sees_lt hd (p := p) (k := 0) (by omega)
    have h7 := nxt_le hd (p := p) (by omega) (by have := g.2.lateb hd.acts (p := p) (by omega); have := hd.acts; omega)
    cases a : (sees d p 0).testBit l
    · simp (disch := omega) only [Nat.zero_add, LT, BD_some, BD2_some, JN1, JN2, IX_nI, nI_add, pk_mul, pk_sub, leT, leF, ltT, ltF, eqT, eqF, M1_lit, bI_true, bI_false, BZ_n0, BZ_n1, BZ_b, ↓reduceIte, l_0, l_1, l_2, l_3, l_4, l_5, l_6, l_7, l_8, l_9, l_10, l_11, l_12, l_13, l_14, l_15, l_16, l_17, l_18, l_19, l_20, l_21, l_22, l_23, l_24, l_25, l_26, l_27, l_28, l_29, l_30, l_31, l_32, l_33, l_34, l_35, l_36, l_37, l_38, l_39, l_40, l_41, l_42, l_43, l_44, l_45, l_46, l_47, l_48, l_49, l_50, l_51, l_52, l_53, l_54, l_55, l_56, l_57, l_58, l_59, l_60, l_61, l_62, l_63, l_64, l_72, l_74, l_86, l_97, l_99, l_100, l_122, l_140, l_158, l_160, l_164, l_200, l_240, l_255, l_400, l_406, l_900, l_940, l_980, l_999, l_1120, l_1000, l_100000, PG_of _ hb, e8, x4_sees_v he hz hd, x1_has_v, hs_nI, a]
    · have a2 : ¬ nxt d p ≤ d 24 + k := by unfold hdc at hc; simpa [a] using hc
      simp (disch := omega) only [Nat.zero_add, LT, BD_some, BD2_some, JN1, JN2, IX_nI, nI_add, pk_mul, pk_sub, leT, leF, ltT, ltF, eqT, eqF, M1_lit, bI_true, bI_false, BZ_n0, BZ_n1, BZ_b, ↓reduceIte, l_0, l_1, l_2, l_3, l_4, l_5, l_6, l_7, l_8, l_9, l_10, l_11, l_12, l_13, l_14, l_15, l_16, l_17, l_18, l_19, l_20, l_21, l_22, l_23, l_24, l_25, l_26, l_27, l_28, l_29, l_30, l_31, l_32, l_33, l_34, l_35, l_36, l_37, l_38, l_39, l_40, l_41, l_42, l_43, l_44, l_45, l_46, l_47, l_48, l_49, l_50, l_51, l_52, l_53, l_54, l_55, l_56, l_57, l_58, l_59, l_60, l_61, l_62, l_63, l_64, l_72, l_74, l_86, l_97, l_99, l_100, l_122, l_140, l_158, l_160, l_164, l_200, l_240, l_255, l_400, l_406, l_900, l_940, l_980, l_999, l_1120, l_1000, l_100000, PG_of _ hb, e8, x4_sees_v he hz hd, x1_has_v, hs_nI, a, x4_next_v he hz hd (show p < 6 by omega) (g.2.2.2.2 p (by omega)), z7]
  unfold x1_isHidden
  rcases least_cases (hdc d k l) (d 1) with ⟨q, hq, k1, k2⟩ | hn
  · have ea : (List.range (d 1)).any (hdc d k l) = true := List.any_eq_true.mpr ⟨q, List.mem_range.mpr hq, k1⟩
    rw [ea]
    refine LP1_run (fun i => nI i) 0 q (by omega) rfl (fun i _ hi rec => step i (by omega) (k2 i (by omega)) rec) (fun rec => ?_)
    have h6 := sees_lt hd (p := q) (k := 0) (by omega)
    have h7 := nxt_le hd (p := q) (by omega) (by have := g.2.lateb hd.acts (p := q) (by omega); have := hd.acts; omega)
    unfold hdc at k1
    simp only [Bool.and_eq_true, decide_eq_true_eq] at k1
    simp (disch := omega) only [Nat.zero_add, LT, BD_some, BD2_some, JN1, JN2, IX_nI, nI_add, pk_mul, pk_sub, leT, leF, ltT, ltF, eqT, eqF, M1_lit, bI_true, bI_false, BZ_n0, BZ_n1, BZ_b, ↓reduceIte, l_0, l_1, l_2, l_3, l_4, l_5, l_6, l_7, l_8, l_9, l_10, l_11, l_12, l_13, l_14, l_15, l_16, l_17, l_18, l_19, l_20, l_21, l_22, l_23, l_24, l_25, l_26, l_27, l_28, l_29, l_30, l_31, l_32, l_33, l_34, l_35, l_36, l_37, l_38, l_39, l_40, l_41, l_42, l_43, l_44, l_45, l_46, l_47, l_48, l_49, l_50, l_51, l_52, l_53, l_54, l_55, l_56, l_57, l_58, l_59, l_60, l_61, l_62, l_63, l_64, l_72, l_74, l_86, l_97, l_99, l_100, l_122, l_140, l_158, l_160, l_164, l_200, l_240, l_255, l_400, l_406, l_900, l_940, l_980, l_999, l_1120, l_1000, l_100000, PG_of _ hb, e8, x4_sees_v he hz hd, x1_has_v, hs_nI, k1.1, x4_next_v he hz hd (show q < 6 by omega) (g.2.2.2.2 q (by omega)), z7, Bool.not_true]
  · have ea : (List.range (d 1)).any (hdc d k l) = false := by
      rw [List.any_eq_false]
      intro i hi; rw [hn i (List.mem_range.mp hi)]; simp
    rw [ea]
    refine LP1_run (fun i => nI i) 0 (d 1) (by omega) rfl (fun i _ hi rec => step i (by omega) (hn i (by omega)) rec) (fun rec => ?_)
    simp (disch := omega) only [Nat.zero_add, LT, BD_some, BD2_some, JN1, JN2, IX_nI, nI_add, pk_mul, pk_sub, leT, leF, ltT, ltF, eqT, eqF, M1_lit, bI_true, bI_false, BZ_n0, BZ_n1, BZ_b, ↓reduceIte, l_0, l_1, l_2, l_3, l_4, l_5, l_6, l_7, l_8, l_9, l_10, l_11, l_12, l_13, l_14, l_15, l_16, l_17, l_18, l_19, l_20, l_21, l_22, l_23, l_24, l_25, l_26, l_27, l_28, l_29, l_30, l_31, l_32, l_33, l_34, l_35, l_36, l_37, l_38, l_39, l_40, l_41, l_42, l_43, l_44, l_45, l_46, l_47, l_48, l_49, l_50, l_51, l_52, l_53, l_54, l_55, l_56, l_57, l_58, l_59, l_60, l_61, l_62, l_63, l_64, l_72, l_74, l_86, l_97, l_99, l_100, l_122, l_140, l_158, l_160, l_164, l_200, l_240, l_255, l_400, l_406, l_900, l_940, l_980, l_999, l_1120, l_1000, l_100000, PG_of _ hb, e8, Bool.not_false]
theorem op_hides (h : RR x G m c b e z d ow n U) (w : Int32) : ∃ v, x1_hides c b e z w = some v ∧ m_hides m w = some (v, sI m 0 0) := by
  have hd := h.di
  have hN := hd.N
  have hP := hd.P
  have hD := hd.day
  have t := h.t14 0
  have e7 := h.he.1
  unfold x1_hides m_hides
  simp only [LT, x1_isIn_v, m_isIn_v, BD_some]
  generalize sI m 0 0 = s at t ⊢
  rw [show (60 : Int32) = nI 60 from rfl, show inn w 0 (nI 60) = inn w (nI 0) (nI 60) from rfl]
  rcases inn_cases w 0 60 (by omega) (by omega) with ⟨hp, k, -, hk, rfl⟩ | hp
  · rw [hp, if_neg (by decide), if_neg (by decide)]
    refine ⟨nI (hdN d k (d 1)), ?_, ?_⟩
    · rw [hd_set hd]
      refine LP2_run (fun l => nI (setN (fun l => !(List.range (d 1)).any (hdc d k l)) l)) (fun l => nI l) 0 (d 0) (by omega) rfl rfl (fun l _ hl rec => ?_) (fun rec => ?_)
      · cases a : (!(List.range (d 1)).any (hdc d k l))
        · have a2 : setN (fun l => !(List.range (d 1)).any (hdc d k l)) (l + 1) = setN (fun l => !(List.range (d 1)).any (hdc d k l)) l := setN_f a
          simp (disch := omega) only [Nat.zero_add, LT, BD_some, BD2_some, JN1, JN2, IX_nI, nI_add, pk_mul, pk_sub, leT, leF, ltT, ltF, eqT, eqF, M1_lit, bI_true, bI_false, BZ_n0, BZ_n1, BZ_b, ↓reduceIte, l_0, l_1, l_2, l_3, l_4, l_5, l_6, l_7, l_8, l_9, l_10, l_11, l_12, l_13, l_14, l_15, l_16, l_17, l_18, l_19, l_20, l_21, l_22, l_23, l_24, l_25, l_26, l_27, l_28, l_29, l_30, l_31, l_32, l_33, l_34, l_35, l_36, l_37, l_38, l_39, l_40, l_41, l_42, l_43, l_44, l_45, l_46, l_47, l_48, l_49, l_50, l_51, l_52, l_53, l_54, l_55, l_56, l_57, l_58, l_59, l_60, l_61, l_62, l_63, l_64, l_72, l_74, l_86, l_97, l_99, l_100, l_122, l_140, l_158, l_160, l_164, l_200, l_240, l_255, l_400, l_406, l_900, l_940, l_980, l_999, l_1120, l_1000, l_100000, PG_of _ h.hb, e7, x1_isHidden_v h.hb h.he h.hz h.gd, a, a2]
        · have a2 := or_set' (c := fun l => !(List.range (d 1)).any (hdc d k l)) (n := l) (by omega) a
          simp (disch := omega) only [Nat.zero_add, LT, BD_some, BD2_some, JN1, JN2, IX_nI, nI_add, pk_mul, pk_sub, leT, leF, ltT, ltF, eqT, eqF, M1_lit, bI_true, bI_false, BZ_n0, BZ_n1, BZ_b, ↓reduceIte, l_0, l_1, l_2, l_3, l_4, l_5, l_6, l_7, l_8, l_9, l_10, l_11, l_12, l_13, l_14, l_15, l_16, l_17, l_18, l_19, l_20, l_21, l_22, l_23, l_24, l_25, l_26, l_27, l_28, l_29, l_30, l_31, l_32, l_33, l_34, l_35, l_36, l_37, l_38, l_39, l_40, l_41, l_42, l_43, l_44, l_45, l_46, l_47, l_48, l_49, l_50, l_51, l_52, l_53, l_54, l_55, l_56, l_57, l_58, l_59, l_60, l_61, l_62, l_63, l_64, l_72, l_74, l_86, l_97, l_99, l_100, l_122, l_140, l_158, l_160, l_164, l_200, l_240, l_255, l_400, l_406, l_900, l_940, l_980, l_999, l_1120, l_1000, l_100000, PG_of _ h.hb, e7, x1_isHidden_v h.hb h.he h.hz h.gd, a, a2]
      · simp (disch := omega) only [Nat.zero_add, LT, BD_some, BD2_some, JN1, JN2, IX_nI, nI_add, pk_mul, pk_sub, leT, leF, ltT, ltF, eqT, eqF, M1_lit, bI_true, bI_false, BZ_n0, BZ_n1, BZ_b, ↓reduceIte, l_0, l_1, l_2, l_3, l_4, l_5, l_6, l_7, l_8, l_9, l_10, l_11, l_12, l_13, l_14, l_15, l_16, l_17, l_18, l_19, l_20, l_21, l_22, l_23, l_24, l_25, l_26, l_27, l_28, l_29, l_30, l_31, l_32, l_33, l_34, l_35, l_36, l_37, l_38, l_39, l_40, l_41, l_42, l_43, l_44, l_45, l_46, l_47, l_48, l_49, l_50, l_51, l_52, l_53, l_54, l_55, l_56, l_57, l_58, l_59, l_60, l_61, l_62, l_63, l_64, l_72, l_74, l_86, l_97, l_99, l_100, l_122, l_140, l_158, l_160, l_164, l_200, l_240, l_255, l_400, l_406, l_900, l_940, l_980, l_999, l_1120, l_1000, l_100000, PG_of _ h.hb, e7]
    · refine LP2_run (fun p => nI (hdN d k p)) (fun p => nI p) 0 (d 1) (by omega) ?_ rfl (fun p _ hp rec => ?_) (fun rec => ?_)
      · rw [t, RF_a (by omega)]; exact all_v _ hP
      · have h6 := sees_lt hd (p := p) (k := 0) (by omega)
        have h7 := nxt_le hd (p := p) (by omega) (by have := h.gd.2.lateb hd.acts (p := p) (by omega); have := hd.acts; omega)
        have h8 := hdN_lt hd k p
        by_cases a : nxt d p ≤ d 24 + k
        · have a2 : hdN d k (p + 1) = dif (hdN d k p) (sees d p 0) := by show (if _ then _ else _) = _; rw [if_pos a]
          have a3 : nI (hdN d k p) &&& (nI (sees d p 0) ^^^ M1) = nI (hdN d k (p + 1)) := by rw [nI_dif (by omega) (by omega), a2]
          simp (disch := omega) only [Nat.zero_add, LT, BD_some, BD2_some, JN1, JN2, IX_nI, nI_add, pk_mul, pk_sub, leT, leF, ltT, ltF, eqT, eqF, M1_lit, bI_true, bI_false, BZ_n0, BZ_n1, BZ_b, ↓reduceIte, l_0, l_1, l_2, l_3, l_4, l_5, l_6, l_7, l_8, l_9, l_10, l_11, l_12, l_13, l_14, l_15, l_16, l_17, l_18, l_19, l_20, l_21, l_22, l_23, l_24, l_25, l_26, l_27, l_28, l_29, l_30, l_31, l_32, l_33, l_34, l_35, l_36, l_37, l_38, l_39, l_40, l_41, l_42, l_43, l_44, l_45, l_46, l_47, l_48, l_49, l_50, l_51, l_52, l_53, l_54, l_55, l_56, l_57, l_58, l_59, l_60, l_61, l_62, l_63, l_64, l_72, l_74, l_86, l_97, l_99, l_100, l_122, l_140, l_158, l_160, l_164, l_200, l_240, l_255, l_400, l_406, l_900, l_940, l_980, l_999, l_1120, l_1000, l_100000, t, RF_a, m_nextLeaf_v t hd, m_seesOf_v t hd, a3]
        · have a2 : hdN d k (p + 1) = hdN d k p := by show (if _ then _ else _) = _; rw [if_neg a]
          simp (disch := omega) only [Nat.zero_add, LT, BD_some, BD2_some, JN1, JN2, IX_nI, nI_add, pk_mul, pk_sub, leT, leF, ltT, ltF, eqT, eqF, M1_lit, bI_true, bI_false, BZ_n0, BZ_n1, BZ_b, ↓reduceIte, l_0, l_1, l_2, l_3, l_4, l_5, l_6, l_7, l_8, l_9, l_10, l_11, l_12, l_13, l_14, l_15, l_16, l_17, l_18, l_19, l_20, l_21, l_22, l_23, l_24, l_25, l_26, l_27, l_28, l_29, l_30, l_31, l_32, l_33, l_34, l_35, l_36, l_37, l_38, l_39, l_40, l_41, l_42, l_43, l_44, l_45, l_46, l_47, l_48, l_49, l_50, l_51, l_52, l_53, l_54, l_55, l_56, l_57, l_58, l_59, l_60, l_61, l_62, l_63, l_64, l_72, l_74, l_86, l_97, l_99, l_100, l_122, l_140, l_158, l_160, l_164, l_200, l_240, l_255, l_400, l_406, l_900, l_940, l_980, l_999, l_1120, l_1000, l_100000, t, RF_a, m_nextLeaf_v t hd, a2]
      · simp (disch := omega) only [Nat.zero_add, LT, BD_some, BD2_some, JN1, JN2, IX_nI, nI_add, pk_mul, pk_sub, leT, leF, ltT, ltF, eqT, eqF, M1_lit, bI_true, bI_false, BZ_n0, BZ_n1, BZ_b, ↓reduceIte, l_0, l_1, l_2, l_3, l_4, l_5, l_6, l_7, l_8, l_9, l_10, l_11, l_12, l_13, l_14, l_15, l_16, l_17, l_18, l_19, l_20, l_21, l_22, l_23, l_24, l_25, l_26, l_27, l_28, l_29, l_30, l_31, l_32, l_33, l_34, l_35, l_36, l_37, l_38, l_39, l_40, l_41, l_42, l_43, l_44, l_45, l_46, l_47, l_48, l_49, l_50, l_51, l_52, l_53, l_54, l_55, l_56, l_57, l_58, l_59, l_60, l_61, l_62, l_63, l_64, l_72, l_74, l_86, l_97, l_99, l_100, l_122, l_140, l_158, l_160, l_164, l_200, l_240, l_255, l_400, l_406, l_900, l_940, l_980, l_999, l_1120, l_1000, l_100000, t, RF_a]
  · rw [hp]
    exact ⟨M1, rfl, rfl⟩
/-- how long till it is dark -/
def dkN (d : Nat → Nat) (l : Nat) : Nat → Nat
  | 0 => 0
  | p + 1 => if (sees d p 0).testBit l = true then max (dkN d l p) (d 4 - d (32 + p)) else dkN d l p
theorem dkN_le {d : Nat → Nat} (h : DI d) (l : Nat) : ∀ p, dkN d l p ≤ 60 := by
  intro p
  have := h.dusty
  induction p with
  | zero => exact Nat.zero_le _
  | succ p ih =>
    have hs : dkN d l (p + 1) = if (sees d p 0).testBit l = true then max (dkN d l p) (d 4 - d (32 + p)) else dkN d l p := rfl
    rw [hs]
    split
    · exact Nat.max_le.mpr ⟨ih, by omega⟩
    · exact ih
theorem sees_k {d : Nat → Nat} (p k l : Nat) : (sees d p k).testBit l = ((sees d p 0).testBit l && decide (d (32 + p) + k < d 4)) := by
  unfold sees
  by_cases a : (d 23).testBit p = true
  · rw [if_pos a, if_pos a]; simp
  · rw [if_neg a, if_neg a]
    by_cases g : d (32 + p) + k < d 4
    · rw [if_pos g, if_pos (by omega)]; simp [g]
    · rw [if_neg g]; simp [g]
theorem dk_any {d : Nat → Nat} (l k : Nat) : ∀ p, (List.range p).any (fun q => (sees d q k).testBit l) = decide (k < dkN d l p) := by
  intro p
  induction p with
  | zero => show _ = decide (k < 0); simp
  | succ p ih =>
    rw [List.range_succ, List.any_append, ih]
    have hs : dkN d l (p + 1) = if (sees d p 0).testBit l = true then max (dkN d l p) (d 4 - d (32 + p)) else dkN d l p := rfl
    rw [hs]
    simp only [List.any_cons, List.any_nil, Bool.or_false]
    rw [sees_k]
    cases a : (sees d p 0).testBit l
    · simp
    · rw [if_pos rfl, Bool.true_and]
      by_cases g1 : k < dkN d l p <;> by_cases g2 : d (32 + p) + k < d 4
      · simp [g1, show k < max (dkN d l p) (d 4 - d (32 + p)) by omega]
      · simp [g1, show k < max (dkN d l p) (d 4 - d (32 + p)) by omega]
      · simp [g2, show k < max (dkN d l p) (d 4 - d (32 + p)) by omega]
      · simp [g1, g2, show ¬ k < max (dkN d l p) (d 4 - d (32 + p)) by omega]
theorem op_dark (h : RR x G m c b e z d ow n U) (w : Int32) : ∃ v, x1_dark c b e z w = some v ∧ m_dark m w = some (v, sI m 0 0) := by
  have hd := h.di
  have hN := hd.N
  have hP := hd.P
  have hD := hd.day
  have hu := hd.dusty
  have t := h.t14 0
  obtain ⟨e7, e8, -, -, -, e12, -⟩ := h.he
  obtain ⟨z7, -, -, z1, -⟩ := h.hz
  unfold x1_dark m_dark
  simp only [LT]
  generalize sI m 0 0 = s at t ⊢
  rw [x1_isParlour_v h.hb h.he, m_isParlour_v t]
  rcases inn_count w (d 0) (by omega) with ⟨hp, l, hl, rfl⟩ | hp
  · rw [hp]
    simp only [BD_some]
    rw [if_neg (by decide), if_neg (by decide)]
    have hk := dkN_le hd l (d 1)
    have ub : ∀ k, k ≤ 60 → m_unseen s (nI k) = some (nI (unN d k (d 1))) := fun k hk => m_unseen_v t hd (by omega)
    have ubit : ∀ k, (unN d k (d 1)).testBit l = !decide (k < dkN d l (d 1)) := fun k => by
      rw [unN_bit hd k l (d 1) (Nat.le_refl _), dk_any]; simp [hl]
    refine ⟨if d 24 + dkN d l (d 1) ≤ 400 then nI (dkN d l (d 1)) else M1, ?_, ?_⟩
    · refine LP2_run (fun p => nI (dkN d l p)) (fun p => nI p) 0 (d 1) (by omega) rfl rfl (fun p _ hp rec => ?_) (fun rec => ?_)
      · have h6 := sees_lt hd (p := p) (k := 0) (by omega)
        have h8 := hd.dust (p := p) (by omega)
        have h9 := dkN_le hd l p
        have hs : dkN d l (p + 1) = if (sees d p 0).testBit l = true then max (dkN d l p) (d 4 - d (32 + p)) else dkN d l p := rfl
        cases a : (sees d p 0).testBit l
        · have a2 : dkN d l (p + 1) = dkN d l p := by rw [hs, if_neg (by simp [a])]
          simp (disch := omega) only [Nat.zero_add, LT, BD_some, BD2_some, JN1, JN2, IX_nI, nI_add, pk_mul, pk_sub, leT, leF, ltT, ltF, eqT, eqF, M1_lit, bI_true, bI_false, BZ_n0, BZ_n1, BZ_b, ↓reduceIte, l_0, l_1, l_2, l_3, l_4, l_5, l_6, l_7, l_8, l_9, l_10, l_11, l_12, l_13, l_14, l_15, l_16, l_17, l_18, l_19, l_20, l_21, l_22, l_23, l_24, l_25, l_26, l_27, l_28, l_29, l_30, l_31, l_32, l_33, l_34, l_35, l_36, l_37, l_38, l_39, l_40, l_41, l_42, l_43, l_44, l_45, l_46, l_47, l_48, l_49, l_50, l_51, l_52, l_53, l_54, l_55, l_56, l_57, l_58, l_59, l_60, l_61, l_62, l_63, l_64, l_72, l_74, l_86, l_97, l_99, l_100, l_122, l_140, l_158, l_160, l_164, l_200, l_240, l_255, l_400, l_406, l_900, l_940, l_980, l_999, l_1120, l_1000, l_100000, PG_of _ h.hb, e8, x4_sees_v h.he h.hz hd, x1_has_v, hs_nI, a, a2]
        · have a1 := sees_k (d := d) p 0 l
          rw [a] at a1
          have a3 : d (32 + p) + 0 < d 4 := by simpa using a1.symm
          have a2 : dkN d l (p + 1) = max (dkN d l p) (d 4 - d (32 + p)) := by rw [hs, if_pos a]
          by_cases g : dkN d l p < d 4 - d (32 + p)
          · have a4 : dkN d l (p + 1) = d 4 - d (32 + p) := by omega
            simp (disch := omega) only [Nat.zero_add, LT, BD_some, BD2_some, JN1, JN2, IX_nI, nI_add, pk_mul, pk_sub, leT, leF, ltT, ltF, eqT, eqF, M1_lit, bI_true, bI_false, BZ_n0, BZ_n1, BZ_b, ↓reduceIte, l_0, l_1, l_2, l_3, l_4, l_5, l_6, l_7, l_8, l_9, l_10, l_11, l_12, l_13, l_14, l_15, l_16, l_17, l_18, l_19, l_20, l_21, l_22, l_23, l_24, l_25, l_26, l_27, l_28, l_29, l_30, l_31, l_32, l_33, l_34, l_35, l_36, l_37, l_38, l_39, l_40, l_41, l_42, l_43, l_44, l_45, l_46, l_47, l_48, l_49, l_50, l_51, l_52, l_53, l_54, l_55, l_56, l_57, l_58, l_59, l_60, l_61, l_62, l_63, l_64, l_72, l_74, l_86, l_97, l_99, l_100, l_122, l_140, l_158, l_160, l_164, l_200, l_240, l_255, l_400, l_406, l_900, l_940, l_980, l_999, l_1120, l_1000, l_100000, PG_of _ h.hb, e8, x4_sees_v h.he h.hz hd, x1_has_v, hs_nI, a, e12, z1, a4]
          · have a4 : dkN d l (p + 1) = dkN d l p := by omega
            simp (disch := omega) only [Nat.zero_add, LT, BD_some, BD2_some, JN1, JN2, IX_nI, nI_add, pk_mul, pk_sub, leT, leF, ltT, ltF, eqT, eqF, M1_lit, bI_true, bI_false, BZ_n0, BZ_n1, BZ_b, ↓reduceIte, l_0, l_1, l_2, l_3, l_4, l_5, l_6, l_7, l_8, l_9, l_10, l_11, l_12, l_13, l_14, l_15, l_16, l_17, l_18, l_19, l_20, l_21, l_22, l_23, l_24, l_25, l_26, l_27, l_28, l_29, l_30, l_31, l_32, l_33, l_34, l_35, l_36, l_37, l_38, l_39, l_40, l_41, l_42, l_43, l_44, l_45, l_46, l_47, l_48, l_49, l_50, l_51, l_52, l_53, l_54, l_55, l_56, l_57, l_58, l_59, l_60, l_61, l_62, l_63, l_64, l_72, l_74, l_86, l_97, l_99, l_100, l_122, l_140, l_158, l_160, l_164, l_200, l_240, l_255, l_400, l_406, l_900, l_940, l_980, l_999, l_1120, l_1000, l_100000, PG_of _ h.hb, e8, x4_sees_v h.he h.hz hd, x1_has_v, hs_nI, a, e12, z1, a4]
      · by_cases g : d 24 + dkN d l (d 1) ≤ 400
        · simp (disch := omega) only [Nat.zero_add, LT, BD_some, BD2_some, JN1, JN2, IX_nI, nI_add, pk_mul, pk_sub, leT, leF, ltT, ltF, eqT, eqF, M1_lit, bI_true, bI_false, BZ_n0, BZ_n1, BZ_b, ↓reduceIte, l_0, l_1, l_2, l_3, l_4, l_5, l_6, l_7, l_8, l_9, l_10, l_11, l_12, l_13, l_14, l_15, l_16, l_17, l_18, l_19, l_20, l_21, l_22, l_23, l_24, l_25, l_26, l_27, l_28, l_29, l_30, l_31, l_32, l_33, l_34, l_35, l_36, l_37, l_38, l_39, l_40, l_41, l_42, l_43, l_44, l_45, l_46, l_47, l_48, l_49, l_50, l_51, l_52, l_53, l_54, l_55, l_56, l_57, l_58, l_59, l_60, l_61, l_62, l_63, l_64, l_72, l_74, l_86, l_97, l_99, l_100, l_122, l_140, l_158, l_160, l_164, l_200, l_240, l_255, l_400, l_406, l_900, l_940, l_980, l_999, l_1120, l_1000, l_100000, PG_of _ h.hb, e8, z7, g]
        · simp (disch := omega) only [Nat.zero_add, LT, BD_some, BD2_some, JN1, JN2, IX_nI, nI_add, pk_mul, pk_sub, leT, leF, ltT, ltF, eqT, eqF, M1_lit, bI_true, bI_false, BZ_n0, BZ_n1, BZ_b, ↓reduceIte, l_0, l_1, l_2, l_3, l_4, l_5, l_6, l_7, l_8, l_9, l_10, l_11, l_12, l_13, l_14, l_15, l_16, l_17, l_18, l_19, l_20, l_21, l_22, l_23, l_24, l_25, l_26, l_27, l_28, l_29, l_30, l_31, l_32, l_33, l_34, l_35, l_36, l_37, l_38, l_39, l_40, l_41, l_42, l_43, l_44, l_45, l_46, l_47, l_48, l_49, l_50, l_51, l_52, l_53, l_54, l_55, l_56, l_57, l_58, l_59, l_60, l_61, l_62, l_63, l_64, l_72, l_74, l_86, l_97, l_99, l_100, l_122, l_140, l_158, l_160, l_164, l_200, l_240, l_255, l_400, l_406, l_900, l_940, l_980, l_999, l_1120, l_1000, l_100000, PG_of _ h.hb, e8, z7, g]
    · have step : ∀ k, k < dkN d l (d 1) → d 24 + k ≤ 400 → ∀ rec : Int32 → Option (Int32 × Rec), (if (60 : Int32) < nI k then some ((-1 : Int32), s) else (if (400 : Int32) < ((gA s 14 24) + nI k) then some ((-1 : Int32), s) else BD (m_unseen s (nI k)) (fun v7 => BD (m_has v7 (nI l)) (fun v9 => (if v9 = 0 then rec (nI k + (1 : Int32)) else some (nI k, s)))))) = rec (nI (k + 1)) := by
        intro k h1 h2 rec
        have h3 := unN_lt hd k (d 1)
        have h4 := ubit k
        rw [show decide (k < dkN d l (d 1)) = true by simp [h1]] at h4
        simp (disch := omega) only [Nat.zero_add, LT, BD_some, BD2_some, JN1, JN2, IX_nI, nI_add, pk_mul, pk_sub, leT, leF, ltT, ltF, eqT, eqF, M1_lit, bI_true, bI_false, BZ_n0, BZ_n1, BZ_b, ↓reduceIte, l_0, l_1, l_2, l_3, l_4, l_5, l_6, l_7, l_8, l_9, l_10, l_11, l_12, l_13, l_14, l_15, l_16, l_17, l_18, l_19, l_20, l_21, l_22, l_23, l_24, l_25, l_26, l_27, l_28, l_29, l_30, l_31, l_32, l_33, l_34, l_35, l_36, l_37, l_38, l_39, l_40, l_41, l_42, l_43, l_44, l_45, l_46, l_47, l_48, l_49, l_50, l_51, l_52, l_53, l_54, l_55, l_56, l_57, l_58, l_59, l_60, l_61, l_62, l_63, l_64, l_72, l_74, l_86, l_97, l_99, l_100, l_122, l_140, l_158, l_160, l_164, l_200, l_240, l_255, l_400, l_406, l_900, l_940, l_980, l_999, l_1120, l_1000, l_100000, t, RF_a, ub k (by omega), m_has_v, hs_nI, h4, Bool.not_true]
      by_cases g : d 24 + dkN d l (d 1) ≤ 400
      · rw [if_pos g]
        refine LP1_run (fun k => nI k) 0 (dkN d l (d 1)) (by omega) rfl (fun k _ hk rec => step k (by omega) (by omega) rec) (fun rec => ?_)
        have h3 := unN_lt hd (dkN d l (d 1)) (d 1)
        have h4 := ubit (dkN d l (d 1))
        rw [show decide (dkN d l (d 1) < dkN d l (d 1)) = false by simp] at h4
        simp (disch := omega) only [Nat.zero_add, LT, BD_some, BD2_some, JN1, JN2, IX_nI, nI_add, pk_mul, pk_sub, leT, leF, ltT, ltF, eqT, eqF, M1_lit, bI_true, bI_false, BZ_n0, BZ_n1, BZ_b, ↓reduceIte, l_0, l_1, l_2, l_3, l_4, l_5, l_6, l_7, l_8, l_9, l_10, l_11, l_12, l_13, l_14, l_15, l_16, l_17, l_18, l_19, l_20, l_21, l_22, l_23, l_24, l_25, l_26, l_27, l_28, l_29, l_30, l_31, l_32, l_33, l_34, l_35, l_36, l_37, l_38, l_39, l_40, l_41, l_42, l_43, l_44, l_45, l_46, l_47, l_48, l_49, l_50, l_51, l_52, l_53, l_54, l_55, l_56, l_57, l_58, l_59, l_60, l_61, l_62, l_63, l_64, l_72, l_74, l_86, l_97, l_99, l_100, l_122, l_140, l_158, l_160, l_164, l_200, l_240, l_255, l_400, l_406, l_900, l_940, l_980, l_999, l_1120, l_1000, l_100000, t, RF_a, ub _ hk, m_has_v, hs_nI, h4, Bool.not_false]
      · rw [if_neg g]
        refine LP1_run (fun k => nI k) 0 (401 - d 24) (by omega) rfl (fun k _ hk rec => step k (by omega) (by omega) rec) (fun rec => ?_)
        simp (disch := omega) only [Nat.zero_add, LT, BD_some, BD2_some, JN1, JN2, IX_nI, nI_add, pk_mul, pk_sub, leT, leF, ltT, ltF, eqT, eqF, M1_lit, bI_true, bI_false, BZ_n0, BZ_n1, BZ_b, ↓reduceIte, l_0, l_1, l_2, l_3, l_4, l_5, l_6, l_7, l_8, l_9, l_10, l_11, l_12, l_13, l_14, l_15, l_16, l_17, l_18, l_19, l_20, l_21, l_22, l_23, l_24, l_25, l_26, l_27, l_28, l_29, l_30, l_31, l_32, l_33, l_34, l_35, l_36, l_37, l_38, l_39, l_40, l_41, l_42, l_43, l_44, l_45, l_46, l_47, l_48, l_49, l_50, l_51, l_52, l_53, l_54, l_55, l_56, l_57, l_58, l_59, l_60, l_61, l_62, l_63, l_64, l_72, l_74, l_86, l_97, l_99, l_100, l_122, l_140, l_158, l_160, l_164, l_200, l_240, l_255, l_400, l_406, l_900, l_940, l_980, l_999, l_1120, l_1000, l_100000, t, RF_a]
  · rw [hp]
    exact ⟨M1, by simp (disch := omega) only [Nat.zero_add, LT, BD_some, BD2_some, JN1, JN2, IX_nI, nI_add, pk_mul, pk_sub, leT, leF, ltT, ltF, eqT, eqF, M1_lit, bI_true, bI_false, BZ_n0, BZ_n1, BZ_b, ↓reduceIte, l_0, l_1, l_2, l_3, l_4, l_5, l_6, l_7, l_8, l_9, l_10, l_11, l_12, l_13, l_14, l_15, l_16, l_17, l_18, l_19, l_20, l_21, l_22, l_23, l_24, l_25, l_26, l_27, l_28, l_29, l_30, l_31, l_32, l_33, l_34, l_35, l_36, l_37, l_38, l_39, l_40, l_41, l_42, l_43, l_44, l_45, l_46, l_47, l_48, l_49, l_50, l_51, l_52, l_53, l_54, l_55, l_56, l_57, l_58, l_59, l_60, l_61, l_62, l_63, l_64, l_72, l_74, l_86, l_97, l_99, l_100, l_122, l_140, l_158, l_160, l_164, l_200, l_240, l_255, l_400, l_406, l_900, l_940, l_980, l_999, l_1120, l_1000, l_100000], by simp (disch := omega) only [Nat.zero_add, LT, BD_some, BD2_some, JN1, JN2, IX_nI, nI_add, pk_mul, pk_sub, leT, leF, ltT, ltF, eqT, eqF, M1_lit, bI_true, bI_false, BZ_n0, BZ_n1, BZ_b, ↓reduceIte, l_0, l_1, l_2, l_3, l_4, l_5, l_6, l_7, l_8, l_9, l_10, l_11, l_12, l_13, l_14, l_15, l_16, l_17, l_18, l_19, l_20, l_21, l_22, l_23, l_24, l_25, l_26, l_27, l_28, l_29, l_30, l_31, l_32, l_33, l_34, l_35, l_36, l_37, l_38, l_39, l_40, l_41, l_42, l_43, l_44, l_45, l_46, l_47, l_48, l_49, l_50, l_51, l_52, l_53, l_54, l_55, l_56, l_57, l_58, l_59, l_60, l_61, l_62, l_63, l_64, l_72, l_74, l_86, l_97, l_99, l_100, l_122, l_140, l_158, l_160, l_164, l_200, l_240, l_255, l_400, l_406, l_900, l_940, l_980, l_999, l_1120, l_1000, l_100000]⟩
end OPS
