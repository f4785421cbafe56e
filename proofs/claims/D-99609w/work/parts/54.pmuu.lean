/-! PURE: a deed is done, both sides -/
theorem m_doDeed_v (s : Rec) {d : Nat → Nat} (hd : DI d) (ht : DT d) (hA : d 25 < 12) {w t l : Nat} (hl : l < 5) : m_doDeed (sB s 14 (RF d)) (nI w) (nI t) (nI l) = some (sB s 14 (RF (doD d w t l))) := by
  have hN := hd.N
  have b25 : doA d w t l 25 = d 25 := doA_k hA (by omega)
  have hA' : doA d w t l 25 < 12 := by rw [b25]; exact hA
  have hda := doA_DI hd hA w t l
  have hlb : ∀ p, p < 6 → doA d w t l (158 + p) ≤ 509 := fun p hp => by
    rw [doA_k hA (by omega)]
    have := ht.lateb (by omega) hp
    omega
  unfold m_doDeed
  (obtain ⟨F, hFU⟩ : ∃ F, FU = F := ⟨_, rfl⟩; rw [hFU]; simp (disch := omega) only [Nat.zero_add, LT, BD_some, BD2_some, JN1, JN2, IX_nI, nI_add, pk_mul, pk_sub, leT, leF, ltT, ltF, eqT, eqF, M1_lit, bI_true, bI_false, BZ_n0, BZ_n1, BZ_b, ↓reduceIte, l_0, l_1, l_2, l_3, l_4, l_5, l_6, l_7, l_8, l_9, l_10, l_11, l_12, l_13, l_14, l_15, l_16, l_17, l_18, l_19, l_20, l_21, l_22, l_23, l_24, l_25, l_26, l_27, l_28, l_29, l_30, l_31, l_32, l_33, l_34, l_35, l_36, l_37, l_38, l_39, l_40, l_41, l_42, l_43, l_44, l_45, l_46, l_47, l_48, l_49, l_50, l_51, l_52, l_53, l_54, l_55, l_56, l_57, l_58, l_59, l_60, l_61, l_62, l_63, l_64, l_72, l_74, l_86, l_97, l_99, l_100, l_122, l_140, l_158, l_160, l_164, l_200, l_240, l_255, l_400, l_406, l_900, l_940, l_980, l_999, l_1120, l_1000, l_100000, gA_sBs, RF_a, sAB_a, up_n]; rw [← hFU])
  have e0 : va_up (va_up (va_up (va_up d (38 + d 25) w) (50 + d 25) t) (62 + d 25) l) (74 + d 25) (d 24) = doA d w t l := rfl
  rw [e0]
  refine LP2_run (fun i => nI i) (fun i => sB s 14 (RF (va_up (doN (doA d w t l) l i) 25 (d 25 + 1)))) 0 (d 1) (by omega) rfl rfl (fun i _ hi rec => ?_) (fun rec => ?_)
  · have hdi := DI_25 (doN_DI hda hA' hlb (l := l) (n := i) (by omega)) (v := d 25 + 1) (by omega)
    have kk : ∀ k, k < 86 → k ≠ 25 → va_up (doN (doA d w t l) l i) 25 (d 25 + 1) k = doA d w t l k := fun k h1 h2 => by rw [up_n _ _ h2, doN_k hA' i (by omega) (Or.inl h1)]
    have kl : va_up (doN (doA d w t l) l i) 25 (d 25 + 1) (158 + i) = doA d w t l (158 + i) := by
      rw [up_n _ _ (by omega), doN_late hA' (by omega) i (by omega), if_neg (by omega)]
    have e1 : va_up (doN (doA d w t l) l i) 25 (d 25 + 1) 1 = d 1 := by rw [kk 1 (by omega) (by omega), doA_k hA (by omega)]
    have hpl := hda.pl (p := i) (by rw [doA_k hA (by omega)]; omega)
    have hP := hda.P
    have hse : sees (va_up (doN (doA d w t l) l i) 25 (d 25 + 1)) i 0 = sees (doA d w t l) i 0 := sees_ext (fun k h1 _ h2 => kk k (by omega) h2) (by omega) (by omega)
    have hnx : nxt (va_up (doN (doA d w t l) l i) 25 (d 25 + 1)) i = nxt (doA d w t l) i := nxt_ext (kk 24 (by omega) (by omega)) kl (kk (17 + i) (by omega) (by omega))
    have hso : m_seesOf (sB s 14 (RF (va_up (doN (doA d w t l) l i) 25 (d 25 + 1)))) (nI i) (nI 0) = some (nI (sees (doA d w t l) i 0)) := by
      rw [m_seesOf_v (gA_sBs _ _ _) hdi (by rw [e1]; omega) (by omega), hse]
    have hno : m_nextLeaf (sB s 14 (RF (va_up (doN (doA d w t l) l i) 25 (d 25 + 1)))) (nI i) = some (nI (nxt (doA d w t l) i)) := by
      rw [m_nextLeaf_v (gA_sBs _ _ _) hdi (by omega), hnx]
    have h6 := sees_lt hda (p := i) (k := 0) (by rw [doA_k hA (by omega)]; omega)
    cases hb : (sees (doA d w t l) i 0).testBit l
    · rw [doN_f hb]
      simp (disch := omega) only [Nat.zero_add, LT, BD_some, BD2_some, JN1, JN2, IX_nI, nI_add, pk_mul, pk_sub, leT, leF, ltT, ltF, eqT, eqF, M1_lit, bI_true, bI_false, BZ_n0, BZ_n1, BZ_b, ↓reduceIte, l_0, l_1, l_2, l_3, l_4, l_5, l_6, l_7, l_8, l_9, l_10, l_11, l_12, l_13, l_14, l_15, l_16, l_17, l_18, l_19, l_20, l_21, l_22, l_23, l_24, l_25, l_26, l_27, l_28, l_29, l_30, l_31, l_32, l_33, l_34, l_35, l_36, l_37, l_38, l_39, l_40, l_41, l_42, l_43, l_44, l_45, l_46, l_47, l_48, l_49, l_50, l_51, l_52, l_53, l_54, l_55, l_56, l_57, l_58, l_59, l_60, l_61, l_62, l_63, l_64, l_72, l_74, l_86, l_97, l_99, l_100, l_122, l_140, l_158, l_160, l_164, l_200, l_240, l_255, l_400, l_406, l_900, l_940, l_980, l_999, l_1120, l_1000, l_100000, gA_sBs, RF_a, e1, hso, m_has_v, hs_nI, hb]
    · have e3 : va_up (va_up (va_up (doN (doA d w t l) l i) 25 (d 25 + 1)) (158 + i) (nxt (doA d w t l) i + 1)) (86 + 12 * i + d 25) (nxt (doA d w t l) i + 1) = va_up (doN (doA d w t l) l (i + 1)) 25 (d 25 + 1) := by
        rw [doN_t hb, b25, up_swap _ _ _ (show 25 ≠ 158 + i by omega), up_swap _ _ _ (show 25 ≠ 86 + 12 * i + d 25 by omega)]
      simp (disch := omega) only [Nat.zero_add, LT, BD_some, BD2_some, JN1, JN2, IX_nI, nI_add, pk_mul, pk_sub, leT, leF, ltT, ltF, eqT, eqF, M1_lit, bI_true, bI_false, BZ_n0, BZ_n1, BZ_b, ↓reduceIte, l_0, l_1, l_2, l_3, l_4, l_5, l_6, l_7, l_8, l_9, l_10, l_11, l_12, l_13, l_14, l_15, l_16, l_17, l_18, l_19, l_20, l_21, l_22, l_23, l_24, l_25, l_26, l_27, l_28, l_29, l_30, l_31, l_32, l_33, l_34, l_35, l_36, l_37, l_38, l_39, l_40, l_41, l_42, l_43, l_44, l_45, l_46, l_47, l_48, l_49, l_50, l_51, l_52, l_53, l_54, l_55, l_56, l_57, l_58, l_59, l_60, l_61, l_62, l_63, l_64, l_72, l_74, l_86, l_97, l_99, l_100, l_122, l_140, l_158, l_160, l_164, l_200, l_240, l_255, l_400, l_406, l_900, l_940, l_980, l_999, l_1120, l_1000, l_100000, gA_sBs, RF_a, RF_l, e1, hso, hno, m_has_v, hs_nI, hb, sAB_n, sAB_l, up_s, e3]
  · have e1 : va_up (doN (doA d w t l) l (d 1)) 25 (d 25 + 1) 1 = d 1 := by rw [up_n _ _ (by omega), doN_k hA' _ hN (Or.inl (by omega)), doA_k hA (by omega)]
    simp (disch := omega) only [Nat.zero_add, LT, BD_some, BD2_some, JN1, JN2, IX_nI, nI_add, pk_mul, pk_sub, leT, leF, ltT, ltF, eqT, eqF, M1_lit, bI_true, bI_false, BZ_n0, BZ_n1, BZ_b, ↓reduceIte, l_0, l_1, l_2, l_3, l_4, l_5, l_6, l_7, l_8, l_9, l_10, l_11, l_12, l_13, l_14, l_15, l_16, l_17, l_18, l_19, l_20, l_21, l_22, l_23, l_24, l_25, l_26, l_27, l_28, l_29, l_30, l_31, l_32, l_33, l_34, l_35, l_36, l_37, l_38, l_39, l_40, l_41, l_42, l_43, l_44, l_45, l_46, l_47, l_48, l_49, l_50, l_51, l_52, l_53, l_54, l_55, l_56, l_57, l_58, l_59, l_60, l_61, l_62, l_63, l_64, l_72, l_74, l_86, l_97, l_99, l_100, l_122, l_140, l_158, l_160, l_164, l_200, l_240, l_255, l_400, l_406, l_900, l_940, l_980, l_999, l_1120, l_1000, l_100000, gA_sBs, RF_a, e1]
    rfl
theorem x4_does_v {e z : Rec} {d : Nat → Nat} (he : HS e d) (hz : ZS z d) (hd : DI d) (ht : DT d) (hA : d 25 < 12) {w t l : Nat} (hl : l < 5) : ∃ z', x4_does z e (nI w) (nI t) (nI l) = some z' ∧ ZS z' (doD d w t l) ∧ gI z' 9 = gI z 9 := by
  have hN := hd.N
  have b25 : doA d w t l 25 = d 25 := doA_k hA (by omega)
  have hA' : doA d w t l 25 < 12 := by rw [b25]; exact hA
  have hda := doA_DI hd hA w t l
  have hta := DT_doA ht hA w t l
  have hlb : ∀ p, p < 6 → doA d w t l (158 + p) ≤ 509 := fun p hp => by
    rw [doA_k hA (by omega)]
    have := ht.lateb (by omega) hp
    omega
  have e8 := he.2.1
  have z7 := hz.1
  have z8 := hz.2.1
  unfold x4_does
  (obtain ⟨F, hFU⟩ : ∃ F, FU = F := ⟨_, rfl⟩; rw [hFU]; simp (disch := omega) only [Nat.zero_add, LT, BD_some, BD2_some, JN1, JN2, IX_nI, nI_add, pk_mul, pk_sub, leT, leF, ltT, ltF, eqT, eqF, M1_lit, bI_true, bI_false, BZ_n0, BZ_n1, BZ_b, ↓reduceIte, l_0, l_1, l_2, l_3, l_4, l_5, l_6, l_7, l_8, l_9, l_10, l_11, l_12, l_13, l_14, l_15, l_16, l_17, l_18, l_19, l_20, l_21, l_22, l_23, l_24, l_25, l_26, l_27, l_28, l_29, l_30, l_31, l_32, l_33, l_34, l_35, l_36, l_37, l_38, l_39, l_40, l_41, l_42, l_43, l_44, l_45, l_46, l_47, l_48, l_49, l_50, l_51, l_52, l_53, l_54, l_55, l_56, l_57, l_58, l_59, l_60, l_61, l_62, l_63, l_64, l_72, l_74, l_86, l_97, l_99, l_100, l_122, l_140, l_158, l_160, l_164, l_200, l_240, l_255, l_400, l_406, l_900, l_940, l_980, l_999, l_1120, l_1000, l_100000, gI_sIs, gI_sIn, gI_sA, gI_sJ, gI_sL, gI_sP, gI_sQ, gI_sB, gA_sAs, gA_sAi, gA_sAn, gA_sI, gA_sJ, gA_sL, gA_sP, gA_sQ, gA_sBs, gA_sBn, gJ_sJs, gJ_sJn, gJ_sI, gJ_sA, gJ_sB, gJ_sL, gL_sI, gL_sA, gL_sJ, gL_sB, gL_sLs, gL_sLi, gL_sLn, gP_sI, gP_sA, gP_sB, gP_sJ, gP_sL, gP_sPs, gP_sPn, gQ_sI, gQ_sA, gQ_sB, gQ_sJ, gQ_sL, gQ_sP, gQ_sQs, gQ_sQi, gQ_sQn, z8, z7]; rw [← hFU])
  have hza : ZS (sA (sA (sA (sA z 2 (d 25) (nI w)) 3 (d 25) (nI t)) 4 (d 25) (nI l)) 5 (d 25) (nI (d 24))) (doA d w t l) := ZS_A5 (ZS_A4 (ZS_A3 (ZS_A2 hz hA) hA) hA) hA
  have hz9 : gI (sA (sA (sA (sA z 2 (d 25) (nI w)) 3 (d 25) (nI t)) 4 (d 25) (nI l)) 5 (d 25) (nI (d 24))) 9 = gI z 9 := rfl
  generalize sA (sA (sA (sA z 2 (d 25) (nI w)) 3 (d 25) (nI t)) 4 (d 25) (nI l)) 5 (d 25) (nI (d 24)) = za at hza hz9 ⊢
  refine LP2_inv (fun i v y => v = nI i ∧ ZS y (doN (doA d w t l) l i) ∧ gI y 9 = gI z 9) (fun o => ∃ z', o = some z' ∧ ZS z' (doD d w t l) ∧ gI z' 9 = gI z 9) (d 1) (by omega) ⟨rfl, hza, hz9⟩ (fun i v y rec hi hI => Or.inl ?_) (fun v y rec hI => ?_)
  · obtain ⟨rfl, hy, hy9⟩ := hI
    have hdi := doN_DI hda hA' hlb (l := l) (n := i) (by omega)
    have kk : ∀ k, k < 86 → doN (doA d w t l) l i k = doA d w t l k := fun k h1 => doN_k hA' i (by omega) (Or.inl h1)
    have kl : doN (doA d w t l) l i (158 + i) = doA d w t l (158 + i) := by rw [doN_late hA' (by omega) i (by omega), if_neg (by omega)]
    have e1 : doN (doA d w t l) l i 1 = d 1 := by rw [kk 1 (by omega), doA_k hA (by omega)]
    have hpl := hda.pl (p := i) (by rw [doA_k hA (by omega)]; omega)
    have hP := hda.P
    have hey : HS e (doN (doA d w t l) l i) := HS_ext he (fun k hk => by rw [kk k (by omega), doA_k hA (by omega)])
    have hse : sees (doN (doA d w t l) l i) i 0 = sees (doA d w t l) i 0 := sees_ext (fun k h1 _ _ => kk k (by omega)) (by omega) (by omega)
    have hnx : nxt (doN (doA d w t l) l i) i = nxt (doA d w t l) i := nxt_ext (kk 24 (by omega)) kl (kk (17 + i) (by omega))
    have hso : x4_sees y e (nI i) = some (nI (sees (doA d w t l) i 0)) := by rw [x4_sees_v hey hy hdi (by rw [e1]; omega), hse]
    have hno : x4_next y e (nI i) = some (nI (nxt (doA d w t l) i)) := by
      rw [x4_next_v hey hy hdi (by omega) ?_, hnx]
      rw [kl, kk 25 (by omega), hta.2.2.2 i (by omega)]
      exact mxN_congr (fun j hj => by rw [doN_leaf hA' (by omega) (by omega) i (by omega), if_neg (by omega)])
    have y8 : gI y 8 = nI (d 25) := by rw [hy.2.1, kk 25 (by omega), b25]
    have h6 := sees_lt hda (p := i) (k := 0) (by rw [doA_k hA (by omega)]; omega)
    cases hb : (sees (doA d w t l) i 0).testBit l
    · refine ⟨nI (i + 1), y, ⟨rfl, by rw [doN_f hb]; exact hy, hy9⟩, ?_⟩
      simp (disch := omega) only [Nat.zero_add, LT, BD_some, BD2_some, JN1, JN2, IX_nI, nI_add, pk_mul, pk_sub, leT, leF, ltT, ltF, eqT, eqF, M1_lit, bI_true, bI_false, BZ_n0, BZ_n1, BZ_b, ↓reduceIte, l_0, l_1, l_2, l_3, l_4, l_5, l_6, l_7, l_8, l_9, l_10, l_11, l_12, l_13, l_14, l_15, l_16, l_17, l_18, l_19, l_20, l_21, l_22, l_23, l_24, l_25, l_26, l_27, l_28, l_29, l_30, l_31, l_32, l_33, l_34, l_35, l_36, l_37, l_38, l_39, l_40, l_41, l_42, l_43, l_44, l_45, l_46, l_47, l_48, l_49, l_50, l_51, l_52, l_53, l_54, l_55, l_56, l_57, l_58, l_59, l_60, l_61, l_62, l_63, l_64, l_72, l_74, l_86, l_97, l_99, l_100, l_122, l_140, l_158, l_160, l_164, l_200, l_240, l_255, l_400, l_406, l_900, l_940, l_980, l_999, l_1120, l_1000, l_100000, e8, hso, x1_has_v, hs_nI, hb]
    · refine ⟨nI (i + 1), sA y 6 (12 * i + d 25) (lf (nxt (doA d w t l) i + 1)), ⟨rfl, ?_, hy9⟩, ?_⟩
      · rw [doN_t hb, b25]
        refine ZS_L (ZS_ext hy (fun k h1 h2 => ?_)) (by omega) hA
        rw [up_n _ _ (by omega)]
      · simp (disch := omega) only [Nat.zero_add, LT, BD_some, BD2_some, JN1, JN2, IX_nI, nI_add, pk_mul, pk_sub, leT, leF, ltT, ltF, eqT, eqF, M1_lit, bI_true, bI_false, BZ_n0, BZ_n1, BZ_b, ↓reduceIte, l_0, l_1, l_2, l_3, l_4, l_5, l_6, l_7, l_8, l_9, l_10, l_11, l_12, l_13, l_14, l_15, l_16, l_17, l_18, l_19, l_20, l_21, l_22, l_23, l_24, l_25, l_26, l_27, l_28, l_29, l_30, l_31, l_32, l_33, l_34, l_35, l_36, l_37, l_38, l_39, l_40, l_41, l_42, l_43, l_44, l_45, l_46, l_47, l_48, l_49, l_50, l_51, l_52, l_53, l_54, l_55, l_56, l_57, l_58, l_59, l_60, l_61, l_62, l_63, l_64, l_72, l_74, l_86, l_97, l_99, l_100, l_122, l_140, l_158, l_160, l_164, l_200, l_240, l_255, l_400, l_406, l_900, l_940, l_980, l_999, l_1120, l_1000, l_100000, e8, hso, hno, x1_has_v, hs_nI, hb, y8, lf_s]
  · obtain ⟨rfl, hy, hy9⟩ := hI
    have y8 : gI y 8 = nI (d 25) := by rw [hy.2.1, doN_k hA' _ hN (by omega), b25]
    refine ⟨sI y 8 (nI (d 25 + 1)), ?_, ZS_I8 hy, by rw [gI_sIn _ _ (by omega)]; exact hy9⟩
    simp (disch := omega) only [Nat.zero_add, LT, BD_some, BD2_some, JN1, JN2, IX_nI, nI_add, pk_mul, pk_sub, leT, leF, ltT, ltF, eqT, eqF, M1_lit, bI_true, bI_false, BZ_n0, BZ_n1, BZ_b, ↓reduceIte, l_0, l_1, l_2, l_3, l_4, l_5, l_6, l_7, l_8, l_9, l_10, l_11, l_12, l_13, l_14, l_15, l_16, l_17, l_18, l_19, l_20, l_21, l_22, l_23, l_24, l_25, l_26, l_27, l_28, l_29, l_30, l_31, l_32, l_33, l_34, l_35, l_36, l_37, l_38, l_39, l_40, l_41, l_42, l_43, l_44, l_45, l_46, l_47, l_48, l_49, l_50, l_51, l_52, l_53, l_54, l_55, l_56, l_57, l_58, l_59, l_60, l_61, l_62, l_63, l_64, l_72, l_74, l_86, l_97, l_99, l_100, l_122, l_140, l_158, l_160, l_164, l_200, l_240, l_255, l_400, l_406, l_900, l_940, l_980, l_999, l_1120, l_1000, l_100000, e8, y8]
