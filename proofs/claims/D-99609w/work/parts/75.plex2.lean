/-! PURE: tokens: runs of letters and digits -/
/-- which token a run is -/
def tkr (small fl : Bool) (n : Nat) : Nat := if fl = true then (if n ≤ (if small = true then 7 else 3) then (if small = true then 1 else 2) else 4) else 4
section LEX
variable {j : Nat} {T : Nat → Nat} {N : Nat} {c m : Rec}
theorem tpAt_in {s : Rec} {p : Nat} (hT : TPE T c s) (hN : N ≤ 940) (h3 : gI s 3 = nI N) (h : p < N) : m_tapeAt s (nI p) = some (nI (T p)) := by
  unfold m_tapeAt
  rw [h3, if_neg (nI_ge h (by omega)), IX_nI _ (by omega) (by omega), (hT p (by omega)).2.1]
theorem tpAt_out {s : Rec} {p : Nat} (hN : N ≤ 940) (h3 : gI s 3 = nI N) (h : N ≤ p) (hp : p ≤ 940) : m_tapeAt s (nI p) = some (nI 0) := by
  unfold m_tapeAt
  rw [h3, if_pos (nI_le h (by omega))]; rfl
theorem gr_step {s : Rec} {p a : Nat} {small fl : Bool} (rec : Int32 → Rec → Option Rec) (hT : TPE T c s) (hN : N ≤ 940) (h3 : gI s 3 = nI N) (hp : gI s 5 = nI p) (ha : gI s 6 = nI a) (hap : a ≤ p) (h : p < N) (hal : isL (T p) = true ∨ isD (T p) = true) : ∃ s', grB (bI small) rec (bI fl) s = rec (bI (fl && (isL (T p) == small))) s' ∧ FRn s s' ∧ gI s' 5 = nI (p + 1) ∧ gI s' 6 = nI a ∧ gJ s' 12 = (if 7 ≤ p - a then gJ s 12 else (27 : Int64) * gJ s 12 + lN (T p) - (96 : Int64)) ∧ gI s' 8 = (if 3 ≤ p - a then gI s 8 else nI 10 * gI s 8 + nI (T p) - nI 48) := by
  obtain ⟨t1, t2, t3⟩ := hT p (by omega)
  have pk := tpAt_in hT hN h3 h
  have il : Int32.toInt64 (nI (T p)) = lN (T p) := nI_l (by omega)
  refine ⟨sI (if 3 ≤ p - a then (if 7 ≤ p - a then s else sJ s 12 ((27 : Int64) * gJ s 12 + lN (T p) - (96 : Int64))) else sI (if 7 ≤ p - a then s else sJ s 12 ((27 : Int64) * gJ s 12 + lN (T p) - (96 : Int64))) 8 (nI 10 * gI s 8 + nI (T p) - nI 48)) 5 (nI (p + 1)), ?_, ?_, ?_, ?_, ?_, ?_⟩
  · unfold grB
    rw [hp, pk, BD_some, m_isLetter_v t1, BD_some]
    have hal2 : ∀ {X Y : Option Rec}, (if bI (isL (T p)) = 0 then BD (some (nI (T p))) (fun v39 => BD (m_isDigit v39) (fun v41 => (if v41 = 0 then X else Y))) else Y) = Y := by
      intro X Y
      cases e : isL (T p)
      · rw [if_pos (show bI false = (0 : Int32) from rfl), BD_some, m_isDigit_v t1, BD_some]
        rcases hal with h1 | h1
        · rw [e] at h1; cases h1
        · rw [h1]; exact if_neg (by decide)
      · exact if_neg (by decide)
    rw [JN1]
    refine hal2.trans ?_
    rw [IX_nI _ (by omega) (by omega), t2]
    have tail : ∀ f : Int32, (JN1 (fun (s29 : Rec) => JN1 (fun (s31 : Rec) => LT (sI s31 5 ((gI s31 5) + (1 : Int32))) (fun s33 => rec f s33)) (fun (j32 : Rec → Option Rec) => (if (3 : Int32) ≤ ((gI s29 5) - (gI s29 6)) then j32 s29 else LT (sI s29 8 ((((10 : Int32) * (gI s29 8)) + (nI (T p))) - (48 : Int32))) (fun s34 => j32 s34)))) (fun (j30 : Rec → Option Rec) => (if (7 : Int32) ≤ (nI p - (gI s 6)) then j30 s else LT (sJ s 12 ((((27 : Int64) * (gJ s 12)) + (Int32.toInt64 (nI (T p)))) - (96 : Int64))) (fun s35 => j30 s35)))) = rec f (sI (if 3 ≤ p - a then (if 7 ≤ p - a then s else sJ s 12 ((27 : Int64) * gJ s 12 + lN (T p) - (96 : Int64))) else sI (if 7 ≤ p - a then s else sJ s 12 ((27 : Int64) * gJ s 12 + lN (T p) - (96 : Int64))) 8 (nI 10 * gI s 8 + nI (T p) - nI 48)) 5 (nI (p + 1))) := by
      intro f
      by_cases g7 : 7 ≤ p - a
      · rw [if_pos (show 3 ≤ p - a by omega), if_pos g7]
        simp (disch := omega) only [Nat.zero_add, LT, BD_some, BD2_some, JN1, JN2, IX_nI, nI_add, pk_mul, pk_sub, leT, leF, ltT, ltF, eqT, eqF, M1_lit, bI_true, bI_false, BZ_n0, BZ_n1, BZ_b, ↓reduceIte, l_0, l_1, l_2, l_3, l_4, l_5, l_6, l_7, l_8, l_9, l_10, l_11, l_12, l_13, l_14, l_15, l_16, l_17, l_18, l_19, l_20, l_21, l_22, l_23, l_24, l_25, l_26, l_27, l_28, l_29, l_30, l_31, l_32, l_33, l_34, l_35, l_36, l_37, l_38, l_39, l_40, l_41, l_42, l_43, l_44, l_45, l_46, l_47, l_48, l_49, l_50, l_51, l_52, l_53, l_54, l_55, l_56, l_57, l_58, l_59, l_60, l_61, l_62, l_63, l_64, l_72, l_74, l_86, l_97, l_99, l_100, l_122, l_140, l_158, l_160, l_164, l_200, l_240, l_255, l_400, l_406, l_900, l_940, l_980, l_999, l_1120, l_1000, l_100000, gI_sIs, gI_sIn, gI_sA, gI_sJ, gI_sL, gI_sP, gI_sQ, gI_sB, gA_sAs, gA_sAi, gA_sAn, gA_sI, gA_sJ, gA_sL, gA_sP, gA_sQ, gA_sBs, gA_sBn, gJ_sJs, gJ_sJn, gJ_sI, gJ_sA, gJ_sB, gJ_sL, gL_sI, gL_sA, gL_sJ, gL_sB, gL_sLs, gL_sLi, gL_sLn, gP_sI, gP_sA, gP_sB, gP_sJ, gP_sL, gP_sPs, gP_sPn, gQ_sI, gQ_sA, gQ_sB, gQ_sJ, gQ_sL, gQ_sP, gQ_sQs, gQ_sQi, gQ_sQn, hp, ha]
      · by_cases g3 : 3 ≤ p - a
        · rw [if_pos g3, if_neg g7]
          simp (disch := omega) only [Nat.zero_add, LT, BD_some, BD2_some, JN1, JN2, IX_nI, nI_add, pk_mul, pk_sub, leT, leF, ltT, ltF, eqT, eqF, M1_lit, bI_true, bI_false, BZ_n0, BZ_n1, BZ_b, ↓reduceIte, l_0, l_1, l_2, l_3, l_4, l_5, l_6, l_7, l_8, l_9, l_10, l_11, l_12, l_13, l_14, l_15, l_16, l_17, l_18, l_19, l_20, l_21, l_22, l_23, l_24, l_25, l_26, l_27, l_28, l_29, l_30, l_31, l_32, l_33, l_34, l_35, l_36, l_37, l_38, l_39, l_40, l_41, l_42, l_43, l_44, l_45, l_46, l_47, l_48, l_49, l_50, l_51, l_52, l_53, l_54, l_55, l_56, l_57, l_58, l_59, l_60, l_61, l_62, l_63, l_64, l_72, l_74, l_86, l_97, l_99, l_100, l_122, l_140, l_158, l_160, l_164, l_200, l_240, l_255, l_400, l_406, l_900, l_940, l_980, l_999, l_1120, l_1000, l_100000, gI_sIs, gI_sIn, gI_sA, gI_sJ, gI_sL, gI_sP, gI_sQ, gI_sB, gA_sAs, gA_sAi, gA_sAn, gA_sI, gA_sJ, gA_sL, gA_sP, gA_sQ, gA_sBs, gA_sBn, gJ_sJs, gJ_sJn, gJ_sI, gJ_sA, gJ_sB, gJ_sL, gL_sI, gL_sA, gL_sJ, gL_sB, gL_sLs, gL_sLi, gL_sLn, gP_sI, gP_sA, gP_sB, gP_sJ, gP_sL, gP_sPs, gP_sPn, gQ_sI, gQ_sA, gQ_sB, gQ_sJ, gQ_sL, gQ_sP, gQ_sQs, gQ_sQi, gQ_sQn, hp, ha, il]
        · rw [if_neg g3, if_neg g7]
          simp (disch := omega) only [Nat.zero_add, LT, BD_some, BD2_some, JN1, JN2, IX_nI, nI_add, pk_mul, pk_sub, leT, leF, ltT, ltF, eqT, eqF, M1_lit, bI_true, bI_false, BZ_n0, BZ_n1, BZ_b, ↓reduceIte, l_0, l_1, l_2, l_3, l_4, l_5, l_6, l_7, l_8, l_9, l_10, l_11, l_12, l_13, l_14, l_15, l_16, l_17, l_18, l_19, l_20, l_21, l_22, l_23, l_24, l_25, l_26, l_27, l_28, l_29, l_30, l_31, l_32, l_33, l_34, l_35, l_36, l_37, l_38, l_39, l_40, l_41, l_42, l_43, l_44, l_45, l_46, l_47, l_48, l_49, l_50, l_51, l_52, l_53, l_54, l_55, l_56, l_57, l_58, l_59, l_60, l_61, l_62, l_63, l_64, l_72, l_74, l_86, l_97, l_99, l_100, l_122, l_140, l_158, l_160, l_164, l_200, l_240, l_255, l_400, l_406, l_900, l_940, l_980, l_999, l_1120, l_1000, l_100000, gI_sIs, gI_sIn, gI_sA, gI_sJ, gI_sL, gI_sP, gI_sQ, gI_sB, gA_sAs, gA_sAi, gA_sAn, gA_sI, gA_sJ, gA_sL, gA_sP, gA_sQ, gA_sBs, gA_sBn, gJ_sJs, gJ_sJn, gJ_sI, gJ_sA, gJ_sB, gJ_sL, gL_sI, gL_sA, gL_sJ, gL_sB, gL_sLs, gL_sLi, gL_sLn, gP_sI, gP_sA, gP_sB, gP_sJ, gP_sL, gP_sPs, gP_sPn, gQ_sI, gQ_sA, gQ_sB, gQ_sJ, gQ_sL, gQ_sP, gQ_sQs, gQ_sQi, gQ_sQn, hp, ha, il]
    rw [JN1]
    cases fl
    · refine (if_pos rfl).trans ?_
      exact tail 0
    · refine (if_neg (by decide)).trans ?_
      rw [m_isLetter_v t1, BD_some]
      by_cases e : bI (isL (T p)) = bI small
      · have e2 : (isL (T p) == small) = true := by revert e; cases isL (T p) <;> cases small <;> simp [bI]
        rw [if_pos e, e2]
        exact tail 1
      · have e2 : (isL (T p) == small) = false := by revert e; cases isL (T p) <;> cases small <;> simp [bI]
        rw [if_neg e, e2]
        exact tail 0
  · refine FRn_sI ?_ _ (by omega) (by omega)
    split
    · split
      · exact FRn.refl s
      · exact FRn_sJ (FRn.refl s) _ _
    · split
      · exact FRn_sI (FRn.refl s) _ (by omega) (by omega)
      · exact FRn_sI (FRn_sJ (FRn.refl s) _ _) _ (by omega) (by omega)
  · exact gI_sIs _ _ _
  · rw [gI_sIn _ _ (by omega)]
    split
    · split
      · exact ha
      · exact ha
    · rw [gI_sIn _ _ (by omega)]
      split
      · exact ha
      · exact ha
  · rw [gJ_sI]
    split
    · split
      · rfl
      · exact gJ_sJs _ _ _
    · rw [gJ_sI]
      split
      · rfl
      · exact gJ_sJs _ _ _
  · rw [gI_sIn _ _ (by omega)]
    split
    · split
      · rfl
      · rfl
    · exact gI_sIs _ _ _
theorem rn_exit {s : Rec} {p a : Nat} {small fl : Bool} (rec : Int32 → Rec → Option Rec) (hT : TPE T s m) (hN : N ≤ 940) (h2 : gI s 2 = nI N) (hp : gI s (rb j + 1) = nI p) (ha : gI s (rb j + 2) = nI a) (hap : a ≤ p) (hp2 : p ≤ N) (hx : p < N → isL (T p) = false ∧ isD (T p) = false) : rnB j (bI small) rec (bI fl) s = some (sI (sI s (rb j + 5) (nI (p - a))) (rb j + 3) (nI (tkr small fl (p - a)))) := by
  have hr := rb_le j
  have pk : ∃ v, x5_peek j s = some v ∧ x5_isLetter j s v = some (nI 0) ∧ x5_isDigit j s v = some (nI 0) := by
    by_cases g : p < N
    · have t1 := (hT p (by omega)).1
      obtain ⟨a1, a2⟩ := hx g
      exact ⟨_, peek_in hT hN h2 hp g, by rw [x5_isLetter_v j s t1, a1]; rfl, by rw [x5_isDigit_v j s t1, a2]; rfl⟩
    · exact ⟨_, peek_out hN h2 hp (by omega) (by omega), rfl, rfl⟩
  obtain ⟨v, p1, p2, p3⟩ := pk
  unfold rnB tkr
  rw [p1]
  cases fl
  · simp (disch := omega) only [Nat.zero_add, LT, BD_some, BD2_some, JN1, JN2, IX_nI, nI_add, pk_mul, pk_sub, leT, leF, ltT, ltF, eqT, eqF, M1_lit, bI_true, bI_false, BZ_n0, BZ_n1, BZ_b, ↓reduceIte, l_0, l_1, l_2, l_3, l_4, l_5, l_6, l_7, l_8, l_9, l_10, l_11, l_12, l_13, l_14, l_15, l_16, l_17, l_18, l_19, l_20, l_21, l_22, l_23, l_24, l_25, l_26, l_27, l_28, l_29, l_30, l_31, l_32, l_33, l_34, l_35, l_36, l_37, l_38, l_39, l_40, l_41, l_42, l_43, l_44, l_45, l_46, l_47, l_48, l_49, l_50, l_51, l_52, l_53, l_54, l_55, l_56, l_57, l_58, l_59, l_60, l_61, l_62, l_63, l_64, l_72, l_74, l_86, l_97, l_99, l_100, l_122, l_140, l_158, l_160, l_164, l_200, l_240, l_255, l_400, l_406, l_900, l_940, l_980, l_999, l_1120, l_1000, l_100000, gI_sIs, gI_sIn, gI_sA, gI_sJ, gI_sL, gI_sP, gI_sQ, gI_sB, gA_sAs, gA_sAi, gA_sAn, gA_sI, gA_sJ, gA_sL, gA_sP, gA_sQ, gA_sBs, gA_sBn, gJ_sJs, gJ_sJn, gJ_sI, gJ_sA, gJ_sB, gJ_sL, gL_sI, gL_sA, gL_sJ, gL_sB, gL_sLs, gL_sLi, gL_sLn, gP_sI, gP_sA, gP_sB, gP_sJ, gP_sL, gP_sPs, gP_sPn, gQ_sI, gQ_sA, gQ_sB, gQ_sJ, gQ_sL, gQ_sP, gQ_sQs, gQ_sQi, gQ_sQn, p2, p3, hp, ha, Bool.false_eq_true]
  · cases small
    · by_cases g : p - a ≤ 3
      · simp (disch := omega) only [Nat.zero_add, LT, BD_some, BD2_some, JN1, JN2, IX_nI, nI_add, pk_mul, pk_sub, leT, leF, ltT, ltF, eqT, eqF, M1_lit, bI_true, bI_false, BZ_n0, BZ_n1, BZ_b, ↓reduceIte, l_0, l_1, l_2, l_3, l_4, l_5, l_6, l_7, l_8, l_9, l_10, l_11, l_12, l_13, l_14, l_15, l_16, l_17, l_18, l_19, l_20, l_21, l_22, l_23, l_24, l_25, l_26, l_27, l_28, l_29, l_30, l_31, l_32, l_33, l_34, l_35, l_36, l_37, l_38, l_39, l_40, l_41, l_42, l_43, l_44, l_45, l_46, l_47, l_48, l_49, l_50, l_51, l_52, l_53, l_54, l_55, l_56, l_57, l_58, l_59, l_60, l_61, l_62, l_63, l_64, l_72, l_74, l_86, l_97, l_99, l_100, l_122, l_140, l_158, l_160, l_164, l_200, l_240, l_255, l_400, l_406, l_900, l_940, l_980, l_999, l_1120, l_1000, l_100000, gI_sIs, gI_sIn, gI_sA, gI_sJ, gI_sL, gI_sP, gI_sQ, gI_sB, gA_sAs, gA_sAi, gA_sAn, gA_sI, gA_sJ, gA_sL, gA_sP, gA_sQ, gA_sBs, gA_sBn, gJ_sJs, gJ_sJn, gJ_sI, gJ_sA, gJ_sB, gJ_sL, gL_sI, gL_sA, gL_sJ, gL_sB, gL_sLs, gL_sLi, gL_sLn, gP_sI, gP_sA, gP_sB, gP_sJ, gP_sL, gP_sPs, gP_sPn, gQ_sI, gQ_sA, gQ_sB, gQ_sJ, gQ_sL, gQ_sP, gQ_sQs, gQ_sQi, gQ_sQn, p2, p3, hp, ha, Bool.false_eq_true, g]
      · simp (disch := omega) only [Nat.zero_add, LT, BD_some, BD2_some, JN1, JN2, IX_nI, nI_add, pk_mul, pk_sub, leT, leF, ltT, ltF, eqT, eqF, M1_lit, bI_true, bI_false, BZ_n0, BZ_n1, BZ_b, ↓reduceIte, l_0, l_1, l_2, l_3, l_4, l_5, l_6, l_7, l_8, l_9, l_10, l_11, l_12, l_13, l_14, l_15, l_16, l_17, l_18, l_19, l_20, l_21, l_22, l_23, l_24, l_25, l_26, l_27, l_28, l_29, l_30, l_31, l_32, l_33, l_34, l_35, l_36, l_37, l_38, l_39, l_40, l_41, l_42, l_43, l_44, l_45, l_46, l_47, l_48, l_49, l_50, l_51, l_52, l_53, l_54, l_55, l_56, l_57, l_58, l_59, l_60, l_61, l_62, l_63, l_64, l_72, l_74, l_86, l_97, l_99, l_100, l_122, l_140, l_158, l_160, l_164, l_200, l_240, l_255, l_400, l_406, l_900, l_940, l_980, l_999, l_1120, l_1000, l_100000, gI_sIs, gI_sIn, gI_sA, gI_sJ, gI_sL, gI_sP, gI_sQ, gI_sB, gA_sAs, gA_sAi, gA_sAn, gA_sI, gA_sJ, gA_sL, gA_sP, gA_sQ, gA_sBs, gA_sBn, gJ_sJs, gJ_sJn, gJ_sI, gJ_sA, gJ_sB, gJ_sL, gL_sI, gL_sA, gL_sJ, gL_sB, gL_sLs, gL_sLi, gL_sLn, gP_sI, gP_sA, gP_sB, gP_sJ, gP_sL, gP_sPs, gP_sPn, gQ_sI, gQ_sA, gQ_sB, gQ_sJ, gQ_sL, gQ_sP, gQ_sQs, gQ_sQi, gQ_sQn, p2, p3, hp, ha, Bool.false_eq_true, g]
    · by_cases g : p - a ≤ 7
      · simp (disch := omega) only [Nat.zero_add, LT, BD_some, BD2_some, JN1, JN2, IX_nI, nI_add, pk_mul, pk_sub, leT, leF, ltT, ltF, eqT, eqF, M1_lit, bI_true, bI_false, BZ_n0, BZ_n1, BZ_b, ↓reduceIte, l_0, l_1, l_2, l_3, l_4, l_5, l_6, l_7, l_8, l_9, l_10, l_11, l_12, l_13, l_14, l_15, l_16, l_17, l_18, l_19, l_20, l_21, l_22, l_23, l_24, l_25, l_26, l_27, l_28, l_29, l_30, l_31, l_32, l_33, l_34, l_35, l_36, l_37, l_38, l_39, l_40, l_41, l_42, l_43, l_44, l_45, l_46, l_47, l_48, l_49, l_50, l_51, l_52, l_53, l_54, l_55, l_56, l_57, l_58, l_59, l_60, l_61, l_62, l_63, l_64, l_72, l_74, l_86, l_97, l_99, l_100, l_122, l_140, l_158, l_160, l_164, l_200, l_240, l_255, l_400, l_406, l_900, l_940, l_980, l_999, l_1120, l_1000, l_100000, gI_sIs, gI_sIn, gI_sA, gI_sJ, gI_sL, gI_sP, gI_sQ, gI_sB, gA_sAs, gA_sAi, gA_sAn, gA_sI, gA_sJ, gA_sL, gA_sP, gA_sQ, gA_sBs, gA_sBn, gJ_sJs, gJ_sJn, gJ_sI, gJ_sA, gJ_sB, gJ_sL, gL_sI, gL_sA, gL_sJ, gL_sB, gL_sLs, gL_sLi, gL_sLn, gP_sI, gP_sA, gP_sB, gP_sJ, gP_sL, gP_sPs, gP_sPn, gQ_sI, gQ_sA, gQ_sB, gQ_sJ, gQ_sL, gQ_sP, gQ_sQs, gQ_sQi, gQ_sQn, p2, p3, hp, ha, Bool.false_eq_true, g]
      · simp (disch := omega) only [Nat.zero_add, LT, BD_some, BD2_some, JN1, JN2, IX_nI, nI_add, pk_mul, pk_sub, leT, leF, ltT, ltF, eqT, eqF, M1_lit, bI_true, bI_false, BZ_n0, BZ_n1, BZ_b, ↓reduceIte, l_0, l_1, l_2, l_3, l_4, l_5, l_6, l_7, l_8, l_9, l_10, l_11, l_12, l_13, l_14, l_15, l_16, l_17, l_18, l_19, l_20, l_21, l_22, l_23, l_24, l_25, l_26, l_27, l_28, l_29, l_30, l_31, l_32, l_33, l_34, l_35, l_36, l_37, l_38, l_39, l_40, l_41, l_42, l_43, l_44, l_45, l_46, l_47, l_48, l_49, l_50, l_51, l_52, l_53, l_54, l_55, l_56, l_57, l_58, l_59, l_60, l_61, l_62, l_63, l_64, l_72, l_74, l_86, l_97, l_99, l_100, l_122, l_140, l_158, l_160, l_164, l_200, l_240, l_255, l_400, l_406, l_900, l_940, l_980, l_999, l_1120, l_1000, l_100000, gI_sIs, gI_sIn, gI_sA, gI_sJ, gI_sL, gI_sP, gI_sQ, gI_sB, gA_sAs, gA_sAi, gA_sAn, gA_sI, gA_sJ, gA_sL, gA_sP, gA_sQ, gA_sBs, gA_sBn, gJ_sJs, gJ_sJn, gJ_sI, gJ_sA, gJ_sB, gJ_sL, gL_sI, gL_sA, gL_sJ, gL_sB, gL_sLs, gL_sLi, gL_sLn, gP_sI, gP_sA, gP_sB, gP_sJ, gP_sL, gP_sPs, gP_sPn, gQ_sI, gQ_sA, gQ_sB, gQ_sJ, gQ_sL, gQ_sP, gQ_sQs, gQ_sQi, gQ_sQn, p2, p3, hp, ha, Bool.false_eq_true, g]
theorem gr_exit {s : Rec} {p a : Nat} {small fl : Bool} (rec : Int32 → Rec → Option Rec) (hT : TPE T c s) (hN : N ≤ 940) (h3 : gI s 3 = nI N) (hp : gI s 5 = nI p) (ha : gI s 6 = nI a) (hap : a ≤ p) (hp2 : p ≤ N) (hx : p < N → isL (T p) = false ∧ isD (T p) = false) : grB (bI small) rec (bI fl) s = some (sI s 7 (nI (mk (tkr small fl (p - a))))) := by
  have pk : ∃ v, m_tapeAt s (nI p) = some v ∧ m_isLetter v = some (nI 0) ∧ m_isDigit v = some (nI 0) := by
    by_cases g : p < N
    · have t1 := (hT p (by omega)).1
      obtain ⟨a1, a2⟩ := hx g
      exact ⟨_, tpAt_in hT hN h3 g, by rw [m_isLetter_v t1, a1]; rfl, by rw [m_isDigit_v t1, a2]; rfl⟩
    · exact ⟨_, tpAt_out hN h3 (by omega) (by omega), rfl, rfl⟩
  obtain ⟨v, p1, p2, p3⟩ := pk
  unfold grB tkr
  rw [hp, p1]
  cases fl
  · simp (disch := omega) only [Nat.zero_add, LT, BD_some, BD2_some, JN1, JN2, IX_nI, nI_add, pk_mul, pk_sub, leT, leF, ltT, ltF, eqT, eqF, M1_lit, bI_true, bI_false, BZ_n0, BZ_n1, BZ_b, ↓reduceIte, l_0, l_1, l_2, l_3, l_4, l_5, l_6, l_7, l_8, l_9, l_10, l_11, l_12, l_13, l_14, l_15, l_16, l_17, l_18, l_19, l_20, l_21, l_22, l_23, l_24, l_25, l_26, l_27, l_28, l_29, l_30, l_31, l_32, l_33, l_34, l_35, l_36, l_37, l_38, l_39, l_40, l_41, l_42, l_43, l_44, l_45, l_46, l_47, l_48, l_49, l_50, l_51, l_52, l_53, l_54, l_55, l_56, l_57, l_58, l_59, l_60, l_61, l_62, l_63, l_64, l_72, l_74, l_86, l_97, l_99, l_100, l_122, l_140, l_158, l_160, l_164, l_200, l_240, l_255, l_400, l_406, l_900, l_940, l_980, l_999, l_1120, l_1000, l_100000, gI_sIs, gI_sIn, gI_sA, gI_sJ, gI_sL, gI_sP, gI_sQ, gI_sB, gA_sAs, gA_sAi, gA_sAn, gA_sI, gA_sJ, gA_sL, gA_sP, gA_sQ, gA_sBs, gA_sBn, gJ_sJs, gJ_sJn, gJ_sI, gJ_sA, gJ_sB, gJ_sL, gL_sI, gL_sA, gL_sJ, gL_sB, gL_sLs, gL_sLi, gL_sLn, gP_sI, gP_sA, gP_sB, gP_sJ, gP_sL, gP_sPs, gP_sPn, gQ_sI, gQ_sA, gQ_sB, gQ_sJ, gQ_sL, gQ_sP, gQ_sQs, gQ_sQi, gQ_sQn, p2, p3, hp, ha, Bool.false_eq_true, mk]
  · cases small
    · by_cases g : p - a ≤ 3
      · simp (disch := omega) only [Nat.zero_add, LT, BD_some, BD2_some, JN1, JN2, IX_nI, nI_add, pk_mul, pk_sub, leT, leF, ltT, ltF, eqT, eqF, M1_lit, bI_true, bI_false, BZ_n0, BZ_n1, BZ_b, ↓reduceIte, l_0, l_1, l_2, l_3, l_4, l_5, l_6, l_7, l_8, l_9, l_10, l_11, l_12, l_13, l_14, l_15, l_16, l_17, l_18, l_19, l_20, l_21, l_22, l_23, l_24, l_25, l_26, l_27, l_28, l_29, l_30, l_31, l_32, l_33, l_34, l_35, l_36, l_37, l_38, l_39, l_40, l_41, l_42, l_43, l_44, l_45, l_46, l_47, l_48, l_49, l_50, l_51, l_52, l_53, l_54, l_55, l_56, l_57, l_58, l_59, l_60, l_61, l_62, l_63, l_64, l_72, l_74, l_86, l_97, l_99, l_100, l_122, l_140, l_158, l_160, l_164, l_200, l_240, l_255, l_400, l_406, l_900, l_940, l_980, l_999, l_1120, l_1000, l_100000, gI_sIs, gI_sIn, gI_sA, gI_sJ, gI_sL, gI_sP, gI_sQ, gI_sB, gA_sAs, gA_sAi, gA_sAn, gA_sI, gA_sJ, gA_sL, gA_sP, gA_sQ, gA_sBs, gA_sBn, gJ_sJs, gJ_sJn, gJ_sI, gJ_sA, gJ_sB, gJ_sL, gL_sI, gL_sA, gL_sJ, gL_sB, gL_sLs, gL_sLi, gL_sLn, gP_sI, gP_sA, gP_sB, gP_sJ, gP_sL, gP_sPs, gP_sPn, gQ_sI, gQ_sA, gQ_sB, gQ_sJ, gQ_sL, gQ_sP, gQ_sQs, gQ_sQi, gQ_sQn, p2, p3, hp, ha, Bool.false_eq_true, g, mk]
      · simp (disch := omega) only [Nat.zero_add, LT, BD_some, BD2_some, JN1, JN2, IX_nI, nI_add, pk_mul, pk_sub, leT, leF, ltT, ltF, eqT, eqF, M1_lit, bI_true, bI_false, BZ_n0, BZ_n1, BZ_b, ↓reduceIte, l_0, l_1, l_2, l_3, l_4, l_5, l_6, l_7, l_8, l_9, l_10, l_11, l_12, l_13, l_14, l_15, l_16, l_17, l_18, l_19, l_20, l_21, l_22, l_23, l_24, l_25, l_26, l_27, l_28, l_29, l_30, l_31, l_32, l_33, l_34, l_35, l_36, l_37, l_38, l_39, l_40, l_41, l_42, l_43, l_44, l_45, l_46, l_47, l_48, l_49, l_50, l_51, l_52, l_53, l_54, l_55, l_56, l_57, l_58, l_59, l_60, l_61, l_62, l_63, l_64, l_72, l_74, l_86, l_97, l_99, l_100, l_122, l_140, l_158, l_160, l_164, l_200, l_240, l_255, l_400, l_406, l_900, l_940, l_980, l_999, l_1120, l_1000, l_100000, gI_sIs, gI_sIn, gI_sA, gI_sJ, gI_sL, gI_sP, gI_sQ, gI_sB, gA_sAs, gA_sAi, gA_sAn, gA_sI, gA_sJ, gA_sL, gA_sP, gA_sQ, gA_sBs, gA_sBn, gJ_sJs, gJ_sJn, gJ_sI, gJ_sA, gJ_sB, gJ_sL, gL_sI, gL_sA, gL_sJ, gL_sB, gL_sLs, gL_sLi, gL_sLn, gP_sI, gP_sA, gP_sB, gP_sJ, gP_sL, gP_sPs, gP_sPn, gQ_sI, gQ_sA, gQ_sB, gQ_sJ, gQ_sL, gQ_sP, gQ_sQs, gQ_sQi, gQ_sQn, p2, p3, hp, ha, Bool.false_eq_true, g, mk]
    · by_cases g : p - a ≤ 7
      · simp (disch := omega) only [Nat.zero_add, LT, BD_some, BD2_some, JN1, JN2, IX_nI, nI_add, pk_mul, pk_sub, leT, leF, ltT, ltF, eqT, eqF, M1_lit, bI_true, bI_false, BZ_n0, BZ_n1, BZ_b, ↓reduceIte, l_0, l_1, l_2, l_3, l_4, l_5, l_6, l_7, l_8, l_9, l_10, l_11, l_12, l_13, l_14, l_15, l_16, l_17, l_18, l_19, l_20, l_21, l_22, l_23, l_24, l_25, l_26, l_27, l_28, l_29, l_30, l_31, l_32, l_33, l_34, l_35, l_36, l_37, l_38, l_39, l_40, l_41, l_42, l_43, l_44, l_45, l_46, l_47, l_48, l_49, l_50, l_51, l_52, l_53, l_54, l_55, l_56, l_57, l_58, l_59, l_60, l_61, l_62, l_63, l_64, l_72, l_74, l_86, l_97, l_99, l_100, l_122, l_140, l_158, l_160, l_164, l_200, l_240, l_255, l_400, l_406, l_900, l_940, l_980, l_999, l_1120, l_1000, l_100000, gI_sIs, gI_sIn, gI_sA, gI_sJ, gI_sL, gI_sP, gI_sQ, gI_sB, gA_sAs, gA_sAi, gA_sAn, gA_sI, gA_sJ, gA_sL, gA_sP, gA_sQ, gA_sBs, gA_sBn, gJ_sJs, gJ_sJn, gJ_sI, gJ_sA, gJ_sB, gJ_sL, gL_sI, gL_sA, gL_sJ, gL_sB, gL_sLs, gL_sLi, gL_sLn, gP_sI, gP_sA, gP_sB, gP_sJ, gP_sL, gP_sPs, gP_sPn, gQ_sI, gQ_sA, gQ_sB, gQ_sJ, gQ_sL, gQ_sP, gQ_sQs, gQ_sQi, gQ_sQn, p2, p3, hp, ha, Bool.false_eq_true, g, mk]
      · simp (disch := omega) only [Nat.zero_add, LT, BD_some, BD2_some, JN1, JN2, IX_nI, nI_add, pk_mul, pk_sub, leT, leF, ltT, ltF, eqT, eqF, M1_lit, bI_true, bI_false, BZ_n0, BZ_n1, BZ_b, ↓reduceIte, l_0, l_1, l_2, l_3, l_4, l_5, l_6, l_7, l_8, l_9, l_10, l_11, l_12, l_13, l_14, l_15, l_16, l_17, l_18, l_19, l_20, l_21, l_22, l_23, l_24, l_25, l_26, l_27, l_28, l_29, l_30, l_31, l_32, l_33, l_34, l_35, l_36, l_37, l_38, l_39, l_40, l_41, l_42, l_43, l_44, l_45, l_46, l_47, l_48, l_49, l_50, l_51, l_52, l_53, l_54, l_55, l_56, l_57, l_58, l_59, l_60, l_61, l_62, l_63, l_64, l_72, l_74, l_86, l_97, l_99, l_100, l_122, l_140, l_158, l_160, l_164, l_200, l_240, l_255, l_400, l_406, l_900, l_940, l_980, l_999, l_1120, l_1000, l_100000, gI_sIs, gI_sIn, gI_sA, gI_sJ, gI_sL, gI_sP, gI_sQ, gI_sB, gA_sAs, gA_sAi, gA_sAn, gA_sI, gA_sJ, gA_sL, gA_sP, gA_sQ, gA_sBs, gA_sBn, gJ_sJs, gJ_sJn, gJ_sI, gJ_sA, gJ_sB, gJ_sL, gL_sI, gL_sA, gL_sJ, gL_sB, gL_sLs, gL_sLi, gL_sLn, gP_sI, gP_sA, gP_sB, gP_sJ, gP_sL, gP_sPs, gP_sPn, gQ_sI, gQ_sA, gQ_sB, gQ_sJ, gQ_sL, gQ_sP, gQ_sQs, gQ_sQi, gQ_sQn, p2, p3, hp, ha, Bool.false_eq_true, g, mk]
/-- letters and digits -/
def aln (t : Nat) : Bool := isL t || isD t
theorem x5_run_v {s : Rec} {q len : Nat} {small : Bool} (hT : TPE T s m) (hN : N ≤ 940) (h2 : gI s 2 = nI N) (hp : gI s (rb j + 1) = nI q) (ha : gI s (rb j + 2) = nI q) (hlen : q + len ≤ N) (hin : ∀ i, i < len → aln (T (q + i)) = true) (hx : q + len < N → aln (T (q + len)) = false) : ∃ s', x5_run j s (bI small) = some s' ∧ FRc j s s' ∧ gI s' (rb j + 1) = nI (q + len) ∧ gI s' (rb j + 2) = nI q ∧ gI s' (rb j + 3) = nI (tkr small (alN T q small len) len) ∧ gI s' (rb j + 5) = nI len ∧ (alN T q small len = true → small = true → gJ s' (rb j + 6) = lN (p8 (rl T q (min len 7)))) ∧ (alN T q small len = true → small = false → gI s' (rb j + 4) = nI (nmb T q (min len 3))) := by
  have hr := rb_le j
  rw [rn_eq]
  refine LP2_inv (fun i a1 a2 => a1 = bI (alN T q small i) ∧ FRc j s a2 ∧ gI a2 (rb j + 1) = nI (q + i) ∧ gI a2 (rb j + 2) = nI q ∧ (alN T q small i = true → small = true → gJ a2 (rb j + 6) = lN (p8 (rl T q (min i 7)))) ∧ (alN T q small i = true → small = false → gI a2 (rb j + 4) = nI (nmb T q (min i 3)))) (fun o => ∃ s', o = some s' ∧ FRc j s s' ∧ gI s' (rb j + 1) = nI (q + len) ∧ gI s' (rb j + 2) = nI q ∧ gI s' (rb j + 3) = nI (tkr small (alN T q small len) len) ∧ gI s' (rb j + 5) = nI len ∧ (alN T q small len = true → small = true → gJ s' (rb j + 6) = lN (p8 (rl T q (min len 7)))) ∧ (alN T q small len = true → small = false → gI s' (rb j + 4) = nI (nmb T q (min len 3)))) len (by omega) ⟨rfl, FRc_sJ (FRc_sI (FRc.refl j s) _ (by omega) (by omega)) _ _, ?_, ?_, fun _ _ => gJ_sJs _ _ _, fun _ _ => gI_sIs _ _ _⟩ (fun i a1 a2 rec hi hI => Or.inl ?_) (fun a1 a2 rec hI => ?_)
  · rw [gI_sJ, gI_sIn _ _ (by omega)]; exact hp
  · rw [gI_sJ, gI_sIn _ _ (by omega)]; exact ha
  · obtain ⟨rfl, i1, i2, i3, i4, i5⟩ := hI
    have hT2 : TPE T a2 m := TPE_ext hT (i1.gA 0) rfl
    have h22 : gI a2 2 = nI N := (i1.2.2 2 (by omega)).trans h2
    have hal := hin i hi
    have hal2 : isL (T (q + i)) = true ∨ isD (T (q + i)) = true := by unfold aln at hal; simpa using hal
    obtain ⟨s', k1, k2, k3, k4, k5, k6⟩ := rn_step (small := small) (fl := alN T q small i) rec hT2 hN h22 i2 i3 (by omega) (by omega) hal2
    refine ⟨_, s', ⟨rfl, i1.trans k2, by rw [k3]; rfl, k4, fun e1 e2 => ?_, fun e1 e2 => ?_⟩, k1⟩
    · have hm := i4 (al_mono e1) e2
      have hl := al_all e1 i (by omega)
      rw [k5, show q + i - q = i by omega]
      by_cases g : 7 ≤ i
      · rw [if_pos g, hm, show min (i + 1) 7 = min i 7 by omega]
      · have hlt : p8 (rl T q i) < 2 ^ 55 := by
          have h0 := p8_lt (rl T q i) (rl_mem (fun t ht => by rw [al_all e1 t (by omega)]; exact e2))
          rw [rl_len] at h0
          have h1 : (256 : Nat) ^ i ≤ 256 ^ 6 := Nat.pow_le_pow_right (by omega) (by omega)
          have h2 : (256 : Nat) ^ 6 ≤ 2 ^ 55 := by decide
          omega
        have t1 := (hT (q + i) (by omega)).1
        rw [if_neg g, hm, show min i 7 = i by omega, show min (i + 1) 7 = i + 1 by omega, l_shl8 hlt, l_or hlt t1]
        rfl
    · have hm := i5 (al_mono e1) e2
      have hl := al_all e1 i (by omega)
      rw [e2] at hl
      have hdd : isD (T (q + i)) = true := by
        rcases hal2 with h1 | h1
        · rw [hl] at h1; cases h1
        · exact h1
      unfold isD at hdd
      simp only [Bool.and_eq_true, decide_eq_true_eq] at hdd
      rw [k6, show q + i - q = i by omega]
      by_cases g : 3 ≤ i
      · rw [if_pos g, hm, show min (i + 1) 3 = min i 3 by omega]
      · rw [if_neg g, hm, show min i 3 = i by omega, show min (i + 1) 3 = i + 1 by omega, pk_mul, nI_add, pk_sub (by omega)]
        show nI _ = nI (10 * nmb T q i + (T (q + i) - 48))
        congr 1; omega
  · obtain ⟨rfl, i1, i2, i3, i4, i5⟩ := hI
    have hT2 : TPE T a2 m := TPE_ext hT (i1.gA 0) rfl
    have h22 : gI a2 2 = nI N := (i1.2.2 2 (by omega)).trans h2
    have ex := rn_exit (small := small) (fl := alN T q small len) rec hT2 hN h22 i2 i3 (by omega) hlen (fun g => by
      have := hx g
      unfold aln at this
      simpa using this)
    rw [show q + len - q = len by omega] at ex
    refine ⟨_, ex, FRc_sI (FRc_sI i1 _ (by omega) (by omega)) _ (by omega) (by omega), ?_, ?_, gI_sIs _ _ _, ?_, fun e1 e2 => ?_, fun e1 e2 => ?_⟩
    · rw [gI_sIn _ _ (by omega), gI_sIn _ _ (by omega)]; exact i2
    · rw [gI_sIn _ _ (by omega), gI_sIn _ _ (by omega)]; exact i3
    · rw [gI_sIn _ _ (by omega), gI_sIs]
    · rw [gJ_sI, gJ_sI]; exact i4 e1 e2
    · rw [gI_sIn _ _ (by omega), gI_sIn _ _ (by omega)]; exact i5 e1 e2
theorem m_run_v {s : Rec} {q len : Nat} {small : Bool} (hT : TPE T c s) (hN : N ≤ 940) (h3 : gI s 3 = nI N) (hp : gI s 5 = nI q) (ha : gI s 6 = nI q) (hlen : q + len ≤ N) (hin : ∀ i, i < len → aln (T (q + i)) = true) (hx : q + len < N → aln (T (q + len)) = false) : ∃ s', LP2 (grB (bI small)) FU 1 (sI (sJ s 12 0) 8 0) = some s' ∧ FRn s s' ∧ gI s' 5 = nI (q + len) ∧ gI s' 6 = nI q ∧ gI s' 7 = nI (mk (tkr small (alN T q small len) len)) ∧ (alN T q small len = true → small = true → gJ s' 12 = lN (p27 (rl T q (min len 7)))) ∧ (alN T q small len = true → small = false → gI s' 8 = nI (nmb T q (min len 3))) := by
  refine LP2_inv (fun i a1 a2 => a1 = bI (alN T q small i) ∧ FRn s a2 ∧ gI a2 5 = nI (q + i) ∧ gI a2 6 = nI q ∧ (alN T q small i = true → small = true → gJ a2 12 = lN (p27 (rl T q (min i 7)))) ∧ (alN T q small i = true → small = false → gI a2 8 = nI (nmb T q (min i 3)))) (fun o => ∃ s', o = some s' ∧ FRn s s' ∧ gI s' 5 = nI (q + len) ∧ gI s' 6 = nI q ∧ gI s' 7 = nI (mk (tkr small (alN T q small len) len)) ∧ (alN T q small len = true → small = true → gJ s' 12 = lN (p27 (rl T q (min len 7)))) ∧ (alN T q small len = true → small = false → gI s' 8 = nI (nmb T q (min len 3)))) len (by omega) ⟨rfl, FRn_sI (FRn_sJ (FRn.refl s) _ _) _ (by omega) (by omega), hp, ha, fun _ _ => gJ_sJs _ _ _, fun _ _ => gI_sIs _ _ _⟩ (fun i a1 a2 rec hi hI => Or.inl ?_) (fun a1 a2 rec hI => ?_)
  · obtain ⟨rfl, i1, i2, i3, i4, i5⟩ := hI
    have hT2 : TPE T c a2 := TPE_ext hT rfl (i1.gA 1)
    have h32 : gI a2 3 = nI N := (i1.2.2 3 (by omega)).trans h3
    have hal := hin i hi
    have hal2 : isL (T (q + i)) = true ∨ isD (T (q + i)) = true := by unfold aln at hal; simpa using hal
    obtain ⟨s', k1, k2, k3, k4, k5, k6⟩ := gr_step (small := small) (fl := alN T q small i) rec hT2 hN h32 i2 i3 (by omega) (by omega) hal2
    refine ⟨_, s', ⟨rfl, i1.trans k2, by rw [k3]; rfl, k4, fun e1 e2 => ?_, fun e1 e2 => ?_⟩, k1⟩
    · have hm := i4 (al_mono e1) e2
      have hl := al_all e1 i (by omega)
      rw [e2] at hl
      unfold isL at hl
      simp only [Bool.and_eq_true, decide_eq_true_eq] at hl
      rw [k5, show q + i - q = i by omega]
      by_cases g : 7 ≤ i
      · rw [if_pos g, hm, show min (i + 1) 7 = min i 7 by omega]
      · rw [if_neg g, hm, show min i 7 = i by omega, show min (i + 1) 7 = i + 1 by omega, show (27 : Int64) = lN 27 from rfl, show (96 : Int64) = lN 96 from rfl, lN_mul, lN_add, lN_sub (by omega)]
        show lN _ = lN (p27 (rl T q i) * 27 + (T (q + i) - 96))
        congr 1; omega
    · have hm := i5 (al_mono e1) e2
      have hl := al_all e1 i (by omega)
      rw [e2] at hl
      have hdd : isD (T (q + i)) = true := by
        rcases hal2 with h1 | h1
        · rw [hl] at h1; cases h1
        · exact h1
      unfold isD at hdd
      simp only [Bool.and_eq_true, decide_eq_true_eq] at hdd
      rw [k6, show q + i - q = i by omega]
      by_cases g : 3 ≤ i
      · rw [if_pos g, hm, show min (i + 1) 3 = min i 3 by omega]
      · rw [if_neg g, hm, show min i 3 = i by omega, show min (i + 1) 3 = i + 1 by omega, pk_mul, nI_add, pk_sub (by omega)]
        show nI _ = nI (10 * nmb T q i + (T (q + i) - 48))
        congr 1; omega
  · obtain ⟨rfl, i1, i2, i3, i4, i5⟩ := hI
    have hT2 : TPE T c a2 := TPE_ext hT rfl (i1.gA 1)
    have h32 : gI a2 3 = nI N := (i1.2.2 3 (by omega)).trans h3
    have ex := gr_exit (small := small) (fl := alN T q small len) rec hT2 hN h32 i2 i3 (by omega) hlen (fun g => by
      have := hx g
      unfold aln at this
      simpa using this)
    rw [show q + len - q = len by omega] at ex
    refine ⟨_, ex, FRn_sI i1 _ (by omega) (by omega), ?_, ?_, gI_sIs _ _ _, fun e1 e2 => ?_, fun e1 e2 => ?_⟩
    · rw [gI_sIn _ _ (by omega)]; exact i2
    · rw [gI_sIn _ _ (by omega)]; exact i3
    · rw [gJ_sI]; exact i4 e1 e2
    · rw [gI_sIn _ _ (by omega)]; exact i5 e1 e2
end LEX
