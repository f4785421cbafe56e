/-! PURE: tokens: the next one -/
def LX0 (j : Nat) (T : Nat → Nat) (N : Nat) (c m : Rec) (p a k v : Nat) (l : List Nat) : Prop :=
  gI c 2 = nI N ∧ gI m 3 = nI N ∧ N ≤ 940 ∧ gI m 4 = mo j ∧ gI c (rb j + 1) = nI p ∧ gI m 5 = nI p ∧ p ≤ N ∧ gI c (rb j + 2) = nI a ∧ gI m 6 = nI a ∧ a ≤ 940 ∧ k ≤ 4 ∧ gI c (rb j + 3) = nI k ∧ gI m 7 = nI (mk k) ∧
  (k = 1 → WD l ∧ gI c (rb j + 5) = nI l.length ∧ gJ c (rb j + 6) = lN (p8 l) ∧ gJ m 12 = lN (p27 l) ∧ a + l.length ≤ N ∧ (∀ i, i < l.length → T (a + i) = l.reverse.getD i 0)) ∧
  (k = 2 → v ≤ 999 ∧ gI c (rb j + 4) = nI v ∧ gI m 8 = nI v) ∧
  (k = 3 → v < 256 ∧ gI c (rb j + 4) = nI v ∧ gI m 9 = nI v)
theorem mo_v (j : Nat) : ∃ M, mo j = nI M ∧ 200 ≤ M ∧ M ≤ 900 := by
  unfold mo
  split
  · exact ⟨900, rfl, by omega, by omega⟩
  · exact ⟨400, rfl, by omega, by omega⟩
  · exact ⟨200, rfl, by omega, by omega⟩
def sgn (t : Nat) : Bool := decide (t = 59) || (decide (t = 40) || (decide (t = 41) || (decide (60 ≤ t) && decide (t ≤ 62))))
theorem tkr_1 {s f : Bool} {n : Nat} (h : tkr s f n = 1) : s = true ∧ f = true ∧ n ≤ 7 := by
  unfold tkr at h
  cases f
  · simp at h
  · cases s
    · by_cases g : n ≤ 3
      · simp [g] at h
      · simp [g] at h
    · by_cases g : n ≤ 7
      · exact ⟨rfl, rfl, g⟩
      · simp [g] at h
theorem tkr_2 {s f : Bool} {n : Nat} (h : tkr s f n = 2) : s = false ∧ f = true ∧ n ≤ 3 := by
  unfold tkr at h
  cases f
  · simp at h
  · cases s
    · by_cases g : n ≤ 3
      · exact ⟨rfl, rfl, g⟩
      · simp [g] at h
    · by_cases g : n ≤ 7
      · simp [g] at h
      · simp [g] at h
theorem tkr_3 {s f : Bool} {n : Nat} : tkr s f n ≠ 3 := by
  unfold tkr
  (repeat' split) <;> omega
section LEX
variable {j : Nat} {T : Nat → Nat} {N : Nat} {c m : Rec}
theorem skip_ex (T : Nat → Nat) (p N : Nat) (h : p ≤ N) : ∃ q, p ≤ q ∧ q ≤ N ∧ (∀ i, p ≤ i → i < q → T i = 32 ∨ T i = 10) ∧ (q < N → T q ≠ 32 ∧ T q ≠ 10) := by
  rcases least_cases (fun i => !(decide (T (p + i) = 32) || decide (T (p + i) = 10))) (N - p) with ⟨k, h1, h2, h3⟩ | hn
  · refine ⟨p + k, by omega, by omega, fun i hi hi2 => ?_, fun _ => ?_⟩
    · have := h3 (i - p) (by omega)
      rw [show p + (i - p) = i by omega] at this
      by_cases h32 : T i = 32
      · exact Or.inl h32
      · exact Or.inr (by simpa [h32] using this)
    · simpa using h2
  · refine ⟨N, h, Nat.le_refl _, fun i hi hi2 => ?_, fun hh => absurd hh (Nat.lt_irrefl _)⟩
    have := hn (i - p) (by omega)
    rw [show p + (i - p) = i by omega] at this
    by_cases h32 : T i = 32
    · exact Or.inl h32
    · exact Or.inr (by simpa [h32] using this)
theorem run_ex (T : Nat → Nat) (q N : Nat) (h : q < N) (h0 : aln (T q) = true) : ∃ n, 1 ≤ n ∧ q + n ≤ N ∧ (∀ i, i < n → aln (T (q + i)) = true) ∧ (q + n < N → aln (T (q + n)) = false) := by
  rcases least_cases (fun i => !aln (T (q + i))) (N - q) with ⟨k, h1, h2, h3⟩ | hn
  · refine ⟨k, ?_, by omega, fun i hi => by simpa using h3 i hi, fun _ => by simpa using h2⟩
    by_cases e : k = 0
    · subst e
      rw [Nat.add_zero, h0] at h2
      cases h2
    · omega
  · exact ⟨N - q, by omega, by omega, fun i hi => by simpa using hn i hi, fun hh => by omega⟩
theorem lex0_v {p : Nat} (hT : TPE T c m) (hN : N ≤ 940) (h2 : gI c 2 = nI N) (h3 : gI m 3 = nI N) (h4 : gI m 4 = mo j) (hp : gI c (rb j + 1) = nI p) (hq : gI m 5 = nI p) (hpN : p ≤ N) : ∃ c' m' p' a k v l, x5_next j c = some c' ∧ m_go m = some m' ∧ FRc j c c' ∧ FRn m m' ∧ LX0 j T N c' m' p' a k v l ∧ p ≤ p' ∧ (1 ≤ k → k ≤ 3 → p < p') := by
  have hr := rb_le j
  obtain ⟨M, hM, hM1, hM2⟩ := mo_v j
  rw [hM] at h4
  obtain ⟨q, q1, q2, q3, q4⟩ := skip_ex T p N hpN
  have f0 : c = sI c (rb j + 1) (nI (p + 0)) := by
    have e : nI (p + 0) = gI c (rb j + 1) := hp.symm
    rw [e, sI_id]
  have g0 : m = sI m 5 (nI (p + 0)) := by
    have e : nI (p + 0) = gI m 5 := hq.symm
    rw [e, sI_id]
  have cl : ∀ {r : Option Rec}, (∀ rec, nxB j rec (sI c (rb j + 1) (nI q)) = r) → x5_next j c = r := by
    intro r h
    rw [nx_eq]
    refine LP1_run (fun i => sI c (rb j + 1) (nI (p + i))) 0 (q - p) (by omega) f0 (fun i _ hi rec => ?_) (fun rec => ?_)
    · have e1 : gI (sI c (rb j + 1) (nI (p + i))) (rb j + 1) = nI (p + i) := gI_sIs _ _ _
      have e2 : gI (sI c (rb j + 1) (nI (p + i))) 2 = nI N := by rw [gI_sIn _ _ (by omega)]; exact h2
      have pk := peek_in (j := j) (T := T) (m := m) (s := sI c (rb j + 1) (nI (p + i))) (TPE_ext hT rfl rfl) hN e2 e1 (by omega)
      show nxB j rec (sI c (rb j + 1) (nI (p + i))) = rec (sI c (rb j + 1) (nI (p + (i + 1))))
      unfold nxB
      rw [pk, BD_some, JN1]
      have fin : LT (sI (sI c (rb j + 1) (nI (p + i))) (rb j + 1) ((gI (sI c (rb j + 1) (nI (p + i))) (rb j + 1)) + (1 : Int32))) (fun s7 => rec s7) = rec (sI c (rb j + 1) (nI (p + (i + 1)))) := by
        rw [LT, gI_sIs, sI_sI, nI_1]; rfl
      rcases q3 (p + i) (by omega) (by omega) with e | e
      · rw [e]
        exact (if_pos rfl).trans fin
      · rw [e, BD_some]
        exact (if_neg (by decide)).trans ((if_pos rfl).trans fin)
    · have e : p + (0 + (q - p)) = q := by omega
      show nxB j rec (sI c (rb j + 1) (nI (p + (0 + (q - p))))) = r
      rw [e]; exact h rec
  have ml : ∀ {r : Option Rec}, (∀ rec, goB rec (sI m 5 (nI q)) = r) → m_go m = r := by
    intro r h
    rw [go_eq]
    refine LP1_run (fun i => sI m 5 (nI (p + i))) 0 (q - p) (by omega) g0 (fun i _ hi rec => ?_) (fun rec => ?_)
    · have t2 := (hT (p + i) (by omega)).2.1
      show goB rec (sI m 5 (nI (p + i))) = rec (sI m 5 (nI (p + (i + 1))))
      unfold goB
      have fin : LT (sI (sI m 5 (nI (p + i))) 5 ((gI (sI m 5 (nI (p + i))) 5) + (1 : Int32))) (fun s7 => rec s7) = rec (sI m 5 (nI (p + (i + 1)))) := by
        rw [LT, gI_sIs, sI_sI, nI_1]; rfl
      have e3 : gI (sI m 5 (nI (p + i))) 3 = nI N := h3
      have e1 : gA (sI m 5 (nI (p + i))) 1 (p + i) = nI (T (p + i)) := t2
      rw [JN1, e3, gI_sIs, if_neg (nI_ge (by omega) (by omega)), IX_nI _ (by omega) (by omega), JN1, e1]
      rcases q3 (p + i) (by omega) (by omega) with e | e
      · rw [e]
        exact (if_pos rfl).trans (by rw [gI_sIs] at fin; exact fin)
      · rw [e]
        exact (if_neg (by decide)).trans ((if_pos rfl).trans (by rw [gI_sIs] at fin; exact fin))
    · have e : p + (0 + (q - p)) = q := by omega
      show goB rec (sI m 5 (nI (p + (0 + (q - p))))) = r
      rw [e]; exact h rec
  have c2 : gI (sI c (rb j + 1) (nI q)) 2 = nI N := by rw [gI_sIn _ _ (by omega)]; exact h2
  have pk : ∀ s, FRc j (sI c (rb j + 1) (nI q)) s → gI s (rb j + 1) = nI q → (q < N → x5_peek j s = some (nI (T q))) ∧ (N ≤ q → x5_peek j s = some M1) := fun s hs hs1 => ⟨fun g => peek_in (m := m) (TPE_ext hT (hs.gA 0) rfl) hN ((hs.2.2 2 (by omega)).trans c2) hs1 g, fun g => peek_out hN ((hs.2.2 2 (by omega)).trans c2) hs1 g (by omega)⟩
  have k1 := pk _ (FRc.refl j _) (gI_sIs _ _ _)
  have frc : FRc j c (sI c (rb j + 1) (nI q)) := FRc_sI (FRc.refl j c) _ (by omega) (by omega)
  have frn : FRn m (sI m 5 (nI q)) := FRn_sI (FRn.refl m) _ (by omega) (by omega)
  have s10 : gI (sI (sI c (rb j + 1) (nI q)) (rb j + 2) (nI q)) (rb j + 1) = nI q := by rw [gI_sIn _ _ (by omega), gI_sIs]
  have fr10 : FRc j (sI c (rb j + 1) (nI q)) (sI (sI c (rb j + 1) (nI q)) (rb j + 2) (nI q)) := FRc_sI (FRc.refl j _) _ (by omega) (by omega)
  have k2 := pk _ fr10 s10
  have m3 : gI (sI m 5 (nI q)) 3 = nI N := h3
  have m4 : gI (sI m 5 (nI q)) 4 = nI M := h4
  have hc1 : gI (sI c (rb j + 1) (nI q)) (rb j + 1) = nI q := gI_sIs _ _ _
  generalize hC1 : sI c (rb j + 1) (nI q) = c1 at cl c2 pk k1 frc s10 fr10 k2 hc1
  have n5 : gI (sI m 5 (nI q)) 5 = nI q := gI_sIs _ _ _
  have mT1 : TPE T c (sI m 5 (nI q)) := hT
  generalize hM1' : sI m 5 (nI q) = m1 at ml frn m3 m4 n5 mT1
  by_cases gM : M < N ∧ M ≤ q
  · have hMM := gM.1
    have hMQ := gM.2
    refine ⟨sI (sI (sI c1 (rb j + 2) (nI q)) (rb j + 2) (nI M)) (rb j + 3) (nI 4), sI (sI (sI m1 6 (nI q)) 6 (nI M)) 7 (nI 1), q, M, 4, 0, [], cl (fun rec => ?_), ml (fun rec => ?_), FRc_sI (FRc_sI (FRc_sI frc _ (by omega) (by omega)) _ (by omega) (by omega)) _ (by omega) (by omega), FRn_sI (FRn_sI (FRn_sI frn _ (by omega) (by omega)) _ (by omega) (by omega)) _ (by omega) (by omega), ⟨?_, m3, hN, by rw [hM]; exact m4, ?_, n5, q2, ?_, ?_, by omega, by omega, gI_sIs _ _ _, gI_sIs _ _ _, fun h => by omega, fun h => by omega, fun h => by omega⟩, q1, fun _ h => by omega⟩
    · unfold nxB
      by_cases gq : q < N
      · obtain ⟨b1, b2⟩ := q4 gq
        have t1 := (hT q (by omega)).1
        simp (disch := omega) only [Nat.zero_add, LT, BD_some, BD2_some, JN1, JN2, IX_nI, nI_add, pk_mul, pk_sub, leT, leF, ltT, ltF, eqT, eqF, M1_lit, bI_true, bI_false, BZ_n0, BZ_n1, BZ_b, ↓reduceIte, l_0, l_1, l_2, l_3, l_4, l_5, l_6, l_7, l_8, l_9, l_10, l_11, l_12, l_13, l_14, l_15, l_16, l_17, l_18, l_19, l_20, l_21, l_22, l_23, l_24, l_25, l_26, l_27, l_28, l_29, l_30, l_31, l_32, l_33, l_34, l_35, l_36, l_37, l_38, l_39, l_40, l_41, l_42, l_43, l_44, l_45, l_46, l_47, l_48, l_49, l_50, l_51, l_52, l_53, l_54, l_55, l_56, l_57, l_58, l_59, l_60, l_61, l_62, l_63, l_64, l_72, l_74, l_86, l_97, l_99, l_100, l_122, l_140, l_158, l_160, l_164, l_200, l_240, l_255, l_400, l_406, l_900, l_940, l_980, l_999, l_1120, l_1000, l_100000, gI_sIs, gI_sIn, gI_sA, gI_sJ, gI_sL, gI_sP, gI_sQ, gI_sB, gA_sAs, gA_sAi, gA_sAn, gA_sI, gA_sJ, gA_sL, gA_sP, gA_sQ, gA_sBs, gA_sBn, gJ_sJs, gJ_sJn, gJ_sI, gJ_sA, gJ_sB, gJ_sL, gL_sI, gL_sA, gL_sJ, gL_sB, gL_sLs, gL_sLi, gL_sLn, gP_sI, gP_sA, gP_sB, gP_sJ, gP_sL, gP_sPs, gP_sPn, gQ_sI, gQ_sA, gQ_sB, gQ_sJ, gQ_sL, gQ_sP, gQ_sQs, gQ_sQi, gQ_sQn, k1.1 gq, hc1, c2, hM]
      · simp (disch := omega) only [Nat.zero_add, LT, BD_some, BD2_some, JN1, JN2, IX_nI, nI_add, pk_mul, pk_sub, leT, leF, ltT, ltF, eqT, eqF, M1_lit, bI_true, bI_false, BZ_n0, BZ_n1, BZ_b, ↓reduceIte, l_0, l_1, l_2, l_3, l_4, l_5, l_6, l_7, l_8, l_9, l_10, l_11, l_12, l_13, l_14, l_15, l_16, l_17, l_18, l_19, l_20, l_21, l_22, l_23, l_24, l_25, l_26, l_27, l_28, l_29, l_30, l_31, l_32, l_33, l_34, l_35, l_36, l_37, l_38, l_39, l_40, l_41, l_42, l_43, l_44, l_45, l_46, l_47, l_48, l_49, l_50, l_51, l_52, l_53, l_54, l_55, l_56, l_57, l_58, l_59, l_60, l_61, l_62, l_63, l_64, l_72, l_74, l_86, l_97, l_99, l_100, l_122, l_140, l_158, l_160, l_164, l_200, l_240, l_255, l_400, l_406, l_900, l_940, l_980, l_999, l_1120, l_1000, l_100000, gI_sIs, gI_sIn, gI_sA, gI_sJ, gI_sL, gI_sP, gI_sQ, gI_sB, gA_sAs, gA_sAi, gA_sAn, gA_sI, gA_sJ, gA_sL, gA_sP, gA_sQ, gA_sBs, gA_sBn, gJ_sJs, gJ_sJn, gJ_sI, gJ_sA, gJ_sB, gJ_sL, gL_sI, gL_sA, gL_sJ, gL_sB, gL_sLs, gL_sLi, gL_sLn, gP_sI, gP_sA, gP_sB, gP_sJ, gP_sL, gP_sPs, gP_sPn, gQ_sI, gQ_sA, gQ_sB, gQ_sJ, gQ_sL, gQ_sP, gQ_sQs, gQ_sQi, gQ_sQn, k1.2 (by omega), hc1, c2, hM, M1_eq]
    · unfold goB
      by_cases gq : q < N
      · obtain ⟨b1, b2⟩ := q4 gq
        obtain ⟨t1, t2, -⟩ := mT1 q (by omega)
        simp (disch := omega) only [Nat.zero_add, LT, BD_some, BD2_some, JN1, JN2, IX_nI, nI_add, pk_mul, pk_sub, leT, leF, ltT, ltF, eqT, eqF, M1_lit, bI_true, bI_false, BZ_n0, BZ_n1, BZ_b, ↓reduceIte, l_0, l_1, l_2, l_3, l_4, l_5, l_6, l_7, l_8, l_9, l_10, l_11, l_12, l_13, l_14, l_15, l_16, l_17, l_18, l_19, l_20, l_21, l_22, l_23, l_24, l_25, l_26, l_27, l_28, l_29, l_30, l_31, l_32, l_33, l_34, l_35, l_36, l_37, l_38, l_39, l_40, l_41, l_42, l_43, l_44, l_45, l_46, l_47, l_48, l_49, l_50, l_51, l_52, l_53, l_54, l_55, l_56, l_57, l_58, l_59, l_60, l_61, l_62, l_63, l_64, l_72, l_74, l_86, l_97, l_99, l_100, l_122, l_140, l_158, l_160, l_164, l_200, l_240, l_255, l_400, l_406, l_900, l_940, l_980, l_999, l_1120, l_1000, l_100000, gI_sIs, gI_sIn, gI_sA, gI_sJ, gI_sL, gI_sP, gI_sQ, gI_sB, gA_sAs, gA_sAi, gA_sAn, gA_sI, gA_sJ, gA_sL, gA_sP, gA_sQ, gA_sBs, gA_sBn, gJ_sJs, gJ_sJn, gJ_sI, gJ_sA, gJ_sB, gJ_sL, gL_sI, gL_sA, gL_sJ, gL_sB, gL_sLs, gL_sLi, gL_sLn, gP_sI, gP_sA, gP_sB, gP_sJ, gP_sL, gP_sPs, gP_sPn, gQ_sI, gQ_sA, gQ_sB, gQ_sJ, gQ_sL, gQ_sP, gQ_sQs, gQ_sQi, gQ_sQn, m3, m4, n5, t2]
      · simp (disch := omega) only [Nat.zero_add, LT, BD_some, BD2_some, JN1, JN2, IX_nI, nI_add, pk_mul, pk_sub, leT, leF, ltT, ltF, eqT, eqF, M1_lit, bI_true, bI_false, BZ_n0, BZ_n1, BZ_b, ↓reduceIte, l_0, l_1, l_2, l_3, l_4, l_5, l_6, l_7, l_8, l_9, l_10, l_11, l_12, l_13, l_14, l_15, l_16, l_17, l_18, l_19, l_20, l_21, l_22, l_23, l_24, l_25, l_26, l_27, l_28, l_29, l_30, l_31, l_32, l_33, l_34, l_35, l_36, l_37, l_38, l_39, l_40, l_41, l_42, l_43, l_44, l_45, l_46, l_47, l_48, l_49, l_50, l_51, l_52, l_53, l_54, l_55, l_56, l_57, l_58, l_59, l_60, l_61, l_62, l_63, l_64, l_72, l_74, l_86, l_97, l_99, l_100, l_122, l_140, l_158, l_160, l_164, l_200, l_240, l_255, l_400, l_406, l_900, l_940, l_980, l_999, l_1120, l_1000, l_100000, gI_sIs, gI_sIn, gI_sA, gI_sJ, gI_sL, gI_sP, gI_sQ, gI_sB, gA_sAs, gA_sAi, gA_sAn, gA_sI, gA_sJ, gA_sL, gA_sP, gA_sQ, gA_sBs, gA_sBn, gJ_sJs, gJ_sJn, gJ_sI, gJ_sA, gJ_sB, gJ_sL, gL_sI, gL_sA, gL_sJ, gL_sB, gL_sLs, gL_sLi, gL_sLn, gP_sI, gP_sA, gP_sB, gP_sJ, gP_sL, gP_sPs, gP_sPn, gQ_sI, gQ_sA, gQ_sB, gQ_sJ, gQ_sL, gQ_sP, gQ_sQs, gQ_sQi, gQ_sQn, m3, m4, n5]
    · rw [gI_sIn _ _ (by omega), gI_sIn _ _ (by omega), gI_sIn _ _ (by omega)]; exact c2
    · rw [gI_sIn _ _ (by omega), gI_sIn _ _ (by omega), gI_sIn _ _ (by omega)]; exact hc1
    · rw [gI_sIn _ _ (by omega), gI_sIs]
    · rw [gI_sIn _ _ (by omega), gI_sIs]
  · by_cases gq : q < N
    · obtain ⟨b1, b2⟩ := q4 gq
      obtain ⟨t1, t2, t3⟩ := mT1 q (by omega)
      have kk1 := k1.1 gq
      have kk2 := k2.1 gq
      have ghead : ∀ rec, goB rec m1 = goT (sI m1 6 (nI q)) := by
        intro rec
        unfold goB
        rcases (show N ≤ M ∨ (M < N ∧ q < M) by omega) with g | ⟨g, g'⟩
        · simp (disch := omega) only [Nat.zero_add, LT, BD_some, BD2_some, JN1, JN2, IX_nI, nI_add, pk_mul, pk_sub, leT, leF, ltT, ltF, eqT, eqF, M1_lit, bI_true, bI_false, BZ_n0, BZ_n1, BZ_b, ↓reduceIte, l_0, l_1, l_2, l_3, l_4, l_5, l_6, l_7, l_8, l_9, l_10, l_11, l_12, l_13, l_14, l_15, l_16, l_17, l_18, l_19, l_20, l_21, l_22, l_23, l_24, l_25, l_26, l_27, l_28, l_29, l_30, l_31, l_32, l_33, l_34, l_35, l_36, l_37, l_38, l_39, l_40, l_41, l_42, l_43, l_44, l_45, l_46, l_47, l_48, l_49, l_50, l_51, l_52, l_53, l_54, l_55, l_56, l_57, l_58, l_59, l_60, l_61, l_62, l_63, l_64, l_72, l_74, l_86, l_97, l_99, l_100, l_122, l_140, l_158, l_160, l_164, l_200, l_240, l_255, l_400, l_406, l_900, l_940, l_980, l_999, l_1120, l_1000, l_100000, gI_sIs, gI_sIn, gI_sA, gI_sJ, gI_sL, gI_sP, gI_sQ, gI_sB, gA_sAs, gA_sAi, gA_sAn, gA_sI, gA_sJ, gA_sL, gA_sP, gA_sQ, gA_sBs, gA_sBn, gJ_sJs, gJ_sJn, gJ_sI, gJ_sA, gJ_sB, gJ_sL, gL_sI, gL_sA, gL_sJ, gL_sB, gL_sLs, gL_sLi, gL_sLn, gP_sI, gP_sA, gP_sB, gP_sJ, gP_sL, gP_sPs, gP_sPn, gQ_sI, gQ_sA, gQ_sB, gQ_sJ, gQ_sL, gQ_sP, gQ_sQs, gQ_sQi, gQ_sQn, m3, m4, n5, t2]
        · simp (disch := omega) only [Nat.zero_add, LT, BD_some, BD2_some, JN1, JN2, IX_nI, nI_add, pk_mul, pk_sub, leT, leF, ltT, ltF, eqT, eqF, M1_lit, bI_true, bI_false, BZ_n0, BZ_n1, BZ_b, ↓reduceIte, l_0, l_1, l_2, l_3, l_4, l_5, l_6, l_7, l_8, l_9, l_10, l_11, l_12, l_13, l_14, l_15, l_16, l_17, l_18, l_19, l_20, l_21, l_22, l_23, l_24, l_25, l_26, l_27, l_28, l_29, l_30, l_31, l_32, l_33, l_34, l_35, l_36, l_37, l_38, l_39, l_40, l_41, l_42, l_43, l_44, l_45, l_46, l_47, l_48, l_49, l_50, l_51, l_52, l_53, l_54, l_55, l_56, l_57, l_58, l_59, l_60, l_61, l_62, l_63, l_64, l_72, l_74, l_86, l_97, l_99, l_100, l_122, l_140, l_158, l_160, l_164, l_200, l_240, l_255, l_400, l_406, l_900, l_940, l_980, l_999, l_1120, l_1000, l_100000, gI_sIs, gI_sIn, gI_sA, gI_sJ, gI_sL, gI_sP, gI_sQ, gI_sB, gA_sAs, gA_sAi, gA_sAn, gA_sI, gA_sJ, gA_sL, gA_sP, gA_sQ, gA_sBs, gA_sBn, gJ_sJs, gJ_sJn, gJ_sI, gJ_sA, gJ_sB, gJ_sL, gL_sI, gL_sA, gL_sJ, gL_sB, gL_sLs, gL_sLi, gL_sLn, gP_sI, gP_sA, gP_sB, gP_sJ, gP_sL, gP_sPs, gP_sPn, gQ_sI, gQ_sA, gQ_sB, gQ_sJ, gQ_sL, gQ_sP, gQ_sQs, gQ_sQi, gQ_sQn, m3, m4, n5, t2]
      by_cases ga : aln (T q) = true
      · obtain ⟨len, l1, l2, l3, l4⟩ := run_ex T q N gq ga
        have hsa : gI (sI c1 (rb j + 2) (nI q)) (rb j + 2) = nI q := gI_sIs _ _ _
        have hs2 : gI (sI c1 (rb j + 2) (nI q)) 2 = nI N := by rw [gI_sIn _ _ (by omega)]; exact c2
        have hTs : TPE T (sI c1 (rb j + 2) (nI q)) m := TPE_ext hT (frc.gA 0) rfl
        obtain ⟨s', r1, r2, r3, r4, r5, r6, r7, r8⟩ := x5_run_v (j := j) (small := isL (T q)) hTs hN hs2 s10 hsa l2 l3 l4
        have ms5 : gI (sI m1 6 (nI q)) 5 = nI q := by rw [gI_sIn _ _ (by omega)]; exact n5
        have mTs : TPE T c (sI m1 6 (nI q)) := mT1
        obtain ⟨w', u1, u2, u3, u4, u5, u6, u7⟩ := m_run_v (small := isL (T q)) mTs hN (show gI (sI m1 6 (nI q)) 3 = nI N by rw [gI_sIn _ _ (by omega)]; exact m3) ms5 (gI_sIs _ _ _) l2 l3 l4
        have hal0 : isL (T (q + 0)) = isL (T q) := rfl
        refine ⟨s', w', q + len, q, tkr (isL (T q)) (alN T q (isL (T q)) len) len, nmb T q (min len 3), rl T q (min len 7), cl (fun rec => ?_), ml (fun rec => ?_), frc.trans (fr10.trans r2), frn.trans ((FRn_sI (FRn.refl m1) _ (by omega) (by omega)).trans u2), ⟨(r2.2.2 2 (by omega)).trans hs2, (u2.2.2 3 (by omega)).trans m3, hN, by rw [hM]; exact (u2.2.2 4 (by omega)).trans m4, r3, u3, l2, r4, u4, by omega, by unfold tkr; (repeat' split) <;> omega, r5, u5, fun hk => ?_, fun hk => ?_, fun hk => ?_⟩, by omega, fun _ _ => by omega⟩
        · unfold nxB
          have lt := x5_isLetter_v j (sI c1 (rb j + 2) (nI q)) t1
          have dt := x5_isDigit_v j (sI c1 (rb j + 2) (nI q)) t1
          rw [kk1]
          cases e : isL (T q)
          · have e2 : isD (T q) = true := by unfold aln at ga; rw [e] at ga; simpa using ga
            rw [e, bI_false] at lt r1
            rw [e2, bI_true] at dt
            rcases (show N ≤ M ∨ (M < N ∧ q < M) by omega) with g | ⟨g, g'⟩
            · simp (disch := omega) only [Nat.zero_add, LT, BD_some, BD2_some, JN1, JN2, IX_nI, nI_add, pk_mul, pk_sub, leT, leF, ltT, ltF, eqT, eqF, M1_lit, bI_true, bI_false, BZ_n0, BZ_n1, BZ_b, ↓reduceIte, l_0, l_1, l_2, l_3, l_4, l_5, l_6, l_7, l_8, l_9, l_10, l_11, l_12, l_13, l_14, l_15, l_16, l_17, l_18, l_19, l_20, l_21, l_22, l_23, l_24, l_25, l_26, l_27, l_28, l_29, l_30, l_31, l_32, l_33, l_34, l_35, l_36, l_37, l_38, l_39, l_40, l_41, l_42, l_43, l_44, l_45, l_46, l_47, l_48, l_49, l_50, l_51, l_52, l_53, l_54, l_55, l_56, l_57, l_58, l_59, l_60, l_61, l_62, l_63, l_64, l_72, l_74, l_86, l_97, l_99, l_100, l_122, l_140, l_158, l_160, l_164, l_200, l_240, l_255, l_400, l_406, l_900, l_940, l_980, l_999, l_1120, l_1000, l_100000, gI_sIs, gI_sIn, gI_sA, gI_sJ, gI_sL, gI_sP, gI_sQ, gI_sB, gA_sAs, gA_sAi, gA_sAn, gA_sI, gA_sJ, gA_sL, gA_sP, gA_sQ, gA_sBs, gA_sBn, gJ_sJs, gJ_sJn, gJ_sI, gJ_sA, gJ_sB, gJ_sL, gL_sI, gL_sA, gL_sJ, gL_sB, gL_sLs, gL_sLi, gL_sLn, gP_sI, gP_sA, gP_sB, gP_sJ, gP_sL, gP_sPs, gP_sPn, gQ_sI, gQ_sA, gQ_sB, gQ_sJ, gQ_sL, gQ_sP, gQ_sQs, gQ_sQi, gQ_sQn, kk2, hc1, c2, hM, lt, dt, r1]
            · simp (disch := omega) only [Nat.zero_add, LT, BD_some, BD2_some, JN1, JN2, IX_nI, nI_add, pk_mul, pk_sub, leT, leF, ltT, ltF, eqT, eqF, M1_lit, bI_true, bI_false, BZ_n0, BZ_n1, BZ_b, ↓reduceIte, l_0, l_1, l_2, l_3, l_4, l_5, l_6, l_7, l_8, l_9, l_10, l_11, l_12, l_13, l_14, l_15, l_16, l_17, l_18, l_19, l_20, l_21, l_22, l_23, l_24, l_25, l_26, l_27, l_28, l_29, l_30, l_31, l_32, l_33, l_34, l_35, l_36, l_37, l_38, l_39, l_40, l_41, l_42, l_43, l_44, l_45, l_46, l_47, l_48, l_49, l_50, l_51, l_52, l_53, l_54, l_55, l_56, l_57, l_58, l_59, l_60, l_61, l_62, l_63, l_64, l_72, l_74, l_86, l_97, l_99, l_100, l_122, l_140, l_158, l_160, l_164, l_200, l_240, l_255, l_400, l_406, l_900, l_940, l_980, l_999, l_1120, l_1000, l_100000, gI_sIs, gI_sIn, gI_sA, gI_sJ, gI_sL, gI_sP, gI_sQ, gI_sB, gA_sAs, gA_sAi, gA_sAn, gA_sI, gA_sJ, gA_sL, gA_sP, gA_sQ, gA_sBs, gA_sBn, gJ_sJs, gJ_sJn, gJ_sI, gJ_sA, gJ_sB, gJ_sL, gL_sI, gL_sA, gL_sJ, gL_sB, gL_sLs, gL_sLi, gL_sLn, gP_sI, gP_sA, gP_sB, gP_sJ, gP_sL, gP_sPs, gP_sPn, gQ_sI, gQ_sA, gQ_sB, gQ_sJ, gQ_sL, gQ_sP, gQ_sQs, gQ_sQi, gQ_sQn, kk2, hc1, c2, hM, lt, dt, r1]
          · rw [e, bI_true] at lt r1
            rcases (show N ≤ M ∨ (M < N ∧ q < M) by omega) with g | ⟨g, g'⟩
            · simp (disch := omega) only [Nat.zero_add, LT, BD_some, BD2_some, JN1, JN2, IX_nI, nI_add, pk_mul, pk_sub, leT, leF, ltT, ltF, eqT, eqF, M1_lit, bI_true, bI_false, BZ_n0, BZ_n1, BZ_b, ↓reduceIte, l_0, l_1, l_2, l_3, l_4, l_5, l_6, l_7, l_8, l_9, l_10, l_11, l_12, l_13, l_14, l_15, l_16, l_17, l_18, l_19, l_20, l_21, l_22, l_23, l_24, l_25, l_26, l_27, l_28, l_29, l_30, l_31, l_32, l_33, l_34, l_35, l_36, l_37, l_38, l_39, l_40, l_41, l_42, l_43, l_44, l_45, l_46, l_47, l_48, l_49, l_50, l_51, l_52, l_53, l_54, l_55, l_56, l_57, l_58, l_59, l_60, l_61, l_62, l_63, l_64, l_72, l_74, l_86, l_97, l_99, l_100, l_122, l_140, l_158, l_160, l_164, l_200, l_240, l_255, l_400, l_406, l_900, l_940, l_980, l_999, l_1120, l_1000, l_100000, gI_sIs, gI_sIn, gI_sA, gI_sJ, gI_sL, gI_sP, gI_sQ, gI_sB, gA_sAs, gA_sAi, gA_sAn, gA_sI, gA_sJ, gA_sL, gA_sP, gA_sQ, gA_sBs, gA_sBn, gJ_sJs, gJ_sJn, gJ_sI, gJ_sA, gJ_sB, gJ_sL, gL_sI, gL_sA, gL_sJ, gL_sB, gL_sLs, gL_sLi, gL_sLn, gP_sI, gP_sA, gP_sB, gP_sJ, gP_sL, gP_sPs, gP_sPn, gQ_sI, gQ_sA, gQ_sB, gQ_sJ, gQ_sL, gQ_sP, gQ_sQs, gQ_sQi, gQ_sQn, kk2, hc1, c2, hM, lt, r1]
            · simp (disch := omega) only [Nat.zero_add, LT, BD_some, BD2_some, JN1, JN2, IX_nI, nI_add, pk_mul, pk_sub, leT, leF, ltT, ltF, eqT, eqF, M1_lit, bI_true, bI_false, BZ_n0, BZ_n1, BZ_b, ↓reduceIte, l_0, l_1, l_2, l_3, l_4, l_5, l_6, l_7, l_8, l_9, l_10, l_11, l_12, l_13, l_14, l_15, l_16, l_17, l_18, l_19, l_20, l_21, l_22, l_23, l_24, l_25, l_26, l_27, l_28, l_29, l_30, l_31, l_32, l_33, l_34, l_35, l_36, l_37, l_38, l_39, l_40, l_41, l_42, l_43, l_44, l_45, l_46, l_47, l_48, l_49, l_50, l_51, l_52, l_53, l_54, l_55, l_56, l_57, l_58, l_59, l_60, l_61, l_62, l_63, l_64, l_72, l_74, l_86, l_97, l_99, l_100, l_122, l_140, l_158, l_160, l_164, l_200, l_240, l_255, l_400, l_406, l_900, l_940, l_980, l_999, l_1120, l_1000, l_100000, gI_sIs, gI_sIn, gI_sA, gI_sJ, gI_sL, gI_sP, gI_sQ, gI_sB, gA_sAs, gA_sAi, gA_sAn, gA_sI, gA_sJ, gA_sL, gA_sP, gA_sQ, gA_sBs, gA_sBn, gJ_sJs, gJ_sJn, gJ_sI, gJ_sA, gJ_sB, gJ_sL, gL_sI, gL_sA, gL_sJ, gL_sB, gL_sLs, gL_sLi, gL_sLn, gP_sI, gP_sA, gP_sB, gP_sJ, gP_sL, gP_sPs, gP_sPn, gQ_sI, gQ_sA, gQ_sB, gQ_sJ, gQ_sL, gQ_sP, gQ_sQs, gQ_sQi, gQ_sQn, kk2, hc1, c2, hM, lt, r1]
        · rw [ghead rec]
          have lt := m_isLetter_v t1
          have dt := m_isDigit_v t1
          have t2' : gA (sI m1 6 (nI q)) 1 q = nI (T q) := t2
          have hlast : BD (m_isLetter (nI (T q))) (fun v14 => LT (sJ (sI m1 6 (nI q)) 12 (0 : Int64)) (fun s15 => LT (sI s15 8 (0 : Int32)) (fun s16 => LP2 (grB v14) FU (1 : Int32) s16))) = some w' := by
            rw [lt, BD_some, LT, LT]; exact u1
          unfold goT
          rw [ms5, show gI (sI m1 6 (nI q)) 3 = nI N from by rw [gI_sIn _ _ (by omega)]; exact m3, if_pos (nI_lt gq (by omega)), IX_nI _ (by omega) (by omega), t2', lt, BD_some, JN1]
          cases e : isL (T q)
          · have e2 : isD (T q) = true := by unfold aln at ga; rw [e] at ga; simpa using ga
            refine (if_pos (show bI false = (0 : Int32) from rfl)).trans ?_
            rw [dt, e2, BD_some]
            refine (if_neg (show ¬ bI true = (0 : Int32) by decide)).trans ?_
            rw [e] at lt
            rw [lt] at hlast
            exact hlast
          · refine (if_neg (show ¬ bI true = (0 : Int32) by decide)).trans ?_
            rw [e] at lt
            rw [lt] at hlast
            exact hlast
        · obtain ⟨e1, e2, e3⟩ := tkr_1 hk
          have hmem : ∀ i, i < min len 7 → isL (T (q + i)) = true := fun i hi => (al_all e2 i (by omega)).trans e1
          have hln : (rl T q (min len 7)).length = len := by rw [rl_len]; omega
          refine ⟨⟨by omega, by omega, rl_mem hmem⟩, by rw [hln]; exact r6, r7 e2 e1, u6 e2 e1, by omega, fun i hi => ?_⟩
          rw [rl_get T q (min len 7) i (by omega)]
        · obtain ⟨e1, e2, e3⟩ := tkr_2 hk
          have hdg : ∀ i, i < min len 3 → isD (T (q + i)) = true := fun i hi => by
            have h1 := l3 i (by omega)
            have h2 := (al_all e2 i (by omega)).trans e1
            unfold aln at h1
            rw [h2] at h1
            simpa using h1
          have h1 := nmb_le (T := T) (q := q) (n := min len 3) (by omega) hdg
          have h2 : (10 : Nat) ^ min len 3 ≤ 10 ^ 3 := Nat.pow_le_pow_right (by omega) (by omega)
          exact ⟨by omega, r8 e2 e1, u7 e2 e1⟩
        · exact absurd hk tkr_3
      · have nl : isL (T q) = false := by
          unfold aln at ga
          cases h : isL (T q)
          · rfl
          · rw [h] at ga; simp at ga
        have nd : isD (T q) = false := by
          unfold aln at ga
          cases h : isD (T q)
          · rfl
          · rw [h] at ga; simp at ga
        have lt := x5_isLetter_v j (sI c1 (rb j + 2) (nI q)) t1
        have dt := x5_isDigit_v j (sI c1 (rb j + 2) (nI q)) t1
        have lm := m_isLetter_v t1
        have dm := m_isDigit_v t1
        rw [nl, bI_false] at lt lm
        rw [nd, bI_false] at dt dm
        have ii : x1_isIn (nI (T q)) (nI 60) (nI 62) = some (bI (decide (60 ≤ T q) && decide (T q ≤ 62))) := by rw [x1_isIn_v, inn_r t1 (by omega) (by omega)]
        have fin4 : ∀ k, (k = 3 ∨ k = 4) → (∀ rec, nxB j rec c1 = some (sI (sI (sI (sI c1 (rb j + 2) (nI q)) (rb j + 3) (nI k)) (rb j + 4) (nI (T q))) (rb j + 1) (nI (q + 1)))) → (∀ rec, goB rec m1 = some (sI (sI (sI (sI m1 6 (nI q)) 7 (nI (mk k))) 9 (nI (T q))) 5 (nI (q + 1)))) → ∃ c' m' p' a k v l, x5_next j c = some c' ∧ m_go m = some m' ∧ FRc j c c' ∧ FRn m m' ∧ LX0 j T N c' m' p' a k v l ∧ p ≤ p' ∧ (1 ≤ k → k ≤ 3 → p < p') := by
          intro k hk h1 h2
          refine ⟨_, _, q + 1, q, k, T q, [], cl h1, ml h2, FRc_sI (FRc_sI (FRc_sI (FRc_sI frc _ (by omega) (by omega)) _ (by omega) (by omega)) _ (by omega) (by omega)) _ (by omega) (by omega), FRn_sI (FRn_sI (FRn_sI (FRn_sI frn _ (by omega) (by omega)) _ (by omega) (by omega)) _ (by omega) (by omega)) _ (by omega) (by omega), ⟨?_, m3, hN, by rw [hM]; exact m4, gI_sIs _ _ _, gI_sIs _ _ _, gq, ?_, ?_, by omega, by omega, ?_, ?_, fun h => by omega, fun h => by omega, fun h => ⟨t1, ?_, ?_⟩⟩, by omega, fun _ _ => by omega⟩
          · rw [gI_sIn _ _ (by omega), gI_sIn _ _ (by omega), gI_sIn _ _ (by omega), gI_sIn _ _ (by omega)]; exact c2
          · rw [gI_sIn _ _ (by omega), gI_sIn _ _ (by omega), gI_sIn _ _ (by omega), gI_sIs]
          · rw [gI_sIn _ _ (by omega), gI_sIn _ _ (by omega), gI_sIn _ _ (by omega), gI_sIs]
          · rw [gI_sIn _ _ (by omega), gI_sIn _ _ (by omega), gI_sIs]
          · rw [gI_sIn _ _ (by omega), gI_sIn _ _ (by omega), gI_sIs]
          · rw [gI_sIn _ _ (by omega), gI_sIs]
          · rw [gI_sIn _ _ (by omega), gI_sIs]
        rcases (show T q = 59 ∨ T q = 40 ∨ T q = 41 ∨ T q = 60 ∨ T q = 61 ∨ T q = 62 ∨ (T q ≠ 59 ∧ T q ≠ 40 ∧ T q ≠ 41 ∧ T q ≠ 60 ∧ T q ≠ 61 ∧ T q ≠ 62) by omega) with hh | hh | hh | hh | hh | hh | hh
        · refine fin4 3 (by omega) (fun rec => ?_) (fun rec => ?_)
          · unfold nxB
            rcases (show N ≤ M ∨ (M < N ∧ q < M) by omega) with g | ⟨g, g'⟩
            · simp (disch := omega) only [Nat.zero_add, LT, BD_some, BD2_some, JN1, JN2, IX_nI, nI_add, pk_mul, pk_sub, leT, leF, ltT, ltF, eqT, eqF, M1_lit, bI_true, bI_false, BZ_n0, BZ_n1, BZ_b, ↓reduceIte, l_0, l_1, l_2, l_3, l_4, l_5, l_6, l_7, l_8, l_9, l_10, l_11, l_12, l_13, l_14, l_15, l_16, l_17, l_18, l_19, l_20, l_21, l_22, l_23, l_24, l_25, l_26, l_27, l_28, l_29, l_30, l_31, l_32, l_33, l_34, l_35, l_36, l_37, l_38, l_39, l_40, l_41, l_42, l_43, l_44, l_45, l_46, l_47, l_48, l_49, l_50, l_51, l_52, l_53, l_54, l_55, l_56, l_57, l_58, l_59, l_60, l_61, l_62, l_63, l_64, l_72, l_74, l_86, l_97, l_99, l_100, l_122, l_140, l_158, l_160, l_164, l_200, l_240, l_255, l_400, l_406, l_900, l_940, l_980, l_999, l_1120, l_1000, l_100000, gI_sIs, gI_sIn, gI_sA, gI_sJ, gI_sL, gI_sP, gI_sQ, gI_sB, gA_sAs, gA_sAi, gA_sAn, gA_sI, gA_sJ, gA_sL, gA_sP, gA_sQ, gA_sBs, gA_sBn, gJ_sJs, gJ_sJn, gJ_sI, gJ_sA, gJ_sB, gJ_sL, gL_sI, gL_sA, gL_sJ, gL_sB, gL_sLs, gL_sLi, gL_sLn, gP_sI, gP_sA, gP_sB, gP_sJ, gP_sL, gP_sPs, gP_sPn, gQ_sI, gQ_sA, gQ_sB, gQ_sJ, gQ_sL, gQ_sP, gQ_sQs, gQ_sQi, gQ_sQn, kk1, kk2, hc1, c2, hM, lt, dt]
            · simp (disch := omega) only [Nat.zero_add, LT, BD_some, BD2_some, JN1, JN2, IX_nI, nI_add, pk_mul, pk_sub, leT, leF, ltT, ltF, eqT, eqF, M1_lit, bI_true, bI_false, BZ_n0, BZ_n1, BZ_b, ↓reduceIte, l_0, l_1, l_2, l_3, l_4, l_5, l_6, l_7, l_8, l_9, l_10, l_11, l_12, l_13, l_14, l_15, l_16, l_17, l_18, l_19, l_20, l_21, l_22, l_23, l_24, l_25, l_26, l_27, l_28, l_29, l_30, l_31, l_32, l_33, l_34, l_35, l_36, l_37, l_38, l_39, l_40, l_41, l_42, l_43, l_44, l_45, l_46, l_47, l_48, l_49, l_50, l_51, l_52, l_53, l_54, l_55, l_56, l_57, l_58, l_59, l_60, l_61, l_62, l_63, l_64, l_72, l_74, l_86, l_97, l_99, l_100, l_122, l_140, l_158, l_160, l_164, l_200, l_240, l_255, l_400, l_406, l_900, l_940, l_980, l_999, l_1120, l_1000, l_100000, gI_sIs, gI_sIn, gI_sA, gI_sJ, gI_sL, gI_sP, gI_sQ, gI_sB, gA_sAs, gA_sAi, gA_sAn, gA_sI, gA_sJ, gA_sL, gA_sP, gA_sQ, gA_sBs, gA_sBn, gJ_sJs, gJ_sJn, gJ_sI, gJ_sA, gJ_sB, gJ_sL, gL_sI, gL_sA, gL_sJ, gL_sB, gL_sLs, gL_sLi, gL_sLn, gP_sI, gP_sA, gP_sB, gP_sJ, gP_sL, gP_sPs, gP_sPn, gQ_sI, gQ_sA, gQ_sB, gQ_sJ, gQ_sL, gQ_sP, gQ_sQs, gQ_sQi, gQ_sQn, kk1, kk2, hc1, c2, hM, lt, dt]
          · rw [ghead rec]
            unfold goT
            simp (disch := omega) only [Nat.zero_add, LT, BD_some, BD2_some, JN1, JN2, IX_nI, nI_add, pk_mul, pk_sub, leT, leF, ltT, ltF, eqT, eqF, M1_lit, bI_true, bI_false, BZ_n0, BZ_n1, BZ_b, ↓reduceIte, l_0, l_1, l_2, l_3, l_4, l_5, l_6, l_7, l_8, l_9, l_10, l_11, l_12, l_13, l_14, l_15, l_16, l_17, l_18, l_19, l_20, l_21, l_22, l_23, l_24, l_25, l_26, l_27, l_28, l_29, l_30, l_31, l_32, l_33, l_34, l_35, l_36, l_37, l_38, l_39, l_40, l_41, l_42, l_43, l_44, l_45, l_46, l_47, l_48, l_49, l_50, l_51, l_52, l_53, l_54, l_55, l_56, l_57, l_58, l_59, l_60, l_61, l_62, l_63, l_64, l_72, l_74, l_86, l_97, l_99, l_100, l_122, l_140, l_158, l_160, l_164, l_200, l_240, l_255, l_400, l_406, l_900, l_940, l_980, l_999, l_1120, l_1000, l_100000, gI_sIs, gI_sIn, gI_sA, gI_sJ, gI_sL, gI_sP, gI_sQ, gI_sB, gA_sAs, gA_sAi, gA_sAn, gA_sI, gA_sJ, gA_sL, gA_sP, gA_sQ, gA_sBs, gA_sBn, gJ_sJs, gJ_sJn, gJ_sI, gJ_sA, gJ_sB, gJ_sL, gL_sI, gL_sA, gL_sJ, gL_sB, gL_sLs, gL_sLi, gL_sLn, gP_sI, gP_sA, gP_sB, gP_sJ, gP_sL, gP_sPs, gP_sPn, gQ_sI, gQ_sA, gQ_sB, gQ_sJ, gQ_sL, gQ_sP, gQ_sQs, gQ_sQi, gQ_sQn, m3, m4, n5, t2, lm, dm, mk]
        · refine fin4 3 (by omega) (fun rec => ?_) (fun rec => ?_)
          · unfold nxB
            rcases (show N ≤ M ∨ (M < N ∧ q < M) by omega) with g | ⟨g, g'⟩
            · simp (disch := omega) only [Nat.zero_add, LT, BD_some, BD2_some, JN1, JN2, IX_nI, nI_add, pk_mul, pk_sub, leT, leF, ltT, ltF, eqT, eqF, M1_lit, bI_true, bI_false, BZ_n0, BZ_n1, BZ_b, ↓reduceIte, l_0, l_1, l_2, l_3, l_4, l_5, l_6, l_7, l_8, l_9, l_10, l_11, l_12, l_13, l_14, l_15, l_16, l_17, l_18, l_19, l_20, l_21, l_22, l_23, l_24, l_25, l_26, l_27, l_28, l_29, l_30, l_31, l_32, l_33, l_34, l_35, l_36, l_37, l_38, l_39, l_40, l_41, l_42, l_43, l_44, l_45, l_46, l_47, l_48, l_49, l_50, l_51, l_52, l_53, l_54, l_55, l_56, l_57, l_58, l_59, l_60, l_61, l_62, l_63, l_64, l_72, l_74, l_86, l_97, l_99, l_100, l_122, l_140, l_158, l_160, l_164, l_200, l_240, l_255, l_400, l_406, l_900, l_940, l_980, l_999, l_1120, l_1000, l_100000, gI_sIs, gI_sIn, gI_sA, gI_sJ, gI_sL, gI_sP, gI_sQ, gI_sB, gA_sAs, gA_sAi, gA_sAn, gA_sI, gA_sJ, gA_sL, gA_sP, gA_sQ, gA_sBs, gA_sBn, gJ_sJs, gJ_sJn, gJ_sI, gJ_sA, gJ_sB, gJ_sL, gL_sI, gL_sA, gL_sJ, gL_sB, gL_sLs, gL_sLi, gL_sLn, gP_sI, gP_sA, gP_sB, gP_sJ, gP_sL, gP_sPs, gP_sPn, gQ_sI, gQ_sA, gQ_sB, gQ_sJ, gQ_sL, gQ_sP, gQ_sQs, gQ_sQi, gQ_sQn, kk1, kk2, hc1, c2, hM, lt, dt]
            · simp (disch := omega) only [Nat.zero_add, LT, BD_some, BD2_some, JN1, JN2, IX_nI, nI_add, pk_mul, pk_sub, leT, leF, ltT, ltF, eqT, eqF, M1_lit, bI_true, bI_false, BZ_n0, BZ_n1, BZ_b, ↓reduceIte, l_0, l_1, l_2, l_3, l_4, l_5, l_6, l_7, l_8, l_9, l_10, l_11, l_12, l_13, l_14, l_15, l_16, l_17, l_18, l_19, l_20, l_21, l_22, l_23, l_24, l_25, l_26, l_27, l_28, l_29, l_30, l_31, l_32, l_33, l_34, l_35, l_36, l_37, l_38, l_39, l_40, l_41, l_42, l_43, l_44, l_45, l_46, l_47, l_48, l_49, l_50, l_51, l_52, l_53, l_54, l_55, l_56, l_57, l_58, l_59, l_60, l_61, l_62, l_63, l_64, l_72, l_74, l_86, l_97, l_99, l_100, l_122, l_140, l_158, l_160, l_164, l_200, l_240, l_255, l_400, l_406, l_900, l_940, l_980, l_999, l_1120, l_1000, l_100000, gI_sIs, gI_sIn, gI_sA, gI_sJ, gI_sL, gI_sP, gI_sQ, gI_sB, gA_sAs, gA_sAi, gA_sAn, gA_sI, gA_sJ, gA_sL, gA_sP, gA_sQ, gA_sBs, gA_sBn, gJ_sJs, gJ_sJn, gJ_sI, gJ_sA, gJ_sB, gJ_sL, gL_sI, gL_sA, gL_sJ, gL_sB, gL_sLs, gL_sLi, gL_sLn, gP_sI, gP_sA, gP_sB, gP_sJ, gP_sL, gP_sPs, gP_sPn, gQ_sI, gQ_sA, gQ_sB, gQ_sJ, gQ_sL, gQ_sP, gQ_sQs, gQ_sQi, gQ_sQn, kk1, kk2, hc1, c2, hM, lt, dt]
          · rw [ghead rec]
            unfold goT
            simp (disch := omega) only [Nat.zero_add, LT, BD_some, BD2_some, JN1, JN2, IX_nI, nI_add, pk_mul, pk_sub, leT, leF, ltT, ltF, eqT, eqF, M1_lit, bI_true, bI_false, BZ_n0, BZ_n1, BZ_b, ↓reduceIte, l_0, l_1, l_2, l_3, l_4, l_5, l_6, l_7, l_8, l_9, l_10, l_11, l_12, l_13, l_14, l_15, l_16, l_17, l_18, l_19, l_20, l_21, l_22, l_23, l_24, l_25, l_26, l_27, l_28, l_29, l_30, l_31, l_32, l_33, l_34, l_35, l_36, l_37, l_38, l_39, l_40, l_41, l_42, l_43, l_44, l_45, l_46, l_47, l_48, l_49, l_50, l_51, l_52, l_53, l_54, l_55, l_56, l_57, l_58, l_59, l_60, l_61, l_62, l_63, l_64, l_72, l_74, l_86, l_97, l_99, l_100, l_122, l_140, l_158, l_160, l_164, l_200, l_240, l_255, l_400, l_406, l_900, l_940, l_980, l_999, l_1120, l_1000, l_100000, gI_sIs, gI_sIn, gI_sA, gI_sJ, gI_sL, gI_sP, gI_sQ, gI_sB, gA_sAs, gA_sAi, gA_sAn, gA_sI, gA_sJ, gA_sL, gA_sP, gA_sQ, gA_sBs, gA_sBn, gJ_sJs, gJ_sJn, gJ_sI, gJ_sA, gJ_sB, gJ_sL, gL_sI, gL_sA, gL_sJ, gL_sB, gL_sLs, gL_sLi, gL_sLn, gP_sI, gP_sA, gP_sB, gP_sJ, gP_sL, gP_sPs, gP_sPn, gQ_sI, gQ_sA, gQ_sB, gQ_sJ, gQ_sL, gQ_sP, gQ_sQs, gQ_sQi, gQ_sQn, m3, m4, n5, t2, lm, dm, mk]
        · refine fin4 3 (by omega) (fun rec => ?_) (fun rec => ?_)
          · unfold nxB
            rcases (show N ≤ M ∨ (M < N ∧ q < M) by omega) with g | ⟨g, g'⟩
            · simp (disch := omega) only [Nat.zero_add, LT, BD_some, BD2_some, JN1, JN2, IX_nI, nI_add, pk_mul, pk_sub, leT, leF, ltT, ltF, eqT, eqF, M1_lit, bI_true, bI_false, BZ_n0, BZ_n1, BZ_b, ↓reduceIte, l_0, l_1, l_2, l_3, l_4, l_5, l_6, l_7, l_8, l_9, l_10, l_11, l_12, l_13, l_14, l_15, l_16, l_17, l_18, l_19, l_20, l_21, l_22, l_23, l_24, l_25, l_26, l_27, l_28, l_29, l_30, l_31, l_32, l_33, l_34, l_35, l_36, l_37, l_38, l_39, l_40, l_41, l_42, l_43, l_44, l_45, l_46, l_47, l_48, l_49, l_50, l_51, l_52, l_53, l_54, l_55, l_56, l_57, l_58, l_59, l_60, l_61, l_62, l_63, l_64, l_72, l_74, l_86, l_97, l_99, l_100, l_122, l_140, l_158, l_160, l_164, l_200, l_240, l_255, l_400, l_406, l_900, l_940, l_980, l_999, l_1120, l_1000, l_100000, gI_sIs, gI_sIn, gI_sA, gI_sJ, gI_sL, gI_sP, gI_sQ, gI_sB, gA_sAs, gA_sAi, gA_sAn, gA_sI, gA_sJ, gA_sL, gA_sP, gA_sQ, gA_sBs, gA_sBn, gJ_sJs, gJ_sJn, gJ_sI, gJ_sA, gJ_sB, gJ_sL, gL_sI, gL_sA, gL_sJ, gL_sB, gL_sLs, gL_sLi, gL_sLn, gP_sI, gP_sA, gP_sB, gP_sJ, gP_sL, gP_sPs, gP_sPn, gQ_sI, gQ_sA, gQ_sB, gQ_sJ, gQ_sL, gQ_sP, gQ_sQs, gQ_sQi, gQ_sQn, kk1, kk2, hc1, c2, hM, lt, dt]
            · simp (disch := omega) only [Nat.zero_add, LT, BD_some, BD2_some, JN1, JN2, IX_nI, nI_add, pk_mul, pk_sub, leT, leF, ltT, ltF, eqT, eqF, M1_lit, bI_true, bI_false, BZ_n0, BZ_n1, BZ_b, ↓reduceIte, l_0, l_1, l_2, l_3, l_4, l_5, l_6, l_7, l_8, l_9, l_10, l_11, l_12, l_13, l_14, l_15, l_16, l_17, l_18, l_19, l_20, l_21, l_22, l_23, l_24, l_25, l_26, l_27, l_28, l_29, l_30, l_31, l_32, l_33, l_34, l_35, l_36, l_37, l_38, l_39, l_40, l_41, l_42, l_43, l_44, l_45, l_46, l_47, l_48, l_49, l_50, l_51, l_52, l_53, l_54, l_55, l_56, l_57, l_58, l_59, l_60, l_61, l_62, l_63, l_64, l_72, l_74, l_86, l_97, l_99, l_100, l_122, l_140, l_158, l_160, l_164, l_200, l_240, l_255, l_400, l_406, l_900, l_940, l_980, l_999, l_1120, l_1000, l_100000, gI_sIs, gI_sIn, gI_sA, gI_sJ, gI_sL, gI_sP, gI_sQ, gI_sB, gA_sAs, gA_sAi, gA_sAn, gA_sI, gA_sJ, gA_sL, gA_sP, gA_sQ, gA_sBs, gA_sBn, gJ_sJs, gJ_sJn, gJ_sI, gJ_sA, gJ_sB, gJ_sL, gL_sI, gL_sA, gL_sJ, gL_sB, gL_sLs, gL_sLi, gL_sLn, gP_sI, gP_sA, gP_sB, gP_sJ, gP_sL, gP_sPs, gP_sPn, gQ_sI, gQ_sA, gQ_sB, gQ_sJ, gQ_sL, gQ_sP, gQ_sQs, gQ_sQi, gQ_sQn, kk1, kk2, hc1, c2, hM, lt, dt]
          · rw [ghead rec]
            unfold goT
            simp (disch := omega) only [Nat.zero_add, LT, BD_some, BD2_some, JN1, JN2, IX_nI, nI_add, pk_mul, pk_sub, leT, leF, ltT, ltF, eqT, eqF, M1_lit, bI_true, bI_false, BZ_n0, BZ_n1, BZ_b, ↓reduceIte, l_0, l_1, l_2, l_3, l_4, l_5, l_6, l_7, l_8, l_9, l_10, l_11, l_12, l_13, l_14, l_15, l_16, l_17, l_18, l_19, l_20, l_21, l_22, l_23, l_24, l_25, l_26, l_27, l_28, l_29, l_30, l_31, l_32, l_33, l_34, l_35, l_36, l_37, l_38, l_39, l_40, l_41, l_42, l_43, l_44, l_45, l_46, l_47, l_48, l_49, l_50, l_51, l_52, l_53, l_54, l_55, l_56, l_57, l_58, l_59, l_60, l_61, l_62, l_63, l_64, l_72, l_74, l_86, l_97, l_99, l_100, l_122, l_140, l_158, l_160, l_164, l_200, l_240, l_255, l_400, l_406, l_900, l_940, l_980, l_999, l_1120, l_1000, l_100000, gI_sIs, gI_sIn, gI_sA, gI_sJ, gI_sL, gI_sP, gI_sQ, gI_sB, gA_sAs, gA_sAi, gA_sAn, gA_sI, gA_sJ, gA_sL, gA_sP, gA_sQ, gA_sBs, gA_sBn, gJ_sJs, gJ_sJn, gJ_sI, gJ_sA, gJ_sB, gJ_sL, gL_sI, gL_sA, gL_sJ, gL_sB, gL_sLs, gL_sLi, gL_sLn, gP_sI, gP_sA, gP_sB, gP_sJ, gP_sL, gP_sPs, gP_sPn, gQ_sI, gQ_sA, gQ_sB, gQ_sJ, gQ_sL, gQ_sP, gQ_sQs, gQ_sQi, gQ_sQn, m3, m4, n5, t2, lm, dm, mk]
        · have i3 : x1_isIn (nI (T q)) (nI 60) (nI 62) = some (nI 1) := by rw [ii, hh]; rfl
          refine fin4 3 (by omega) (fun rec => ?_) (fun rec => ?_)
          · unfold nxB
            rcases (show N ≤ M ∨ (M < N ∧ q < M) by omega) with g | ⟨g, g'⟩
            · simp (disch := omega) only [Nat.zero_add, LT, BD_some, BD2_some, JN1, JN2, IX_nI, nI_add, pk_mul, pk_sub, leT, leF, ltT, ltF, eqT, eqF, M1_lit, bI_true, bI_false, BZ_n0, BZ_n1, BZ_b, ↓reduceIte, l_0, l_1, l_2, l_3, l_4, l_5, l_6, l_7, l_8, l_9, l_10, l_11, l_12, l_13, l_14, l_15, l_16, l_17, l_18, l_19, l_20, l_21, l_22, l_23, l_24, l_25, l_26, l_27, l_28, l_29, l_30, l_31, l_32, l_33, l_34, l_35, l_36, l_37, l_38, l_39, l_40, l_41, l_42, l_43, l_44, l_45, l_46, l_47, l_48, l_49, l_50, l_51, l_52, l_53, l_54, l_55, l_56, l_57, l_58, l_59, l_60, l_61, l_62, l_63, l_64, l_72, l_74, l_86, l_97, l_99, l_100, l_122, l_140, l_158, l_160, l_164, l_200, l_240, l_255, l_400, l_406, l_900, l_940, l_980, l_999, l_1120, l_1000, l_100000, gI_sIs, gI_sIn, gI_sA, gI_sJ, gI_sL, gI_sP, gI_sQ, gI_sB, gA_sAs, gA_sAi, gA_sAn, gA_sI, gA_sJ, gA_sL, gA_sP, gA_sQ, gA_sBs, gA_sBn, gJ_sJs, gJ_sJn, gJ_sI, gJ_sA, gJ_sB, gJ_sL, gL_sI, gL_sA, gL_sJ, gL_sB, gL_sLs, gL_sLi, gL_sLn, gP_sI, gP_sA, gP_sB, gP_sJ, gP_sL, gP_sPs, gP_sPn, gQ_sI, gQ_sA, gQ_sB, gQ_sJ, gQ_sL, gQ_sP, gQ_sQs, gQ_sQi, gQ_sQn, kk1, kk2, hc1, c2, hM, lt, dt, i3]
            · simp (disch := omega) only [Nat.zero_add, LT, BD_some, BD2_some, JN1, JN2, IX_nI, nI_add, pk_mul, pk_sub, leT, leF, ltT, ltF, eqT, eqF, M1_lit, bI_true, bI_false, BZ_n0, BZ_n1, BZ_b, ↓reduceIte, l_0, l_1, l_2, l_3, l_4, l_5, l_6, l_7, l_8, l_9, l_10, l_11, l_12, l_13, l_14, l_15, l_16, l_17, l_18, l_19, l_20, l_21, l_22, l_23, l_24, l_25, l_26, l_27, l_28, l_29, l_30, l_31, l_32, l_33, l_34, l_35, l_36, l_37, l_38, l_39, l_40, l_41, l_42, l_43, l_44, l_45, l_46, l_47, l_48, l_49, l_50, l_51, l_52, l_53, l_54, l_55, l_56, l_57, l_58, l_59, l_60, l_61, l_62, l_63, l_64, l_72, l_74, l_86, l_97, l_99, l_100, l_122, l_140, l_158, l_160, l_164, l_200, l_240, l_255, l_400, l_406, l_900, l_940, l_980, l_999, l_1120, l_1000, l_100000, gI_sIs, gI_sIn, gI_sA, gI_sJ, gI_sL, gI_sP, gI_sQ, gI_sB, gA_sAs, gA_sAi, gA_sAn, gA_sI, gA_sJ, gA_sL, gA_sP, gA_sQ, gA_sBs, gA_sBn, gJ_sJs, gJ_sJn, gJ_sI, gJ_sA, gJ_sB, gJ_sL, gL_sI, gL_sA, gL_sJ, gL_sB, gL_sLs, gL_sLi, gL_sLn, gP_sI, gP_sA, gP_sB, gP_sJ, gP_sL, gP_sPs, gP_sPn, gQ_sI, gQ_sA, gQ_sB, gQ_sJ, gQ_sL, gQ_sP, gQ_sQs, gQ_sQi, gQ_sQn, kk1, kk2, hc1, c2, hM, lt, dt, i3]
          · rw [ghead rec]
            unfold goT
            simp (disch := omega) only [Nat.zero_add, LT, BD_some, BD2_some, JN1, JN2, IX_nI, nI_add, pk_mul, pk_sub, leT, leF, ltT, ltF, eqT, eqF, M1_lit, bI_true, bI_false, BZ_n0, BZ_n1, BZ_b, ↓reduceIte, l_0, l_1, l_2, l_3, l_4, l_5, l_6, l_7, l_8, l_9, l_10, l_11, l_12, l_13, l_14, l_15, l_16, l_17, l_18, l_19, l_20, l_21, l_22, l_23, l_24, l_25, l_26, l_27, l_28, l_29, l_30, l_31, l_32, l_33, l_34, l_35, l_36, l_37, l_38, l_39, l_40, l_41, l_42, l_43, l_44, l_45, l_46, l_47, l_48, l_49, l_50, l_51, l_52, l_53, l_54, l_55, l_56, l_57, l_58, l_59, l_60, l_61, l_62, l_63, l_64, l_72, l_74, l_86, l_97, l_99, l_100, l_122, l_140, l_158, l_160, l_164, l_200, l_240, l_255, l_400, l_406, l_900, l_940, l_980, l_999, l_1120, l_1000, l_100000, gI_sIs, gI_sIn, gI_sA, gI_sJ, gI_sL, gI_sP, gI_sQ, gI_sB, gA_sAs, gA_sAi, gA_sAn, gA_sI, gA_sJ, gA_sL, gA_sP, gA_sQ, gA_sBs, gA_sBn, gJ_sJs, gJ_sJn, gJ_sI, gJ_sA, gJ_sB, gJ_sL, gL_sI, gL_sA, gL_sJ, gL_sB, gL_sLs, gL_sLi, gL_sLn, gP_sI, gP_sA, gP_sB, gP_sJ, gP_sL, gP_sPs, gP_sPn, gQ_sI, gQ_sA, gQ_sB, gQ_sJ, gQ_sL, gQ_sP, gQ_sQs, gQ_sQi, gQ_sQn, m3, m4, n5, t2, lm, dm, mk]
        · have i3 : x1_isIn (nI (T q)) (nI 60) (nI 62) = some (nI 1) := by rw [ii, hh]; rfl
          refine fin4 3 (by omega) (fun rec => ?_) (fun rec => ?_)
          · unfold nxB
            rcases (show N ≤ M ∨ (M < N ∧ q < M) by omega) with g | ⟨g, g'⟩
            · simp (disch := omega) only [Nat.zero_add, LT, BD_some, BD2_some, JN1, JN2, IX_nI, nI_add, pk_mul, pk_sub, leT, leF, ltT, ltF, eqT, eqF, M1_lit, bI_true, bI_false, BZ_n0, BZ_n1, BZ_b, ↓reduceIte, l_0, l_1, l_2, l_3, l_4, l_5, l_6, l_7, l_8, l_9, l_10, l_11, l_12, l_13, l_14, l_15, l_16, l_17, l_18, l_19, l_20, l_21, l_22, l_23, l_24, l_25, l_26, l_27, l_28, l_29, l_30, l_31, l_32, l_33, l_34, l_35, l_36, l_37, l_38, l_39, l_40, l_41, l_42, l_43, l_44, l_45, l_46, l_47, l_48, l_49, l_50, l_51, l_52, l_53, l_54, l_55, l_56, l_57, l_58, l_59, l_60, l_61, l_62, l_63, l_64, l_72, l_74, l_86, l_97, l_99, l_100, l_122, l_140, l_158, l_160, l_164, l_200, l_240, l_255, l_400, l_406, l_900, l_940, l_980, l_999, l_1120, l_1000, l_100000, gI_sIs, gI_sIn, gI_sA, gI_sJ, gI_sL, gI_sP, gI_sQ, gI_sB, gA_sAs, gA_sAi, gA_sAn, gA_sI, gA_sJ, gA_sL, gA_sP, gA_sQ, gA_sBs, gA_sBn, gJ_sJs, gJ_sJn, gJ_sI, gJ_sA, gJ_sB, gJ_sL, gL_sI, gL_sA, gL_sJ, gL_sB, gL_sLs, gL_sLi, gL_sLn, gP_sI, gP_sA, gP_sB, gP_sJ, gP_sL, gP_sPs, gP_sPn, gQ_sI, gQ_sA, gQ_sB, gQ_sJ, gQ_sL, gQ_sP, gQ_sQs, gQ_sQi, gQ_sQn, kk1, kk2, hc1, c2, hM, lt, dt, i3]
            · simp (disch := omega) only [Nat.zero_add, LT, BD_some, BD2_some, JN1, JN2, IX_nI, nI_add, pk_mul, pk_sub, leT, leF, ltT, ltF, eqT, eqF, M1_lit, bI_true, bI_false, BZ_n0, BZ_n1, BZ_b, ↓reduceIte, l_0, l_1, l_2, l_3, l_4, l_5, l_6, l_7, l_8, l_9, l_10, l_11, l_12, l_13, l_14, l_15, l_16, l_17, l_18, l_19, l_20, l_21, l_22, l_23, l_24, l_25, l_26, l_27, l_28, l_29, l_30, l_31, l_32, l_33, l_34, l_35, l_36, l_37, l_38, l_39, l_40, l_41, l_42, l_43, l_44, l_45, l_46, l_47, l_48, l_49, l_50, l_51, l_52, l_53, l_54, l_55, l_56, l_57, l_58, l_59, l_60, l_61, l_62, l_63, l_64, l_72, l_74, l_86, l_97, l_99, l_100, l_122, l_140, l_158, l_160, l_164, l_200, l_240, l_255, l_400, l_406, l_900, l_940, l_980, l_999, l_1120, l_1000, l_100000, gI_sIs, gI_sIn, gI_sA, gI_sJ, gI_sL, gI_sP, gI_sQ, gI_sB, gA_sAs, gA_sAi, gA_sAn, gA_sI, gA_sJ, gA_sL, gA_sP, gA_sQ, gA_sBs, gA_sBn, gJ_sJs, gJ_sJn, gJ_sI, gJ_sA, gJ_sB, gJ_sL, gL_sI, gL_sA, gL_sJ, gL_sB, gL_sLs, gL_sLi, gL_sLn, gP_sI, gP_sA, gP_sB, gP_sJ, gP_sL, gP_sPs, gP_sPn, gQ_sI, gQ_sA, gQ_sB, gQ_sJ, gQ_sL, gQ_sP, gQ_sQs, gQ_sQi, gQ_sQn, kk1, kk2, hc1, c2, hM, lt, dt, i3]
          · rw [ghead rec]
            unfold goT
            simp (disch := omega) only [Nat.zero_add, LT, BD_some, BD2_some, JN1, JN2, IX_nI, nI_add, pk_mul, pk_sub, leT, leF, ltT, ltF, eqT, eqF, M1_lit, bI_true, bI_false, BZ_n0, BZ_n1, BZ_b, ↓reduceIte, l_0, l_1, l_2, l_3, l_4, l_5, l_6, l_7, l_8, l_9, l_10, l_11, l_12, l_13, l_14, l_15, l_16, l_17, l_18, l_19, l_20, l_21, l_22, l_23, l_24, l_25, l_26, l_27, l_28, l_29, l_30, l_31, l_32, l_33, l_34, l_35, l_36, l_37, l_38, l_39, l_40, l_41, l_42, l_43, l_44, l_45, l_46, l_47, l_48, l_49, l_50, l_51, l_52, l_53, l_54, l_55, l_56, l_57, l_58, l_59, l_60, l_61, l_62, l_63, l_64, l_72, l_74, l_86, l_97, l_99, l_100, l_122, l_140, l_158, l_160, l_164, l_200, l_240, l_255, l_400, l_406, l_900, l_940, l_980, l_999, l_1120, l_1000, l_100000, gI_sIs, gI_sIn, gI_sA, gI_sJ, gI_sL, gI_sP, gI_sQ, gI_sB, gA_sAs, gA_sAi, gA_sAn, gA_sI, gA_sJ, gA_sL, gA_sP, gA_sQ, gA_sBs, gA_sBn, gJ_sJs, gJ_sJn, gJ_sI, gJ_sA, gJ_sB, gJ_sL, gL_sI, gL_sA, gL_sJ, gL_sB, gL_sLs, gL_sLi, gL_sLn, gP_sI, gP_sA, gP_sB, gP_sJ, gP_sL, gP_sPs, gP_sPn, gQ_sI, gQ_sA, gQ_sB, gQ_sJ, gQ_sL, gQ_sP, gQ_sQs, gQ_sQi, gQ_sQn, m3, m4, n5, t2, lm, dm, mk]
        · have i3 : x1_isIn (nI (T q)) (nI 60) (nI 62) = some (nI 1) := by rw [ii, hh]; rfl
          refine fin4 3 (by omega) (fun rec => ?_) (fun rec => ?_)
          · unfold nxB
            rcases (show N ≤ M ∨ (M < N ∧ q < M) by omega) with g | ⟨g, g'⟩
            · simp (disch := omega) only [Nat.zero_add, LT, BD_some, BD2_some, JN1, JN2, IX_nI, nI_add, pk_mul, pk_sub, leT, leF, ltT, ltF, eqT, eqF, M1_lit, bI_true, bI_false, BZ_n0, BZ_n1, BZ_b, ↓reduceIte, l_0, l_1, l_2, l_3, l_4, l_5, l_6, l_7, l_8, l_9, l_10, l_11, l_12, l_13, l_14, l_15, l_16, l_17, l_18, l_19, l_20, l_21, l_22, l_23, l_24, l_25, l_26, l_27, l_28, l_29, l_30, l_31, l_32, l_33, l_34, l_35, l_36, l_37, l_38, l_39, l_40, l_41, l_42, l_43, l_44, l_45, l_46, l_47, l_48, l_49, l_50, l_51, l_52, l_53, l_54, l_55, l_56, l_57, l_58, l_59, l_60, l_61, l_62, l_63, l_64, l_72, l_74, l_86, l_97, l_99, l_100, l_122, l_140, l_158, l_160, l_164, l_200, l_240, l_255, l_400, l_406, l_900, l_940, l_980, l_999, l_1120, l_1000, l_100000, gI_sIs, gI_sIn, gI_sA, gI_sJ, gI_sL, gI_sP, gI_sQ, gI_sB, gA_sAs, gA_sAi, gA_sAn, gA_sI, gA_sJ, gA_sL, gA_sP, gA_sQ, gA_sBs, gA_sBn, gJ_sJs, gJ_sJn, gJ_sI, gJ_sA, gJ_sB, gJ_sL, gL_sI, gL_sA, gL_sJ, gL_sB, gL_sLs, gL_sLi, gL_sLn, gP_sI, gP_sA, gP_sB, gP_sJ, gP_sL, gP_sPs, gP_sPn, gQ_sI, gQ_sA, gQ_sB, gQ_sJ, gQ_sL, gQ_sP, gQ_sQs, gQ_sQi, gQ_sQn, kk1, kk2, hc1, c2, hM, lt, dt, i3]
            · simp (disch := omega) only [Nat.zero_add, LT, BD_some, BD2_some, JN1, JN2, IX_nI, nI_add, pk_mul, pk_sub, leT, leF, ltT, ltF, eqT, eqF, M1_lit, bI_true, bI_false, BZ_n0, BZ_n1, BZ_b, ↓reduceIte, l_0, l_1, l_2, l_3, l_4, l_5, l_6, l_7, l_8, l_9, l_10, l_11, l_12, l_13, l_14, l_15, l_16, l_17, l_18, l_19, l_20, l_21, l_22, l_23, l_24, l_25, l_26, l_27, l_28, l_29, l_30, l_31, l_32, l_33, l_34, l_35, l_36, l_37, l_38, l_39, l_40, l_41, l_42, l_43, l_44, l_45, l_46, l_47, l_48, l_49, l_50, l_51, l_52, l_53, l_54, l_55, l_56, l_57, l_58, l_59, l_60, l_61, l_62, l_63, l_64, l_72, l_74, l_86, l_97, l_99, l_100, l_122, l_140, l_158, l_160, l_164, l_200, l_240, l_255, l_400, l_406, l_900, l_940, l_980, l_999, l_1120, l_1000, l_100000, gI_sIs, gI_sIn, gI_sA, gI_sJ, gI_sL, gI_sP, gI_sQ, gI_sB, gA_sAs, gA_sAi, gA_sAn, gA_sI, gA_sJ, gA_sL, gA_sP, gA_sQ, gA_sBs, gA_sBn, gJ_sJs, gJ_sJn, gJ_sI, gJ_sA, gJ_sB, gJ_sL, gL_sI, gL_sA, gL_sJ, gL_sB, gL_sLs, gL_sLi, gL_sLn, gP_sI, gP_sA, gP_sB, gP_sJ, gP_sL, gP_sPs, gP_sPn, gQ_sI, gQ_sA, gQ_sB, gQ_sJ, gQ_sL, gQ_sP, gQ_sQs, gQ_sQi, gQ_sQn, kk1, kk2, hc1, c2, hM, lt, dt, i3]
          · rw [ghead rec]
            unfold goT
            simp (disch := omega) only [Nat.zero_add, LT, BD_some, BD2_some, JN1, JN2, IX_nI, nI_add, pk_mul, pk_sub, leT, leF, ltT, ltF, eqT, eqF, M1_lit, bI_true, bI_false, BZ_n0, BZ_n1, BZ_b, ↓reduceIte, l_0, l_1, l_2, l_3, l_4, l_5, l_6, l_7, l_8, l_9, l_10, l_11, l_12, l_13, l_14, l_15, l_16, l_17, l_18, l_19, l_20, l_21, l_22, l_23, l_24, l_25, l_26, l_27, l_28, l_29, l_30, l_31, l_32, l_33, l_34, l_35, l_36, l_37, l_38, l_39, l_40, l_41, l_42, l_43, l_44, l_45, l_46, l_47, l_48, l_49, l_50, l_51, l_52, l_53, l_54, l_55, l_56, l_57, l_58, l_59, l_60, l_61, l_62, l_63, l_64, l_72, l_74, l_86, l_97, l_99, l_100, l_122, l_140, l_158, l_160, l_164, l_200, l_240, l_255, l_400, l_406, l_900, l_940, l_980, l_999, l_1120, l_1000, l_100000, gI_sIs, gI_sIn, gI_sA, gI_sJ, gI_sL, gI_sP, gI_sQ, gI_sB, gA_sAs, gA_sAi, gA_sAn, gA_sI, gA_sJ, gA_sL, gA_sP, gA_sQ, gA_sBs, gA_sBn, gJ_sJs, gJ_sJn, gJ_sI, gJ_sA, gJ_sB, gJ_sL, gL_sI, gL_sA, gL_sJ, gL_sB, gL_sLs, gL_sLi, gL_sLn, gP_sI, gP_sA, gP_sB, gP_sJ, gP_sL, gP_sPs, gP_sPn, gQ_sI, gQ_sA, gQ_sB, gQ_sJ, gQ_sL, gQ_sP, gQ_sQs, gQ_sQi, gQ_sQn, m3, m4, n5, t2, lm, dm, mk]
        · obtain ⟨h59, h40, h41, h60, h61, h62⟩ := hh
          have i3 : x1_isIn (nI (T q)) (nI 60) (nI 62) = some (nI 0) := by
            rw [ii]
            have e : (decide (60 ≤ T q) && decide (T q ≤ 62)) = false := by
              rw [Bool.and_eq_false_iff, decide_eq_false_iff_not, decide_eq_false_iff_not]; omega
            rw [e]; rfl
          refine fin4 4 (by omega) (fun rec => ?_) (fun rec => ?_)
          · unfold nxB
            rcases (show N ≤ M ∨ (M < N ∧ q < M) by omega) with g | ⟨g, g'⟩
            · simp (disch := omega) only [Nat.zero_add, LT, BD_some, BD2_some, JN1, JN2, IX_nI, nI_add, pk_mul, pk_sub, leT, leF, ltT, ltF, eqT, eqF, M1_lit, bI_true, bI_false, BZ_n0, BZ_n1, BZ_b, ↓reduceIte, l_0, l_1, l_2, l_3, l_4, l_5, l_6, l_7, l_8, l_9, l_10, l_11, l_12, l_13, l_14, l_15, l_16, l_17, l_18, l_19, l_20, l_21, l_22, l_23, l_24, l_25, l_26, l_27, l_28, l_29, l_30, l_31, l_32, l_33, l_34, l_35, l_36, l_37, l_38, l_39, l_40, l_41, l_42, l_43, l_44, l_45, l_46, l_47, l_48, l_49, l_50, l_51, l_52, l_53, l_54, l_55, l_56, l_57, l_58, l_59, l_60, l_61, l_62, l_63, l_64, l_72, l_74, l_86, l_97, l_99, l_100, l_122, l_140, l_158, l_160, l_164, l_200, l_240, l_255, l_400, l_406, l_900, l_940, l_980, l_999, l_1120, l_1000, l_100000, gI_sIs, gI_sIn, gI_sA, gI_sJ, gI_sL, gI_sP, gI_sQ, gI_sB, gA_sAs, gA_sAi, gA_sAn, gA_sI, gA_sJ, gA_sL, gA_sP, gA_sQ, gA_sBs, gA_sBn, gJ_sJs, gJ_sJn, gJ_sI, gJ_sA, gJ_sB, gJ_sL, gL_sI, gL_sA, gL_sJ, gL_sB, gL_sLs, gL_sLi, gL_sLn, gP_sI, gP_sA, gP_sB, gP_sJ, gP_sL, gP_sPs, gP_sPn, gQ_sI, gQ_sA, gQ_sB, gQ_sJ, gQ_sL, gQ_sP, gQ_sQs, gQ_sQi, gQ_sQn, kk1, kk2, hc1, c2, hM, lt, dt, i3]
            · simp (disch := omega) only [Nat.zero_add, LT, BD_some, BD2_some, JN1, JN2, IX_nI, nI_add, pk_mul, pk_sub, leT, leF, ltT, ltF, eqT, eqF, M1_lit, bI_true, bI_false, BZ_n0, BZ_n1, BZ_b, ↓reduceIte, l_0, l_1, l_2, l_3, l_4, l_5, l_6, l_7, l_8, l_9, l_10, l_11, l_12, l_13, l_14, l_15, l_16, l_17, l_18, l_19, l_20, l_21, l_22, l_23, l_24, l_25, l_26, l_27, l_28, l_29, l_30, l_31, l_32, l_33, l_34, l_35, l_36, l_37, l_38, l_39, l_40, l_41, l_42, l_43, l_44, l_45, l_46, l_47, l_48, l_49, l_50, l_51, l_52, l_53, l_54, l_55, l_56, l_57, l_58, l_59, l_60, l_61, l_62, l_63, l_64, l_72, l_74, l_86, l_97, l_99, l_100, l_122, l_140, l_158, l_160, l_164, l_200, l_240, l_255, l_400, l_406, l_900, l_940, l_980, l_999, l_1120, l_1000, l_100000, gI_sIs, gI_sIn, gI_sA, gI_sJ, gI_sL, gI_sP, gI_sQ, gI_sB, gA_sAs, gA_sAi, gA_sAn, gA_sI, gA_sJ, gA_sL, gA_sP, gA_sQ, gA_sBs, gA_sBn, gJ_sJs, gJ_sJn, gJ_sI, gJ_sA, gJ_sB, gJ_sL, gL_sI, gL_sA, gL_sJ, gL_sB, gL_sLs, gL_sLi, gL_sLn, gP_sI, gP_sA, gP_sB, gP_sJ, gP_sL, gP_sPs, gP_sPn, gQ_sI, gQ_sA, gQ_sB, gQ_sJ, gQ_sL, gQ_sP, gQ_sQs, gQ_sQi, gQ_sQn, kk1, kk2, hc1, c2, hM, lt, dt, i3]
          · rw [ghead rec]
            unfold goT
            simp (disch := omega) only [Nat.zero_add, LT, BD_some, BD2_some, JN1, JN2, IX_nI, nI_add, pk_mul, pk_sub, leT, leF, ltT, ltF, eqT, eqF, M1_lit, bI_true, bI_false, BZ_n0, BZ_n1, BZ_b, ↓reduceIte, l_0, l_1, l_2, l_3, l_4, l_5, l_6, l_7, l_8, l_9, l_10, l_11, l_12, l_13, l_14, l_15, l_16, l_17, l_18, l_19, l_20, l_21, l_22, l_23, l_24, l_25, l_26, l_27, l_28, l_29, l_30, l_31, l_32, l_33, l_34, l_35, l_36, l_37, l_38, l_39, l_40, l_41, l_42, l_43, l_44, l_45, l_46, l_47, l_48, l_49, l_50, l_51, l_52, l_53, l_54, l_55, l_56, l_57, l_58, l_59, l_60, l_61, l_62, l_63, l_64, l_72, l_74, l_86, l_97, l_99, l_100, l_122, l_140, l_158, l_160, l_164, l_200, l_240, l_255, l_400, l_406, l_900, l_940, l_980, l_999, l_1120, l_1000, l_100000, gI_sIs, gI_sIn, gI_sA, gI_sJ, gI_sL, gI_sP, gI_sQ, gI_sB, gA_sAs, gA_sAi, gA_sAn, gA_sI, gA_sJ, gA_sL, gA_sP, gA_sQ, gA_sBs, gA_sBn, gJ_sJs, gJ_sJn, gJ_sI, gJ_sA, gJ_sB, gJ_sL, gL_sI, gL_sA, gL_sJ, gL_sB, gL_sLs, gL_sLi, gL_sLn, gP_sI, gP_sA, gP_sB, gP_sJ, gP_sL, gP_sPs, gP_sPn, gQ_sI, gQ_sA, gQ_sB, gQ_sJ, gQ_sL, gQ_sP, gQ_sQs, gQ_sQi, gQ_sQn, m3, m4, n5, t2, lm, dm, mk]
    · have kk1 := k1.2 (by omega)
      have kk2 := k2.2 (by omega)
      refine ⟨sI (sI c1 (rb j + 2) (nI q)) (rb j + 3) (nI 0), sI (sI m1 6 (nI q)) 7 (nI 0), q, q, 0, 0, [], cl (fun rec => ?_), ml (fun rec => ?_), FRc_sI (FRc_sI frc _ (by omega) (by omega)) _ (by omega) (by omega), FRn_sI (FRn_sI frn _ (by omega) (by omega)) _ (by omega) (by omega), ⟨?_, m3, hN, by rw [hM]; exact m4, ?_, n5, q2, ?_, ?_, by omega, by omega, gI_sIs _ _ _, gI_sIs _ _ _, fun h => by omega, fun h => by omega, fun h => by omega⟩, q1, fun h _ => by omega⟩
      · unfold nxB
        rcases (show N ≤ M ∨ (M < N ∧ q < M) by omega) with g | ⟨g, g'⟩
        · simp (disch := omega) only [Nat.zero_add, LT, BD_some, BD2_some, JN1, JN2, IX_nI, nI_add, pk_mul, pk_sub, leT, leF, ltT, ltF, eqT, eqF, M1_lit, bI_true, bI_false, BZ_n0, BZ_n1, BZ_b, ↓reduceIte, l_0, l_1, l_2, l_3, l_4, l_5, l_6, l_7, l_8, l_9, l_10, l_11, l_12, l_13, l_14, l_15, l_16, l_17, l_18, l_19, l_20, l_21, l_22, l_23, l_24, l_25, l_26, l_27, l_28, l_29, l_30, l_31, l_32, l_33, l_34, l_35, l_36, l_37, l_38, l_39, l_40, l_41, l_42, l_43, l_44, l_45, l_46, l_47, l_48, l_49, l_50, l_51, l_52, l_53, l_54, l_55, l_56, l_57, l_58, l_59, l_60, l_61, l_62, l_63, l_64, l_72, l_74, l_86, l_97, l_99, l_100, l_122, l_140, l_158, l_160, l_164, l_200, l_240, l_255, l_400, l_406, l_900, l_940, l_980, l_999, l_1120, l_1000, l_100000, gI_sIs, gI_sIn, gI_sA, gI_sJ, gI_sL, gI_sP, gI_sQ, gI_sB, gA_sAs, gA_sAi, gA_sAn, gA_sI, gA_sJ, gA_sL, gA_sP, gA_sQ, gA_sBs, gA_sBn, gJ_sJs, gJ_sJn, gJ_sI, gJ_sA, gJ_sB, gJ_sL, gL_sI, gL_sA, gL_sJ, gL_sB, gL_sLs, gL_sLi, gL_sLn, gP_sI, gP_sA, gP_sB, gP_sJ, gP_sL, gP_sPs, gP_sPn, gQ_sI, gQ_sA, gQ_sB, gQ_sJ, gQ_sL, gQ_sP, gQ_sQs, gQ_sQi, gQ_sQn, kk1, kk2, hc1, c2, hM, M1_eq, le_M1]
        · simp (disch := omega) only [Nat.zero_add, LT, BD_some, BD2_some, JN1, JN2, IX_nI, nI_add, pk_mul, pk_sub, leT, leF, ltT, ltF, eqT, eqF, M1_lit, bI_true, bI_false, BZ_n0, BZ_n1, BZ_b, ↓reduceIte, l_0, l_1, l_2, l_3, l_4, l_5, l_6, l_7, l_8, l_9, l_10, l_11, l_12, l_13, l_14, l_15, l_16, l_17, l_18, l_19, l_20, l_21, l_22, l_23, l_24, l_25, l_26, l_27, l_28, l_29, l_30, l_31, l_32, l_33, l_34, l_35, l_36, l_37, l_38, l_39, l_40, l_41, l_42, l_43, l_44, l_45, l_46, l_47, l_48, l_49, l_50, l_51, l_52, l_53, l_54, l_55, l_56, l_57, l_58, l_59, l_60, l_61, l_62, l_63, l_64, l_72, l_74, l_86, l_97, l_99, l_100, l_122, l_140, l_158, l_160, l_164, l_200, l_240, l_255, l_400, l_406, l_900, l_940, l_980, l_999, l_1120, l_1000, l_100000, gI_sIs, gI_sIn, gI_sA, gI_sJ, gI_sL, gI_sP, gI_sQ, gI_sB, gA_sAs, gA_sAi, gA_sAn, gA_sI, gA_sJ, gA_sL, gA_sP, gA_sQ, gA_sBs, gA_sBn, gJ_sJs, gJ_sJn, gJ_sI, gJ_sA, gJ_sB, gJ_sL, gL_sI, gL_sA, gL_sJ, gL_sB, gL_sLs, gL_sLi, gL_sLn, gP_sI, gP_sA, gP_sB, gP_sJ, gP_sL, gP_sPs, gP_sPn, gQ_sI, gQ_sA, gQ_sB, gQ_sJ, gQ_sL, gQ_sP, gQ_sQs, gQ_sQi, gQ_sQn, kk1, kk2, hc1, c2, hM, M1_eq, le_M1]
      · unfold goB goT
        have g : N ≤ M := by omega
        simp (disch := omega) only [Nat.zero_add, LT, BD_some, BD2_some, JN1, JN2, IX_nI, nI_add, pk_mul, pk_sub, leT, leF, ltT, ltF, eqT, eqF, M1_lit, bI_true, bI_false, BZ_n0, BZ_n1, BZ_b, ↓reduceIte, l_0, l_1, l_2, l_3, l_4, l_5, l_6, l_7, l_8, l_9, l_10, l_11, l_12, l_13, l_14, l_15, l_16, l_17, l_18, l_19, l_20, l_21, l_22, l_23, l_24, l_25, l_26, l_27, l_28, l_29, l_30, l_31, l_32, l_33, l_34, l_35, l_36, l_37, l_38, l_39, l_40, l_41, l_42, l_43, l_44, l_45, l_46, l_47, l_48, l_49, l_50, l_51, l_52, l_53, l_54, l_55, l_56, l_57, l_58, l_59, l_60, l_61, l_62, l_63, l_64, l_72, l_74, l_86, l_97, l_99, l_100, l_122, l_140, l_158, l_160, l_164, l_200, l_240, l_255, l_400, l_406, l_900, l_940, l_980, l_999, l_1120, l_1000, l_100000, gI_sIs, gI_sIn, gI_sA, gI_sJ, gI_sL, gI_sP, gI_sQ, gI_sB, gA_sAs, gA_sAi, gA_sAn, gA_sI, gA_sJ, gA_sL, gA_sP, gA_sQ, gA_sBs, gA_sBn, gJ_sJs, gJ_sJn, gJ_sI, gJ_sA, gJ_sB, gJ_sL, gL_sI, gL_sA, gL_sJ, gL_sB, gL_sLs, gL_sLi, gL_sLn, gP_sI, gP_sA, gP_sB, gP_sJ, gP_sL, gP_sPs, gP_sPn, gQ_sI, gQ_sA, gQ_sB, gQ_sJ, gQ_sL, gQ_sP, gQ_sQs, gQ_sQi, gQ_sQn, m3, m4, n5]
      · rw [gI_sIn _ _ (by omega), gI_sIn _ _ (by omega)]; exact c2
      · rw [gI_sIn _ _ (by omega), gI_sIn _ _ (by omega)]; exact hc1
      · rw [gI_sIn _ _ (by omega), gI_sIs]
      · rw [gI_sIn _ _ (by omega), gI_sIs]
end LEX
/-- a token, and no fault so far -/
def LX (j : Nat) (T : Nat → Nat) (N : Nat) (c m : Rec) (p a k v : Nat) (l : List Nat) : Prop :=
  gI c 2 = nI N ∧ gI m 3 = nI N ∧ N ≤ 940 ∧ gI m 4 = mo j ∧ gI c (rb j + 1) = nI p ∧ gI m 5 = nI p ∧ p ≤ N ∧ gI c (rb j + 2) = nI a ∧ gI m 6 = nI a ∧ a ≤ 940 ∧ k ≤ 4 ∧ gI c (rb j + 3) = nI k ∧ gI m 7 = nI (mk k) ∧
  (k = 1 → WD l ∧ gI c (rb j + 5) = nI l.length ∧ gJ c (rb j + 6) = lN (p8 l) ∧ gJ m 12 = lN (p27 l) ∧ a + l.length ≤ N ∧ (∀ i, i < l.length → T (a + i) = l.reverse.getD i 0)) ∧
  (k = 2 → v ≤ 999 ∧ gI c (rb j + 4) = nI v ∧ gI m 8 = nI v) ∧
  (k = 3 → v < 256 ∧ gI c (rb j + 4) = nI v ∧ gI m 9 = nI v) ∧ gI m 10 = 0
theorem lex_v {j : Nat} {T : Nat → Nat} {N : Nat} {c m : Rec} {p : Nat} (hT : TPE T c m) (hN : N ≤ 940) (h2 : gI c 2 = nI N) (h3 : gI m 3 = nI N) (h4 : gI m 4 = mo j) (hp : gI c (rb j + 1) = nI p) (hq : gI m 5 = nI p) (hpN : p ≤ N) (h10 : gI m 10 = 0) : ∃ c' m' p' a k v l, x5_next j c = some c' ∧ m_go m = some m' ∧ FRc j c c' ∧ FRn m m' ∧ LX j T N c' m' p' a k v l ∧ p ≤ p' ∧ (1 ≤ k → k ≤ 3 → p < p') := by
  obtain ⟨c', m', p', a, k, v, l, f1, f2, f3, f4, ⟨x1, x2, x3, x4, x5, x6, x7, x8, x9, x10, x11, x12, x13, x14, x15, x16⟩, f6, f7⟩ := lex0_v hT hN h2 h3 h4 hp hq hpN
  exact ⟨c', m', p', a, k, v, l, f1, f2, f3, f4, ⟨x1, x2, x3, x4, x5, x6, x7, x8, x9, x10, x11, x12, x13, x14, x15, x16, (f4.2.2 10 (by omega)).trans h10⟩, f6, f7⟩
