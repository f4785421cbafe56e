/-! PURE: when it is proved, covers, plants and acts -/
section OPS
variable {x : Nat} {G : Wd} {m c : Rec} {b : Nat} {e z : Rec} {d : Nat → Nat} {ow : Nat → Nat} {n : Nat} {U : Nat → Nat → Nat}
/-- how many leaves have come by the day v - 1 -/
def cle (L : Nat → Nat) (N v : Nat) : Nat := cntN (fun q => decide (L q ≠ 0 ∧ L q ≤ v)) N
theorem cle_le (L : Nat → Nat) (N v : Nat) : cle L N v ≤ N := cntN_le _ _
/-- the least leaf by which there are P of them: 0 none -/
def bsN (L : Nat → Nat) (N P : Nat) : Nat → Nat
  | 0 => 0
  | p + 1 => if L p ≠ 0 ∧ P ≤ cle L N (L p) then (if bsN L N P p = 0 then L p else if bsN L N P p ≤ L p then bsN L N P p else L p) else bsN L N P p
theorem bsN_s (L : Nat → Nat) (N P p : Nat) : bsN L N P (p + 1) = if L p ≠ 0 ∧ P ≤ cle L N (L p) then (if bsN L N P p = 0 then L p else if bsN L N P p ≤ L p then bsN L N P p else L p) else bsN L N P p := rfl
theorem bsN_ok (L : Nat → Nat) (N P : Nat) : ∀ p, (bsN L N P p = 0 → ∀ q, q < p → ¬ (L q ≠ 0 ∧ P ≤ cle L N (L q))) ∧ (bsN L N P p ≠ 0 → (∃ q, q < p ∧ L q = bsN L N P p ∧ P ≤ cle L N (L q)) ∧ ∀ q, q < p → L q ≠ 0 → P ≤ cle L N (L q) → bsN L N P p ≤ L q) := by
  intro p
  induction p with
  | zero => exact ⟨fun _ q hq => absurd hq (Nat.not_lt_zero q), fun h => absurd rfl h⟩
  | succ p ih =>
    rw [bsN_s]
    generalize bsN L N P p = B at ih ⊢
    by_cases a : L p ≠ 0 ∧ P ≤ cle L N (L p)
    · rw [if_pos a]
      by_cases b0 : B = 0
      · rw [if_pos b0]
        refine ⟨fun h => absurd h a.1, fun _ => ⟨⟨p, by omega, rfl, a.2⟩, fun q hq h1 h2 => ?_⟩⟩
        by_cases e : q = p
        · rw [e]; exact Nat.le_refl _
        · exact absurd ⟨h1, h2⟩ (ih.1 b0 q (by omega))
      · rw [if_neg b0]
        obtain ⟨⟨q0, k1, k2, k3⟩, k4⟩ := ih.2 b0
        by_cases g : B ≤ L p
        · rw [if_pos g]
          refine ⟨fun h => absurd h b0, fun _ => ⟨⟨q0, by omega, k2, k3⟩, fun q hq h1 h2 => ?_⟩⟩
          by_cases e : q = p
          · rw [e]; exact g
          · exact k4 q (by omega) h1 h2
        · rw [if_neg g]
          refine ⟨fun h => absurd h a.1, fun _ => ⟨⟨p, by omega, rfl, a.2⟩, fun q hq h1 h2 => ?_⟩⟩
          by_cases e : q = p
          · rw [e]; exact Nat.le_refl _
          · have := k4 q (by omega) h1 h2; omega
    · rw [if_neg a]
      refine ⟨fun h q hq => ?_, fun h => ?_⟩
      · by_cases e : q = p
        · rw [e]; exact a
        · exact ih.1 h q (by omega)
      · obtain ⟨⟨q0, k1, k2, k3⟩, k4⟩ := ih.2 h
        refine ⟨⟨q0, by omega, k2, k3⟩, fun q hq h1 h2 => ?_⟩
        by_cases e : q = p
        · subst e; exact absurd ⟨h1, h2⟩ a
        · exact k4 q (by omega) h1 h2
/-- where there are P by v, there is a leaf by which there are -/
theorem cle_ex (L : Nat → Nat) (N P : Nat) (hP : 1 ≤ P) : ∀ v, P ≤ cle L N v → ∃ q, q < N ∧ L q ≠ 0 ∧ L q ≤ v ∧ P ≤ cle L N (L q) := by
  intro v
  induction v with
  | zero =>
    intro h
    have : cle L N 0 = 0 := by
      unfold cle
      have e : cntN (fun q => decide (L q ≠ 0 ∧ L q ≤ 0)) N = cntN (fun _ => false) N := cntN_congr (fun i _ => by simp)
      rw [e]
      have e2 : ∀ n, cntN (fun _ => false) n = 0 := by
        intro n
        induction n with
        | zero => rfl
        | succ n ih => rw [cntN_f rfl, ih]
      exact e2 N
    omega
  | succ v ih =>
    intro h
    by_cases a : ∃ q, q < N ∧ L q = v + 1
    · obtain ⟨q, h1, h2⟩ := a
      exact ⟨q, h1, by omega, by omega, by rw [h2]; exact h⟩
    · have e : cle L N (v + 1) = cle L N v := by
        unfold cle
        refine cntN_congr (fun i hi => ?_)
        have : L i ≠ v + 1 := fun h => a ⟨i, hi, h⟩
        by_cases c1 : L i ≠ 0 ∧ L i ≤ v
        · rw [decide_eq_true c1, decide_eq_true (show L i ≠ 0 ∧ L i ≤ v + 1 by omega)]
        · rw [decide_eq_false c1, decide_eq_false (show ¬ (L i ≠ 0 ∧ L i ≤ v + 1) by omega)]
      rw [e] at h
      obtain ⟨q, h1, h2, h3, h4⟩ := ih h
      exact ⟨q, h1, h2, by omega, h4⟩
def lvs (d : Nat → Nat) (i q : Nat) : Nat := d (86 + 12 * q + i)
theorem x1_count_v (hb : gP c 6 = some b) (he : HS e d) (hz : ZS z d) (hd : DI d) {i t : Nat} (hi : i < 12) (ht : t ≤ 400) (rec : Int32 → Option Int32) : LP2 (fun (rec8 : Int32 → Int32 → Option Int32) (v6 : Int32) (v7 : Int32) => PG (gP c 6) b ((if (gI e 8) ≤ v7 then PG (gP c 6) b ((if v6 < (gI e 13) then rec (nI t + (1 : Int32)) else some (nI t))) else BD (x4_comes z v7 (nI i)) (fun v12 => (if v12 = (-1 : Int32) then rec8 v6 (v7 + (1 : Int32)) else BD (x4_comes z v7 (nI i)) (fun v14 => (if nI t < v14 then rec8 v6 (v7 + (1 : Int32)) else rec8 (v6 + (1 : Int32)) (v7 + (1 : Int32))))))))) FU (0 : Int32) (0 : Int32) = if cle (lvs d i) (d 1) (t + 1) < d 5 then rec (nI (t + 1)) else some (nI t) := by
  have hN := hd.N
  have hp := hd.proof
  obtain ⟨-, e8, -, -, -, -, e13, -⟩ := id he
  refine LP2_run (fun p => nI (cntN (fun q => decide (lvs d i q ≠ 0 ∧ lvs d i q ≤ t + 1)) p)) (fun p => nI p) 0 (d 1) (by omega) rfl rfl (fun p _ hp rec => ?_) (fun rec => ?_)
  · have h1 := hd.leaf (p := p) (i := i) (by omega) hi
    by_cases a : d (86 + 12 * p + i) = 0
    · have a2 : cntN (fun q => decide (lvs d i q ≠ 0 ∧ lvs d i q ≤ t + 1)) (p + 1) = cntN (fun q => decide (lvs d i q ≠ 0 ∧ lvs d i q ≤ t + 1)) p := cntN_f (by unfold lvs; simp [a])
      simp (disch := omega) only [Nat.zero_add, LT, BD_some, BD2_some, JN1, JN2, IX_nI, nI_add, pk_mul, pk_sub, leT, leF, ltT, ltF, eqT, eqF, M1_lit, bI_true, bI_false, BZ_n0, BZ_n1, BZ_b, ↓reduceIte, l_0, l_1, l_2, l_3, l_4, l_5, l_6, l_7, l_8, l_9, l_10, l_11, l_12, l_13, l_14, l_15, l_16, l_17, l_18, l_19, l_20, l_21, l_22, l_23, l_24, l_25, l_26, l_27, l_28, l_29, l_30, l_31, l_32, l_33, l_34, l_35, l_36, l_37, l_38, l_39, l_40, l_41, l_42, l_43, l_44, l_45, l_46, l_47, l_48, l_49, l_50, l_51, l_52, l_53, l_54, l_55, l_56, l_57, l_58, l_59, l_60, l_61, l_62, l_63, l_64, l_72, l_74, l_86, l_97, l_99, l_100, l_122, l_140, l_158, l_160, l_164, l_200, l_240, l_255, l_400, l_406, l_900, l_940, l_980, l_999, l_1120, l_1000, l_100000, PG_of _ hb, e8, x4_comes_v hz, a, lf_0, M1_M1, a2]
    · by_cases g : d (86 + 12 * p + i) ≤ t + 1
      · have a2 : cntN (fun q => decide (lvs d i q ≠ 0 ∧ lvs d i q ≤ t + 1)) (p + 1) = cntN (fun q => decide (lvs d i q ≠ 0 ∧ lvs d i q ≤ t + 1)) p + 1 := cntN_t (by unfold lvs; simp [a, g])
        simp (disch := omega) only [Nat.zero_add, LT, BD_some, BD2_some, JN1, JN2, IX_nI, nI_add, pk_mul, pk_sub, leT, leF, ltT, ltF, eqT, eqF, M1_lit, bI_true, bI_false, BZ_n0, BZ_n1, BZ_b, ↓reduceIte, l_0, l_1, l_2, l_3, l_4, l_5, l_6, l_7, l_8, l_9, l_10, l_11, l_12, l_13, l_14, l_15, l_16, l_17, l_18, l_19, l_20, l_21, l_22, l_23, l_24, l_25, l_26, l_27, l_28, l_29, l_30, l_31, l_32, l_33, l_34, l_35, l_36, l_37, l_38, l_39, l_40, l_41, l_42, l_43, l_44, l_45, l_46, l_47, l_48, l_49, l_50, l_51, l_52, l_53, l_54, l_55, l_56, l_57, l_58, l_59, l_60, l_61, l_62, l_63, l_64, l_72, l_74, l_86, l_97, l_99, l_100, l_122, l_140, l_158, l_160, l_164, l_200, l_240, l_255, l_400, l_406, l_900, l_940, l_980, l_999, l_1120, l_1000, l_100000, PG_of _ hb, e8, x4_comes_v hz, lf_M1, lf_ltF, a2]
      · have a2 : cntN (fun q => decide (lvs d i q ≠ 0 ∧ lvs d i q ≤ t + 1)) (p + 1) = cntN (fun q => decide (lvs d i q ≠ 0 ∧ lvs d i q ≤ t + 1)) p := cntN_f (by unfold lvs; simp [g])
        simp (disch := omega) only [Nat.zero_add, LT, BD_some, BD2_some, JN1, JN2, IX_nI, nI_add, pk_mul, pk_sub, leT, leF, ltT, ltF, eqT, eqF, M1_lit, bI_true, bI_false, BZ_n0, BZ_n1, BZ_b, ↓reduceIte, l_0, l_1, l_2, l_3, l_4, l_5, l_6, l_7, l_8, l_9, l_10, l_11, l_12, l_13, l_14, l_15, l_16, l_17, l_18, l_19, l_20, l_21, l_22, l_23, l_24, l_25, l_26, l_27, l_28, l_29, l_30, l_31, l_32, l_33, l_34, l_35, l_36, l_37, l_38, l_39, l_40, l_41, l_42, l_43, l_44, l_45, l_46, l_47, l_48, l_49, l_50, l_51, l_52, l_53, l_54, l_55, l_56, l_57, l_58, l_59, l_60, l_61, l_62, l_63, l_64, l_72, l_74, l_86, l_97, l_99, l_100, l_122, l_140, l_158, l_160, l_164, l_200, l_240, l_255, l_400, l_406, l_900, l_940, l_980, l_999, l_1120, l_1000, l_100000, PG_of _ hb, e8, x4_comes_v hz, lf_M1, lf_ltT, a2]
  · have h2 := cle_le (lvs d i) (d 1) (t + 1)
    have ec : cntN (fun q => decide (lvs d i q ≠ 0 ∧ lvs d i q ≤ t + 1)) (d 1) = cle (lvs d i) (d 1) (t + 1) := rfl
    by_cases g : cle (lvs d i) (d 1) (t + 1) < d 5
    · simp (disch := omega) only [Nat.zero_add, LT, BD_some, BD2_some, JN1, JN2, IX_nI, nI_add, pk_mul, pk_sub, leT, leF, ltT, ltF, eqT, eqF, M1_lit, bI_true, bI_false, BZ_n0, BZ_n1, BZ_b, ↓reduceIte, l_0, l_1, l_2, l_3, l_4, l_5, l_6, l_7, l_8, l_9, l_10, l_11, l_12, l_13, l_14, l_15, l_16, l_17, l_18, l_19, l_20, l_21, l_22, l_23, l_24, l_25, l_26, l_27, l_28, l_29, l_30, l_31, l_32, l_33, l_34, l_35, l_36, l_37, l_38, l_39, l_40, l_41, l_42, l_43, l_44, l_45, l_46, l_47, l_48, l_49, l_50, l_51, l_52, l_53, l_54, l_55, l_56, l_57, l_58, l_59, l_60, l_61, l_62, l_63, l_64, l_72, l_74, l_86, l_97, l_99, l_100, l_122, l_140, l_158, l_160, l_164, l_200, l_240, l_255, l_400, l_406, l_900, l_940, l_980, l_999, l_1120, l_1000, l_100000, PG_of _ hb, e8, e13, ec, g]
    · simp (disch := omega) only [Nat.zero_add, LT, BD_some, BD2_some, JN1, JN2, IX_nI, nI_add, pk_mul, pk_sub, leT, leF, ltT, ltF, eqT, eqF, M1_lit, bI_true, bI_false, BZ_n0, BZ_n1, BZ_b, ↓reduceIte, l_0, l_1, l_2, l_3, l_4, l_5, l_6, l_7, l_8, l_9, l_10, l_11, l_12, l_13, l_14, l_15, l_16, l_17, l_18, l_19, l_20, l_21, l_22, l_23, l_24, l_25, l_26, l_27, l_28, l_29, l_30, l_31, l_32, l_33, l_34, l_35, l_36, l_37, l_38, l_39, l_40, l_41, l_42, l_43, l_44, l_45, l_46, l_47, l_48, l_49, l_50, l_51, l_52, l_53, l_54, l_55, l_56, l_57, l_58, l_59, l_60, l_61, l_62, l_63, l_64, l_72, l_74, l_86, l_97, l_99, l_100, l_122, l_140, l_158, l_160, l_164, l_200, l_240, l_255, l_400, l_406, l_900, l_940, l_980, l_999, l_1120, l_1000, l_100000, PG_of _ hb, e8, e13, ec, g]
theorem m_proves_v {s : Rec} (h : gA s 14 = RF d) (hd : DI d) {i : Nat} (hi : i < 12) : LP2 (fun (rec6 : Int32 → Int32 → Option (Int32 × Rec)) (v4 : Int32) (v5 : Int32) => (if (gA s 14 1) ≤ v5 then (if v4 ≤ (400 : Int32) then some (v4, s) else some ((-1 : Int32), s)) else BD (m_leafOf s v5 (nI i)) (fun v8 => LP2 (fun (rec11 : Int32 → Int32 → Option (Int32 × Rec)) (v9 : Int32) (v10 : Int32) => (if (gA s 14 1) ≤ v10 then (if v8 = (-1 : Int32) then rec6 v4 (v5 + (1 : Int32)) else (if v9 < (gA s 14 5) then rec6 v4 (v5 + (1 : Int32)) else (if v4 = (-1 : Int32) then rec6 v8 (v5 + (1 : Int32)) else (if v4 ≤ v8 then rec6 v4 (v5 + (1 : Int32)) else rec6 v8 (v5 + (1 : Int32)))))) else BD (m_leafOf s v10 (nI i)) (fun v13 => (if v13 = (-1 : Int32) then rec11 v9 (v10 + (1 : Int32)) else BD (m_leafOf s v10 (nI i)) (fun v15 => (if v8 < v15 then rec11 v9 (v10 + (1 : Int32)) else rec11 (v9 + (1 : Int32)) (v10 + (1 : Int32)))))))) FU (0 : Int32) (0 : Int32)))) FU (-1 : Int32) (0 : Int32) = some (if bsN (lvs d i) (d 1) (d 5) (d 1) ≤ 401 then lf (bsN (lvs d i) (d 1) (d 5) (d 1)) else M1, s) := by
  have hN := hd.N
  have hpf := hd.proof
  have hb : ∀ p, p ≤ d 1 → bsN (lvs d i) (d 1) (d 5) p ≤ 600 := fun p hp => by
    by_cases a : bsN (lvs d i) (d 1) (d 5) p = 0
    · omega
    · obtain ⟨⟨q, h1, h2, -⟩, -⟩ := (bsN_ok (lvs d i) (d 1) (d 5) p).2 a
      rw [← h2]; exact hd.leaf (by omega) hi
  refine LP2_run (fun p => lf (bsN (lvs d i) (d 1) (d 5) p)) (fun p => nI p) 0 (d 1) (by omega) rfl rfl (fun p _ hp rec => ?_) (fun rec => ?_)
  · have h1 := hd.leaf (p := p) (i := i) (by omega) hi
    have h2 := hb p (by omega)
    have hs := bsN_s (lvs d i) (d 1) (d 5) p
    (obtain ⟨F, hFU⟩ : ∃ F, FU = F := ⟨_, rfl⟩; rw [hFU]; simp (disch := omega) only [Nat.zero_add, LT, BD_some, BD2_some, JN1, JN2, IX_nI, nI_add, pk_mul, pk_sub, leT, leF, ltT, ltF, eqT, eqF, M1_lit, bI_true, bI_false, BZ_n0, BZ_n1, BZ_b, ↓reduceIte, l_0, l_1, l_2, l_3, l_4, l_5, l_6, l_7, l_8, l_9, l_10, l_11, l_12, l_13, l_14, l_15, l_16, l_17, l_18, l_19, l_20, l_21, l_22, l_23, l_24, l_25, l_26, l_27, l_28, l_29, l_30, l_31, l_32, l_33, l_34, l_35, l_36, l_37, l_38, l_39, l_40, l_41, l_42, l_43, l_44, l_45, l_46, l_47, l_48, l_49, l_50, l_51, l_52, l_53, l_54, l_55, l_56, l_57, l_58, l_59, l_60, l_61, l_62, l_63, l_64, l_72, l_74, l_86, l_97, l_99, l_100, l_122, l_140, l_158, l_160, l_164, l_200, l_240, l_255, l_400, l_406, l_900, l_940, l_980, l_999, l_1120, l_1000, l_100000, h, RF_a, m_leafOf_v h]; rw [← hFU])
    refine LP2_run (fun q => nI (cntN (fun q => decide (lvs d i q ≠ 0 ∧ lvs d i q ≤ lvs d i p)) q)) (fun q => nI q) 0 (d 1) (by omega) rfl rfl (fun q _ hq rec2 => ?_) (fun rec2 => ?_)
    · have h3 := hd.leaf (p := q) (i := i) (by omega) hi
      by_cases a : d (86 + 12 * q + i) = 0
      · have a2 : cntN (fun q => decide (lvs d i q ≠ 0 ∧ lvs d i q ≤ lvs d i p)) (q + 1) = cntN (fun q => decide (lvs d i q ≠ 0 ∧ lvs d i q ≤ lvs d i p)) q := cntN_f (by unfold lvs; simp [a])
        simp (disch := omega) only [Nat.zero_add, LT, BD_some, BD2_some, JN1, JN2, IX_nI, nI_add, pk_mul, pk_sub, leT, leF, ltT, ltF, eqT, eqF, M1_lit, bI_true, bI_false, BZ_n0, BZ_n1, BZ_b, ↓reduceIte, l_0, l_1, l_2, l_3, l_4, l_5, l_6, l_7, l_8, l_9, l_10, l_11, l_12, l_13, l_14, l_15, l_16, l_17, l_18, l_19, l_20, l_21, l_22, l_23, l_24, l_25, l_26, l_27, l_28, l_29, l_30, l_31, l_32, l_33, l_34, l_35, l_36, l_37, l_38, l_39, l_40, l_41, l_42, l_43, l_44, l_45, l_46, l_47, l_48, l_49, l_50, l_51, l_52, l_53, l_54, l_55, l_56, l_57, l_58, l_59, l_60, l_61, l_62, l_63, l_64, l_72, l_74, l_86, l_97, l_99, l_100, l_122, l_140, l_158, l_160, l_164, l_200, l_240, l_255, l_400, l_406, l_900, l_940, l_980, l_999, l_1120, l_1000, l_100000, h, RF_a, m_leafOf_v h, a, lf_0, M1_M1, a2]
      · by_cases g : d (86 + 12 * q + i) ≤ d (86 + 12 * p + i)
        · have a2 : cntN (fun q => decide (lvs d i q ≠ 0 ∧ lvs d i q ≤ lvs d i p)) (q + 1) = cntN (fun q => decide (lvs d i q ≠ 0 ∧ lvs d i q ≤ lvs d i p)) q + 1 := cntN_t (by unfold lvs; simp [a, g])
          simp (disch := omega) only [Nat.zero_add, LT, BD_some, BD2_some, JN1, JN2, IX_nI, nI_add, pk_mul, pk_sub, leT, leF, ltT, ltF, eqT, eqF, M1_lit, bI_true, bI_false, BZ_n0, BZ_n1, BZ_b, ↓reduceIte, l_0, l_1, l_2, l_3, l_4, l_5, l_6, l_7, l_8, l_9, l_10, l_11, l_12, l_13, l_14, l_15, l_16, l_17, l_18, l_19, l_20, l_21, l_22, l_23, l_24, l_25, l_26, l_27, l_28, l_29, l_30, l_31, l_32, l_33, l_34, l_35, l_36, l_37, l_38, l_39, l_40, l_41, l_42, l_43, l_44, l_45, l_46, l_47, l_48, l_49, l_50, l_51, l_52, l_53, l_54, l_55, l_56, l_57, l_58, l_59, l_60, l_61, l_62, l_63, l_64, l_72, l_74, l_86, l_97, l_99, l_100, l_122, l_140, l_158, l_160, l_164, l_200, l_240, l_255, l_400, l_406, l_900, l_940, l_980, l_999, l_1120, l_1000, l_100000, h, RF_a, m_leafOf_v h, lf_M1, lf_lfF, a2]
        · have a2 : cntN (fun q => decide (lvs d i q ≠ 0 ∧ lvs d i q ≤ lvs d i p)) (q + 1) = cntN (fun q => decide (lvs d i q ≠ 0 ∧ lvs d i q ≤ lvs d i p)) q := cntN_f (by unfold lvs; simp [g])
          simp (disch := omega) only [Nat.zero_add, LT, BD_some, BD2_some, JN1, JN2, IX_nI, nI_add, pk_mul, pk_sub, leT, leF, ltT, ltF, eqT, eqF, M1_lit, bI_true, bI_false, BZ_n0, BZ_n1, BZ_b, ↓reduceIte, l_0, l_1, l_2, l_3, l_4, l_5, l_6, l_7, l_8, l_9, l_10, l_11, l_12, l_13, l_14, l_15, l_16, l_17, l_18, l_19, l_20, l_21, l_22, l_23, l_24, l_25, l_26, l_27, l_28, l_29, l_30, l_31, l_32, l_33, l_34, l_35, l_36, l_37, l_38, l_39, l_40, l_41, l_42, l_43, l_44, l_45, l_46, l_47, l_48, l_49, l_50, l_51, l_52, l_53, l_54, l_55, l_56, l_57, l_58, l_59, l_60, l_61, l_62, l_63, l_64, l_72, l_74, l_86, l_97, l_99, l_100, l_122, l_140, l_158, l_160, l_164, l_200, l_240, l_255, l_400, l_406, l_900, l_940, l_980, l_999, l_1120, l_1000, l_100000, h, RF_a, m_leafOf_v h, lf_M1, lf_lfT, a2]
    · have ec : cntN (fun q => decide (lvs d i q ≠ 0 ∧ lvs d i q ≤ lvs d i p)) (d 1) = cle (lvs d i) (d 1) (lvs d i p) := rfl
      have h4 := cle_le (lvs d i) (d 1) (lvs d i p)
      have el : d (86 + 12 * p + i) = lvs d i p := rfl
      rw [el] at h1 ⊢
      by_cases a : lvs d i p = 0
      · rw [if_neg (by omega)] at hs
        simp (disch := omega) only [Nat.zero_add, LT, BD_some, BD2_some, JN1, JN2, IX_nI, nI_add, pk_mul, pk_sub, leT, leF, ltT, ltF, eqT, eqF, M1_lit, bI_true, bI_false, BZ_n0, BZ_n1, BZ_b, ↓reduceIte, l_0, l_1, l_2, l_3, l_4, l_5, l_6, l_7, l_8, l_9, l_10, l_11, l_12, l_13, l_14, l_15, l_16, l_17, l_18, l_19, l_20, l_21, l_22, l_23, l_24, l_25, l_26, l_27, l_28, l_29, l_30, l_31, l_32, l_33, l_34, l_35, l_36, l_37, l_38, l_39, l_40, l_41, l_42, l_43, l_44, l_45, l_46, l_47, l_48, l_49, l_50, l_51, l_52, l_53, l_54, l_55, l_56, l_57, l_58, l_59, l_60, l_61, l_62, l_63, l_64, l_72, l_74, l_86, l_97, l_99, l_100, l_122, l_140, l_158, l_160, l_164, l_200, l_240, l_255, l_400, l_406, l_900, l_940, l_980, l_999, l_1120, l_1000, l_100000, h, RF_a, a, lf_0, M1_M1, hs]
      · by_cases g : cle (lvs d i) (d 1) (lvs d i p) < d 5
        · rw [if_neg (by omega)] at hs
          simp (disch := omega) only [Nat.zero_add, LT, BD_some, BD2_some, JN1, JN2, IX_nI, nI_add, pk_mul, pk_sub, leT, leF, ltT, ltF, eqT, eqF, M1_lit, bI_true, bI_false, BZ_n0, BZ_n1, BZ_b, ↓reduceIte, l_0, l_1, l_2, l_3, l_4, l_5, l_6, l_7, l_8, l_9, l_10, l_11, l_12, l_13, l_14, l_15, l_16, l_17, l_18, l_19, l_20, l_21, l_22, l_23, l_24, l_25, l_26, l_27, l_28, l_29, l_30, l_31, l_32, l_33, l_34, l_35, l_36, l_37, l_38, l_39, l_40, l_41, l_42, l_43, l_44, l_45, l_46, l_47, l_48, l_49, l_50, l_51, l_52, l_53, l_54, l_55, l_56, l_57, l_58, l_59, l_60, l_61, l_62, l_63, l_64, l_72, l_74, l_86, l_97, l_99, l_100, l_122, l_140, l_158, l_160, l_164, l_200, l_240, l_255, l_400, l_406, l_900, l_940, l_980, l_999, l_1120, l_1000, l_100000, h, RF_a, lf_M1, ec, hs]
        · rw [if_pos (by omega)] at hs
          by_cases b0 : bsN (lvs d i) (d 1) (d 5) p = 0
          · rw [if_pos b0] at hs
            simp (disch := omega) only [Nat.zero_add, LT, BD_some, BD2_some, JN1, JN2, IX_nI, nI_add, pk_mul, pk_sub, leT, leF, ltT, ltF, eqT, eqF, M1_lit, bI_true, bI_false, BZ_n0, BZ_n1, BZ_b, ↓reduceIte, l_0, l_1, l_2, l_3, l_4, l_5, l_6, l_7, l_8, l_9, l_10, l_11, l_12, l_13, l_14, l_15, l_16, l_17, l_18, l_19, l_20, l_21, l_22, l_23, l_24, l_25, l_26, l_27, l_28, l_29, l_30, l_31, l_32, l_33, l_34, l_35, l_36, l_37, l_38, l_39, l_40, l_41, l_42, l_43, l_44, l_45, l_46, l_47, l_48, l_49, l_50, l_51, l_52, l_53, l_54, l_55, l_56, l_57, l_58, l_59, l_60, l_61, l_62, l_63, l_64, l_72, l_74, l_86, l_97, l_99, l_100, l_122, l_140, l_158, l_160, l_164, l_200, l_240, l_255, l_400, l_406, l_900, l_940, l_980, l_999, l_1120, l_1000, l_100000, h, RF_a, lf_M1, ec, b0, lf_0, M1_M1, hs]
          · rw [if_neg b0] at hs
            by_cases g2 : bsN (lvs d i) (d 1) (d 5) p ≤ lvs d i p
            · rw [if_pos g2] at hs
              have g3 : (lf (bsN (lvs d i) (d 1) (d 5) p) ≤ lf (lvs d i p)) = True := by rw [lf_p (show 0 < lvs d i p by omega)]; exact lf_leT (by omega) (by omega)
              simp (disch := omega) only [Nat.zero_add, LT, BD_some, BD2_some, JN1, JN2, IX_nI, nI_add, pk_mul, pk_sub, leT, leF, ltT, ltF, eqT, eqF, M1_lit, bI_true, bI_false, BZ_n0, BZ_n1, BZ_b, ↓reduceIte, l_0, l_1, l_2, l_3, l_4, l_5, l_6, l_7, l_8, l_9, l_10, l_11, l_12, l_13, l_14, l_15, l_16, l_17, l_18, l_19, l_20, l_21, l_22, l_23, l_24, l_25, l_26, l_27, l_28, l_29, l_30, l_31, l_32, l_33, l_34, l_35, l_36, l_37, l_38, l_39, l_40, l_41, l_42, l_43, l_44, l_45, l_46, l_47, l_48, l_49, l_50, l_51, l_52, l_53, l_54, l_55, l_56, l_57, l_58, l_59, l_60, l_61, l_62, l_63, l_64, l_72, l_74, l_86, l_97, l_99, l_100, l_122, l_140, l_158, l_160, l_164, l_200, l_240, l_255, l_400, l_406, l_900, l_940, l_980, l_999, l_1120, l_1000, l_100000, h, RF_a, lf_M1, ec, g3, hs]
            · rw [if_neg g2] at hs
              have g3 : (lf (bsN (lvs d i) (d 1) (d 5) p) ≤ lf (lvs d i p)) = False := by rw [lf_p (show 0 < lvs d i p by omega)]; exact lf_leF (by omega) (by omega)
              simp (disch := omega) only [Nat.zero_add, LT, BD_some, BD2_some, JN1, JN2, IX_nI, nI_add, pk_mul, pk_sub, leT, leF, ltT, ltF, eqT, eqF, M1_lit, bI_true, bI_false, BZ_n0, BZ_n1, BZ_b, ↓reduceIte, l_0, l_1, l_2, l_3, l_4, l_5, l_6, l_7, l_8, l_9, l_10, l_11, l_12, l_13, l_14, l_15, l_16, l_17, l_18, l_19, l_20, l_21, l_22, l_23, l_24, l_25, l_26, l_27, l_28, l_29, l_30, l_31, l_32, l_33, l_34, l_35, l_36, l_37, l_38, l_39, l_40, l_41, l_42, l_43, l_44, l_45, l_46, l_47, l_48, l_49, l_50, l_51, l_52, l_53, l_54, l_55, l_56, l_57, l_58, l_59, l_60, l_61, l_62, l_63, l_64, l_72, l_74, l_86, l_97, l_99, l_100, l_122, l_140, l_158, l_160, l_164, l_200, l_240, l_255, l_400, l_406, l_900, l_940, l_980, l_999, l_1120, l_1000, l_100000, h, RF_a, lf_M1, ec, g3, hs]
  · have h2 := hb (d 1) (Nat.le_refl _)
    by_cases g : bsN (lvs d i) (d 1) (d 5) (d 1) ≤ 401
    · have g3 : (lf (bsN (lvs d i) (d 1) (d 5) (d 1)) ≤ nI 400) = True := lf_leT (by omega) (by omega)
      simp (disch := omega) only [Nat.zero_add, LT, BD_some, BD2_some, JN1, JN2, IX_nI, nI_add, pk_mul, pk_sub, leT, leF, ltT, ltF, eqT, eqF, M1_lit, bI_true, bI_false, BZ_n0, BZ_n1, BZ_b, ↓reduceIte, l_0, l_1, l_2, l_3, l_4, l_5, l_6, l_7, l_8, l_9, l_10, l_11, l_12, l_13, l_14, l_15, l_16, l_17, l_18, l_19, l_20, l_21, l_22, l_23, l_24, l_25, l_26, l_27, l_28, l_29, l_30, l_31, l_32, l_33, l_34, l_35, l_36, l_37, l_38, l_39, l_40, l_41, l_42, l_43, l_44, l_45, l_46, l_47, l_48, l_49, l_50, l_51, l_52, l_53, l_54, l_55, l_56, l_57, l_58, l_59, l_60, l_61, l_62, l_63, l_64, l_72, l_74, l_86, l_97, l_99, l_100, l_122, l_140, l_158, l_160, l_164, l_200, l_240, l_255, l_400, l_406, l_900, l_940, l_980, l_999, l_1120, l_1000, l_100000, h, RF_a, g3, g]
    · have g3 : (lf (bsN (lvs d i) (d 1) (d 5) (d 1)) ≤ nI 400) = False := lf_leF (by omega) (by omega)
      simp (disch := omega) only [Nat.zero_add, LT, BD_some, BD2_some, JN1, JN2, IX_nI, nI_add, pk_mul, pk_sub, leT, leF, ltT, ltF, eqT, eqF, M1_lit, bI_true, bI_false, BZ_n0, BZ_n1, BZ_b, ↓reduceIte, l_0, l_1, l_2, l_3, l_4, l_5, l_6, l_7, l_8, l_9, l_10, l_11, l_12, l_13, l_14, l_15, l_16, l_17, l_18, l_19, l_20, l_21, l_22, l_23, l_24, l_25, l_26, l_27, l_28, l_29, l_30, l_31, l_32, l_33, l_34, l_35, l_36, l_37, l_38, l_39, l_40, l_41, l_42, l_43, l_44, l_45, l_46, l_47, l_48, l_49, l_50, l_51, l_52, l_53, l_54, l_55, l_56, l_57, l_58, l_59, l_60, l_61, l_62, l_63, l_64, l_72, l_74, l_86, l_97, l_99, l_100, l_122, l_140, l_158, l_160, l_164, l_200, l_240, l_255, l_400, l_406, l_900, l_940, l_980, l_999, l_1120, l_1000, l_100000, h, RF_a, g3, g]
theorem op_proves (h : RR x G m c b e z d ow n U) (w : Int32) : ∃ v, x1_proves c b e z w = some v ∧ m_proves m w = some (v, sI m 0 0) := by
  have hd := h.di
  have hN := hd.N
  have hA := hd.acts
  have t := h.t14 0
  have hpf := hd.proof
  have z5 := h.hz.2.2.2.2.2.2.2.1
  unfold x1_proves m_proves
  simp only [LT]
  generalize sI m 0 0 = s at t ⊢
  rw [x1_isAct_v h.hz, m_isAct_v t]
  rcases inn_count w (d 25) (by omega) with ⟨hp, i, hi, rfl⟩ | hp
  · rw [hp]
    simp only [BD_some]
    rw [if_neg (by decide), if_neg (by decide), m_proves_v t hd (by omega)]
    refine ⟨_, ?_, rfl⟩
    rw [IX_nI _ (by omega) (by omega), z5 i (by omega)]
    have hww := hd.since (i := i) (by omega)
    have hB := bsN_ok (lvs d i) (d 1) (d 5) (d 1)
    have hlt : ∀ q, q < d 1 → lvs d i q ≠ 0 → d (74 + i) + 1 < lvs d i q := fun q hq h0 => h.gd.2.2.2.1 q i (by omega) hi h0
    have hall : ∀ v, d 5 ≤ cle (lvs d i) (d 1) v → bsN (lvs d i) (d 1) (d 5) (d 1) ≠ 0 ∧ bsN (lvs d i) (d 1) (d 5) (d 1) ≤ v := by
      intro v hv
      obtain ⟨q, h1, h2, h3, h4⟩ := cle_ex _ _ _ hpf.1 v hv
      have hne : bsN (lvs d i) (d 1) (d 5) (d 1) ≠ 0 := fun h0 => hB.1 h0 q h1 ⟨h2, h4⟩
      have := (hB.2 hne).2 q h1 h2 h4
      exact ⟨hne, by omega⟩
    generalize hbs : bsN (lvs d i) (d 1) (d 5) (d 1) = B at hB hall ⊢
    have step : ∀ k, k ≤ 400 → (B = 0 ∨ k + 1 < B) → ∀ rec : Int32 → Option Int32, (if (400 : Int32) < nI k then some (-1 : Int32) else LP2 (fun (rec8 : Int32 → Int32 → Option Int32) (v6 : Int32) (v7 : Int32) => PG (gP c 6) b ((if (gI e 8) ≤ v7 then PG (gP c 6) b ((if v6 < (gI e 13) then rec (nI k + (1 : Int32)) else some (nI k))) else BD (x4_comes z v7 (nI i)) (fun v12 => (if v12 = (-1 : Int32) then rec8 v6 (v7 + (1 : Int32)) else BD (x4_comes z v7 (nI i)) (fun v14 => (if nI k < v14 then rec8 v6 (v7 + (1 : Int32)) else rec8 (v6 + (1 : Int32)) (v7 + (1 : Int32))))))))) FU (0 : Int32) (0 : Int32)) = rec (nI (k + 1)) := by
      intro k hk hB2 rec
      rw [if_neg (by exact nI_nlt (a := 400) hk (by omega)), x1_count_v h.hb h.he h.hz hd (by omega) hk rec, if_pos]
      exact Nat.lt_of_not_le (fun hv => by have := hall _ hv; omega)
    by_cases g : B ≤ 401 ∧ B ≠ 0
    · obtain ⟨⟨q, h1, h2, h3⟩, -⟩ := hB.2 g.2
      have h4 := hlt q h1 (by omega)
      rw [if_pos g.1, lf_p (by omega)]
      refine LP1_run (fun k => nI k) (d (74 + i)) (B - 1 - d (74 + i)) (by omega) rfl (fun k h5 h6 rec => step k (by omega) (by omega) rec) (fun rec => ?_)
      rw [show d (74 + i) + (B - 1 - d (74 + i)) = B - 1 by omega]
      refine (if_neg (by exact nI_nlt (a := 400) (b := B - 1) (by omega) (by omega))).trans ?_
      rw [x1_count_v h.hb h.he h.hz hd (by omega) (by omega) rec, if_neg]
      rw [show B - 1 + 1 = B by omega, ← h2]; omega
    · have er : (if B ≤ 401 then lf B else M1) = M1 := by
        by_cases g1 : B ≤ 401
        · rw [if_pos g1, show B = 0 by omega, lf_0]
        · rw [if_neg g1]
      rw [er]
      refine LP1_run (fun k => nI k) (d (74 + i)) (401 - d (74 + i)) (by omega) rfl (fun k h5 h6 rec => step k (by omega) (by omega) rec) (fun rec => ?_)
      rw [show d (74 + i) + (401 - d (74 + i)) = 401 by omega]
      exact if_pos (nI_lt (a := 400) (b := 401) (by omega) (by omega))
  · rw [hp]
    exact ⟨M1, by simp (disch := omega) only [Nat.zero_add, LT, BD_some, BD2_some, JN1, JN2, IX_nI, nI_add, pk_mul, pk_sub, leT, leF, ltT, ltF, eqT, eqF, M1_lit, bI_true, bI_false, BZ_n0, BZ_n1, BZ_b, ↓reduceIte, l_0, l_1, l_2, l_3, l_4, l_5, l_6, l_7, l_8, l_9, l_10, l_11, l_12, l_13, l_14, l_15, l_16, l_17, l_18, l_19, l_20, l_21, l_22, l_23, l_24, l_25, l_26, l_27, l_28, l_29, l_30, l_31, l_32, l_33, l_34, l_35, l_36, l_37, l_38, l_39, l_40, l_41, l_42, l_43, l_44, l_45, l_46, l_47, l_48, l_49, l_50, l_51, l_52, l_53, l_54, l_55, l_56, l_57, l_58, l_59, l_60, l_61, l_62, l_63, l_64, l_72, l_74, l_86, l_97, l_99, l_100, l_122, l_140, l_158, l_160, l_164, l_200, l_240, l_255, l_400, l_406, l_900, l_940, l_980, l_999, l_1120, l_1000, l_100000], by simp (disch := omega) only [Nat.zero_add, LT, BD_some, BD2_some, JN1, JN2, IX_nI, nI_add, pk_mul, pk_sub, leT, leF, ltT, ltF, eqT, eqF, M1_lit, bI_true, bI_false, BZ_n0, BZ_n1, BZ_b, ↓reduceIte, l_0, l_1, l_2, l_3, l_4, l_5, l_6, l_7, l_8, l_9, l_10, l_11, l_12, l_13, l_14, l_15, l_16, l_17, l_18, l_19, l_20, l_21, l_22, l_23, l_24, l_25, l_26, l_27, l_28, l_29, l_30, l_31, l_32, l_33, l_34, l_35, l_36, l_37, l_38, l_39, l_40, l_41, l_42, l_43, l_44, l_45, l_46, l_47, l_48, l_49, l_50, l_51, l_52, l_53, l_54, l_55, l_56, l_57, l_58, l_59, l_60, l_61, l_62, l_63, l_64, l_72, l_74, l_86, l_97, l_99, l_100, l_122, l_140, l_158, l_160, l_164, l_200, l_240, l_255, l_400, l_406, l_900, l_940, l_980, l_999, l_1120, l_1000, l_100000]⟩
theorem op_plant (h : RR x G m c b e z d ow n U) (p w : Int32) : (∃ v, x1_plant G x p w = some (v, G) ∧ m_plant m p w = some (v, sI m 0 0)) ∨ (x1_plantT G x p w = some () ∧ ∃ v, m_plant m p w = some (v, sI (sI m 0 0) 0 1)) := by
  have hd := h.di
  have hN := hd.N
  have t := h.t14 0
  obtain ⟨-, -, -, -, e11, -, -, -, -, e6⟩ := h.he
  obtain ⟨-, -, z0, z1, -⟩ := h.hz
  have hf := hd.ferns
  unfold x1_plant x1_plantT m_plant m_refuse
  simp only [LT, RD_of _ h.hx, h.hb, BD_some, RD_of _ h.g2, RD_of _ h.g3, JN1]
  generalize sI m 0 0 = s at t ⊢
  rw [x1_isPlant_v h.hb h.he, m_isPlant_v t]
  rcases inn_count p (d 1) (by omega) with ⟨hp, k, hk, rfl⟩ | hp
  · rw [hp, x1_isIn_v]
    have l1 : x4_leaves z (nI k) (nI 1) = some (nI (s_hw d true k)) := x4_leaves_v h.hz hd true (by omega)
    have l0 : x4_leaves z (nI k) (nI 0) = some (nI (s_hw d false k)) := x4_leaves_v h.hz hd false (by omega)
    have m1 : m_shownBy s (nI k) (nI 1) = some (nI (setN (hw d true k) (d 25))) := m_shownBy_v t hd true (by omega)
    have m0 : m_shownBy s (nI k) (nI 0) = some (nI (setN (hw d false k) (d 25))) := m_shownBy_v t hd false (by omega)
    have b1 : m_bits (nI (setN (hw d true k) (d 25))) = some (nI (s_hw d true k)) := m_bits_set hd.acts
    have b0 : m_bits (nI (setN (hw d false k) (d 25))) = some (nI (s_hw d false k)) := m_bits_set hd.acts
    have sh : x4_shown z (nI k) = some (nI (setN (hw d true k) (d 25))) := x4_shown_v h.hz hd (by omega)
    rw [show (7 : Int32) = nI 7 from rfl, show inn w 0 (nI 7) = inn w (nI 0) (nI 7) from rfl]
    rcases inn_cases w 0 7 (by omega) (by omega) with ⟨hww, j, -, hj, rfl⟩ | hww
    · rw [hww]
      refine Or.inl ?_
      rcases (show j = 0 ∨ j = 1 ∨ j = 2 ∨ j = 3 ∨ j = 4 ∨ j = 5 ∨ j = 6 ∨ j = 7 by omega) with rfl | rfl | rfl | rfl | rfl | rfl | rfl | rfl
      · exact ⟨nI (d (26 + k)), by simp (disch := omega) only [Nat.zero_add, LT, BD_some, BD2_some, JN1, JN2, IX_nI, nI_add, pk_mul, pk_sub, leT, leF, ltT, ltF, eqT, eqF, M1_lit, bI_true, bI_false, BZ_n0, BZ_n1, BZ_b, ↓reduceIte, l_0, l_1, l_2, l_3, l_4, l_5, l_6, l_7, l_8, l_9, l_10, l_11, l_12, l_13, l_14, l_15, l_16, l_17, l_18, l_19, l_20, l_21, l_22, l_23, l_24, l_25, l_26, l_27, l_28, l_29, l_30, l_31, l_32, l_33, l_34, l_35, l_36, l_37, l_38, l_39, l_40, l_41, l_42, l_43, l_44, l_45, l_46, l_47, l_48, l_49, l_50, l_51, l_52, l_53, l_54, l_55, l_56, l_57, l_58, l_59, l_60, l_61, l_62, l_63, l_64, l_72, l_74, l_86, l_97, l_99, l_100, l_122, l_140, l_158, l_160, l_164, l_200, l_240, l_255, l_400, l_406, l_900, l_940, l_980, l_999, l_1120, l_1000, l_100000, NZ, z0], by simp (disch := omega) only [Nat.zero_add, LT, BD_some, BD2_some, JN1, JN2, IX_nI, nI_add, pk_mul, pk_sub, leT, leF, ltT, ltF, eqT, eqF, M1_lit, bI_true, bI_false, BZ_n0, BZ_n1, BZ_b, ↓reduceIte, l_0, l_1, l_2, l_3, l_4, l_5, l_6, l_7, l_8, l_9, l_10, l_11, l_12, l_13, l_14, l_15, l_16, l_17, l_18, l_19, l_20, l_21, l_22, l_23, l_24, l_25, l_26, l_27, l_28, l_29, l_30, l_31, l_32, l_33, l_34, l_35, l_36, l_37, l_38, l_39, l_40, l_41, l_42, l_43, l_44, l_45, l_46, l_47, l_48, l_49, l_50, l_51, l_52, l_53, l_54, l_55, l_56, l_57, l_58, l_59, l_60, l_61, l_62, l_63, l_64, l_72, l_74, l_86, l_97, l_99, l_100, l_122, l_140, l_158, l_160, l_164, l_200, l_240, l_255, l_400, l_406, l_900, l_940, l_980, l_999, l_1120, l_1000, l_100000, t, RF_a]⟩
      · exact ⟨nI (d (17 + k)), by simp (disch := omega) only [Nat.zero_add, LT, BD_some, BD2_some, JN1, JN2, IX_nI, nI_add, pk_mul, pk_sub, leT, leF, ltT, ltF, eqT, eqF, M1_lit, bI_true, bI_false, BZ_n0, BZ_n1, BZ_b, ↓reduceIte, l_0, l_1, l_2, l_3, l_4, l_5, l_6, l_7, l_8, l_9, l_10, l_11, l_12, l_13, l_14, l_15, l_16, l_17, l_18, l_19, l_20, l_21, l_22, l_23, l_24, l_25, l_26, l_27, l_28, l_29, l_30, l_31, l_32, l_33, l_34, l_35, l_36, l_37, l_38, l_39, l_40, l_41, l_42, l_43, l_44, l_45, l_46, l_47, l_48, l_49, l_50, l_51, l_52, l_53, l_54, l_55, l_56, l_57, l_58, l_59, l_60, l_61, l_62, l_63, l_64, l_72, l_74, l_86, l_97, l_99, l_100, l_122, l_140, l_158, l_160, l_164, l_200, l_240, l_255, l_400, l_406, l_900, l_940, l_980, l_999, l_1120, l_1000, l_100000, NZ, e6], by simp (disch := omega) only [Nat.zero_add, LT, BD_some, BD2_some, JN1, JN2, IX_nI, nI_add, pk_mul, pk_sub, leT, leF, ltT, ltF, eqT, eqF, M1_lit, bI_true, bI_false, BZ_n0, BZ_n1, BZ_b, ↓reduceIte, l_0, l_1, l_2, l_3, l_4, l_5, l_6, l_7, l_8, l_9, l_10, l_11, l_12, l_13, l_14, l_15, l_16, l_17, l_18, l_19, l_20, l_21, l_22, l_23, l_24, l_25, l_26, l_27, l_28, l_29, l_30, l_31, l_32, l_33, l_34, l_35, l_36, l_37, l_38, l_39, l_40, l_41, l_42, l_43, l_44, l_45, l_46, l_47, l_48, l_49, l_50, l_51, l_52, l_53, l_54, l_55, l_56, l_57, l_58, l_59, l_60, l_61, l_62, l_63, l_64, l_72, l_74, l_86, l_97, l_99, l_100, l_122, l_140, l_158, l_160, l_164, l_200, l_240, l_255, l_400, l_406, l_900, l_940, l_980, l_999, l_1120, l_1000, l_100000, t, RF_a]⟩
      · cases a : (d 23).testBit k
        · exact ⟨nI 0, by simp (disch := omega) only [Nat.zero_add, LT, BD_some, BD2_some, JN1, JN2, IX_nI, nI_add, pk_mul, pk_sub, leT, leF, ltT, ltF, eqT, eqF, M1_lit, bI_true, bI_false, BZ_n0, BZ_n1, BZ_b, ↓reduceIte, l_0, l_1, l_2, l_3, l_4, l_5, l_6, l_7, l_8, l_9, l_10, l_11, l_12, l_13, l_14, l_15, l_16, l_17, l_18, l_19, l_20, l_21, l_22, l_23, l_24, l_25, l_26, l_27, l_28, l_29, l_30, l_31, l_32, l_33, l_34, l_35, l_36, l_37, l_38, l_39, l_40, l_41, l_42, l_43, l_44, l_45, l_46, l_47, l_48, l_49, l_50, l_51, l_52, l_53, l_54, l_55, l_56, l_57, l_58, l_59, l_60, l_61, l_62, l_63, l_64, l_72, l_74, l_86, l_97, l_99, l_100, l_122, l_140, l_158, l_160, l_164, l_200, l_240, l_255, l_400, l_406, l_900, l_940, l_980, l_999, l_1120, l_1000, l_100000, NZ, e11, x1_has_v, hs_nI, a], by simp (disch := omega) only [Nat.zero_add, LT, BD_some, BD2_some, JN1, JN2, IX_nI, nI_add, pk_mul, pk_sub, leT, leF, ltT, ltF, eqT, eqF, M1_lit, bI_true, bI_false, BZ_n0, BZ_n1, BZ_b, ↓reduceIte, l_0, l_1, l_2, l_3, l_4, l_5, l_6, l_7, l_8, l_9, l_10, l_11, l_12, l_13, l_14, l_15, l_16, l_17, l_18, l_19, l_20, l_21, l_22, l_23, l_24, l_25, l_26, l_27, l_28, l_29, l_30, l_31, l_32, l_33, l_34, l_35, l_36, l_37, l_38, l_39, l_40, l_41, l_42, l_43, l_44, l_45, l_46, l_47, l_48, l_49, l_50, l_51, l_52, l_53, l_54, l_55, l_56, l_57, l_58, l_59, l_60, l_61, l_62, l_63, l_64, l_72, l_74, l_86, l_97, l_99, l_100, l_122, l_140, l_158, l_160, l_164, l_200, l_240, l_255, l_400, l_406, l_900, l_940, l_980, l_999, l_1120, l_1000, l_100000, m_isFern_v t hd, a]⟩
        · exact ⟨nI 1, by simp (disch := omega) only [Nat.zero_add, LT, BD_some, BD2_some, JN1, JN2, IX_nI, nI_add, pk_mul, pk_sub, leT, leF, ltT, ltF, eqT, eqF, M1_lit, bI_true, bI_false, BZ_n0, BZ_n1, BZ_b, ↓reduceIte, l_0, l_1, l_2, l_3, l_4, l_5, l_6, l_7, l_8, l_9, l_10, l_11, l_12, l_13, l_14, l_15, l_16, l_17, l_18, l_19, l_20, l_21, l_22, l_23, l_24, l_25, l_26, l_27, l_28, l_29, l_30, l_31, l_32, l_33, l_34, l_35, l_36, l_37, l_38, l_39, l_40, l_41, l_42, l_43, l_44, l_45, l_46, l_47, l_48, l_49, l_50, l_51, l_52, l_53, l_54, l_55, l_56, l_57, l_58, l_59, l_60, l_61, l_62, l_63, l_64, l_72, l_74, l_86, l_97, l_99, l_100, l_122, l_140, l_158, l_160, l_164, l_200, l_240, l_255, l_400, l_406, l_900, l_940, l_980, l_999, l_1120, l_1000, l_100000, NZ, e11, x1_has_v, hs_nI, a], by simp (disch := omega) only [Nat.zero_add, LT, BD_some, BD2_some, JN1, JN2, IX_nI, nI_add, pk_mul, pk_sub, leT, leF, ltT, ltF, eqT, eqF, M1_lit, bI_true, bI_false, BZ_n0, BZ_n1, BZ_b, ↓reduceIte, l_0, l_1, l_2, l_3, l_4, l_5, l_6, l_7, l_8, l_9, l_10, l_11, l_12, l_13, l_14, l_15, l_16, l_17, l_18, l_19, l_20, l_21, l_22, l_23, l_24, l_25, l_26, l_27, l_28, l_29, l_30, l_31, l_32, l_33, l_34, l_35, l_36, l_37, l_38, l_39, l_40, l_41, l_42, l_43, l_44, l_45, l_46, l_47, l_48, l_49, l_50, l_51, l_52, l_53, l_54, l_55, l_56, l_57, l_58, l_59, l_60, l_61, l_62, l_63, l_64, l_72, l_74, l_86, l_97, l_99, l_100, l_122, l_140, l_158, l_160, l_164, l_200, l_240, l_255, l_400, l_406, l_900, l_940, l_980, l_999, l_1120, l_1000, l_100000, m_isFern_v t hd, a]⟩
      · exact ⟨nI (d (32 + k)), by simp (disch := omega) only [Nat.zero_add, LT, BD_some, BD2_some, JN1, JN2, IX_nI, nI_add, pk_mul, pk_sub, leT, leF, ltT, ltF, eqT, eqF, M1_lit, bI_true, bI_false, BZ_n0, BZ_n1, BZ_b, ↓reduceIte, l_0, l_1, l_2, l_3, l_4, l_5, l_6, l_7, l_8, l_9, l_10, l_11, l_12, l_13, l_14, l_15, l_16, l_17, l_18, l_19, l_20, l_21, l_22, l_23, l_24, l_25, l_26, l_27, l_28, l_29, l_30, l_31, l_32, l_33, l_34, l_35, l_36, l_37, l_38, l_39, l_40, l_41, l_42, l_43, l_44, l_45, l_46, l_47, l_48, l_49, l_50, l_51, l_52, l_53, l_54, l_55, l_56, l_57, l_58, l_59, l_60, l_61, l_62, l_63, l_64, l_72, l_74, l_86, l_97, l_99, l_100, l_122, l_140, l_158, l_160, l_164, l_200, l_240, l_255, l_400, l_406, l_900, l_940, l_980, l_999, l_1120, l_1000, l_100000, NZ, z1], by simp (disch := omega) only [Nat.zero_add, LT, BD_some, BD2_some, JN1, JN2, IX_nI, nI_add, pk_mul, pk_sub, leT, leF, ltT, ltF, eqT, eqF, M1_lit, bI_true, bI_false, BZ_n0, BZ_n1, BZ_b, ↓reduceIte, l_0, l_1, l_2, l_3, l_4, l_5, l_6, l_7, l_8, l_9, l_10, l_11, l_12, l_13, l_14, l_15, l_16, l_17, l_18, l_19, l_20, l_21, l_22, l_23, l_24, l_25, l_26, l_27, l_28, l_29, l_30, l_31, l_32, l_33, l_34, l_35, l_36, l_37, l_38, l_39, l_40, l_41, l_42, l_43, l_44, l_45, l_46, l_47, l_48, l_49, l_50, l_51, l_52, l_53, l_54, l_55, l_56, l_57, l_58, l_59, l_60, l_61, l_62, l_63, l_64, l_72, l_74, l_86, l_97, l_99, l_100, l_122, l_140, l_158, l_160, l_164, l_200, l_240, l_255, l_400, l_406, l_900, l_940, l_980, l_999, l_1120, l_1000, l_100000, t, RF_a]⟩
      · exact ⟨nI (sees d k 0), by simp (disch := omega) only [Nat.zero_add, LT, BD_some, BD2_some, JN1, JN2, IX_nI, nI_add, pk_mul, pk_sub, leT, leF, ltT, ltF, eqT, eqF, M1_lit, bI_true, bI_false, BZ_n0, BZ_n1, BZ_b, ↓reduceIte, l_0, l_1, l_2, l_3, l_4, l_5, l_6, l_7, l_8, l_9, l_10, l_11, l_12, l_13, l_14, l_15, l_16, l_17, l_18, l_19, l_20, l_21, l_22, l_23, l_24, l_25, l_26, l_27, l_28, l_29, l_30, l_31, l_32, l_33, l_34, l_35, l_36, l_37, l_38, l_39, l_40, l_41, l_42, l_43, l_44, l_45, l_46, l_47, l_48, l_49, l_50, l_51, l_52, l_53, l_54, l_55, l_56, l_57, l_58, l_59, l_60, l_61, l_62, l_63, l_64, l_72, l_74, l_86, l_97, l_99, l_100, l_122, l_140, l_158, l_160, l_164, l_200, l_240, l_255, l_400, l_406, l_900, l_940, l_980, l_999, l_1120, l_1000, l_100000, NZ, x4_sees_v h.he h.hz hd], by simp (disch := omega) only [Nat.zero_add, LT, BD_some, BD2_some, JN1, JN2, IX_nI, nI_add, pk_mul, pk_sub, leT, leF, ltT, ltF, eqT, eqF, M1_lit, bI_true, bI_false, BZ_n0, BZ_n1, BZ_b, ↓reduceIte, l_0, l_1, l_2, l_3, l_4, l_5, l_6, l_7, l_8, l_9, l_10, l_11, l_12, l_13, l_14, l_15, l_16, l_17, l_18, l_19, l_20, l_21, l_22, l_23, l_24, l_25, l_26, l_27, l_28, l_29, l_30, l_31, l_32, l_33, l_34, l_35, l_36, l_37, l_38, l_39, l_40, l_41, l_42, l_43, l_44, l_45, l_46, l_47, l_48, l_49, l_50, l_51, l_52, l_53, l_54, l_55, l_56, l_57, l_58, l_59, l_60, l_61, l_62, l_63, l_64, l_72, l_74, l_86, l_97, l_99, l_100, l_122, l_140, l_158, l_160, l_164, l_200, l_240, l_255, l_400, l_406, l_900, l_940, l_980, l_999, l_1120, l_1000, l_100000, m_seesOf_v t hd]⟩
      · exact ⟨nI (s_hw d true k), by simp (disch := omega) only [Nat.zero_add, LT, BD_some, BD2_some, JN1, JN2, IX_nI, nI_add, pk_mul, pk_sub, leT, leF, ltT, ltF, eqT, eqF, M1_lit, bI_true, bI_false, BZ_n0, BZ_n1, BZ_b, ↓reduceIte, l_0, l_1, l_2, l_3, l_4, l_5, l_6, l_7, l_8, l_9, l_10, l_11, l_12, l_13, l_14, l_15, l_16, l_17, l_18, l_19, l_20, l_21, l_22, l_23, l_24, l_25, l_26, l_27, l_28, l_29, l_30, l_31, l_32, l_33, l_34, l_35, l_36, l_37, l_38, l_39, l_40, l_41, l_42, l_43, l_44, l_45, l_46, l_47, l_48, l_49, l_50, l_51, l_52, l_53, l_54, l_55, l_56, l_57, l_58, l_59, l_60, l_61, l_62, l_63, l_64, l_72, l_74, l_86, l_97, l_99, l_100, l_122, l_140, l_158, l_160, l_164, l_200, l_240, l_255, l_400, l_406, l_900, l_940, l_980, l_999, l_1120, l_1000, l_100000, NZ, l1], by simp (disch := omega) only [Nat.zero_add, LT, BD_some, BD2_some, JN1, JN2, IX_nI, nI_add, pk_mul, pk_sub, leT, leF, ltT, ltF, eqT, eqF, M1_lit, bI_true, bI_false, BZ_n0, BZ_n1, BZ_b, ↓reduceIte, l_0, l_1, l_2, l_3, l_4, l_5, l_6, l_7, l_8, l_9, l_10, l_11, l_12, l_13, l_14, l_15, l_16, l_17, l_18, l_19, l_20, l_21, l_22, l_23, l_24, l_25, l_26, l_27, l_28, l_29, l_30, l_31, l_32, l_33, l_34, l_35, l_36, l_37, l_38, l_39, l_40, l_41, l_42, l_43, l_44, l_45, l_46, l_47, l_48, l_49, l_50, l_51, l_52, l_53, l_54, l_55, l_56, l_57, l_58, l_59, l_60, l_61, l_62, l_63, l_64, l_72, l_74, l_86, l_97, l_99, l_100, l_122, l_140, l_158, l_160, l_164, l_200, l_240, l_255, l_400, l_406, l_900, l_940, l_980, l_999, l_1120, l_1000, l_100000, m1, b1]⟩
      · exact ⟨nI (setN (hw d true k) (d 25)), by simp (disch := omega) only [Nat.zero_add, LT, BD_some, BD2_some, JN1, JN2, IX_nI, nI_add, pk_mul, pk_sub, leT, leF, ltT, ltF, eqT, eqF, M1_lit, bI_true, bI_false, BZ_n0, BZ_n1, BZ_b, ↓reduceIte, l_0, l_1, l_2, l_3, l_4, l_5, l_6, l_7, l_8, l_9, l_10, l_11, l_12, l_13, l_14, l_15, l_16, l_17, l_18, l_19, l_20, l_21, l_22, l_23, l_24, l_25, l_26, l_27, l_28, l_29, l_30, l_31, l_32, l_33, l_34, l_35, l_36, l_37, l_38, l_39, l_40, l_41, l_42, l_43, l_44, l_45, l_46, l_47, l_48, l_49, l_50, l_51, l_52, l_53, l_54, l_55, l_56, l_57, l_58, l_59, l_60, l_61, l_62, l_63, l_64, l_72, l_74, l_86, l_97, l_99, l_100, l_122, l_140, l_158, l_160, l_164, l_200, l_240, l_255, l_400, l_406, l_900, l_940, l_980, l_999, l_1120, l_1000, l_100000, NZ, sh], by simp (disch := omega) only [Nat.zero_add, LT, BD_some, BD2_some, JN1, JN2, IX_nI, nI_add, pk_mul, pk_sub, leT, leF, ltT, ltF, eqT, eqF, M1_lit, bI_true, bI_false, BZ_n0, BZ_n1, BZ_b, ↓reduceIte, l_0, l_1, l_2, l_3, l_4, l_5, l_6, l_7, l_8, l_9, l_10, l_11, l_12, l_13, l_14, l_15, l_16, l_17, l_18, l_19, l_20, l_21, l_22, l_23, l_24, l_25, l_26, l_27, l_28, l_29, l_30, l_31, l_32, l_33, l_34, l_35, l_36, l_37, l_38, l_39, l_40, l_41, l_42, l_43, l_44, l_45, l_46, l_47, l_48, l_49, l_50, l_51, l_52, l_53, l_54, l_55, l_56, l_57, l_58, l_59, l_60, l_61, l_62, l_63, l_64, l_72, l_74, l_86, l_97, l_99, l_100, l_122, l_140, l_158, l_160, l_164, l_200, l_240, l_255, l_400, l_406, l_900, l_940, l_980, l_999, l_1120, l_1000, l_100000, m1]⟩
      · exact ⟨nI (s_hw d false k), by simp (disch := omega) only [Nat.zero_add, LT, BD_some, BD2_some, JN1, JN2, IX_nI, nI_add, pk_mul, pk_sub, leT, leF, ltT, ltF, eqT, eqF, M1_lit, bI_true, bI_false, BZ_n0, BZ_n1, BZ_b, ↓reduceIte, l_0, l_1, l_2, l_3, l_4, l_5, l_6, l_7, l_8, l_9, l_10, l_11, l_12, l_13, l_14, l_15, l_16, l_17, l_18, l_19, l_20, l_21, l_22, l_23, l_24, l_25, l_26, l_27, l_28, l_29, l_30, l_31, l_32, l_33, l_34, l_35, l_36, l_37, l_38, l_39, l_40, l_41, l_42, l_43, l_44, l_45, l_46, l_47, l_48, l_49, l_50, l_51, l_52, l_53, l_54, l_55, l_56, l_57, l_58, l_59, l_60, l_61, l_62, l_63, l_64, l_72, l_74, l_86, l_97, l_99, l_100, l_122, l_140, l_158, l_160, l_164, l_200, l_240, l_255, l_400, l_406, l_900, l_940, l_980, l_999, l_1120, l_1000, l_100000, NZ, l0], by simp (disch := omega) only [Nat.zero_add, LT, BD_some, BD2_some, JN1, JN2, IX_nI, nI_add, pk_mul, pk_sub, leT, leF, ltT, ltF, eqT, eqF, M1_lit, bI_true, bI_false, BZ_n0, BZ_n1, BZ_b, ↓reduceIte, l_0, l_1, l_2, l_3, l_4, l_5, l_6, l_7, l_8, l_9, l_10, l_11, l_12, l_13, l_14, l_15, l_16, l_17, l_18, l_19, l_20, l_21, l_22, l_23, l_24, l_25, l_26, l_27, l_28, l_29, l_30, l_31, l_32, l_33, l_34, l_35, l_36, l_37, l_38, l_39, l_40, l_41, l_42, l_43, l_44, l_45, l_46, l_47, l_48, l_49, l_50, l_51, l_52, l_53, l_54, l_55, l_56, l_57, l_58, l_59, l_60, l_61, l_62, l_63, l_64, l_72, l_74, l_86, l_97, l_99, l_100, l_122, l_140, l_158, l_160, l_164, l_200, l_240, l_255, l_400, l_406, l_900, l_940, l_980, l_999, l_1120, l_1000, l_100000, m0, b0]⟩
    · have q : ∀ j, j ≤ 7 → ¬ w = nI j := fun j hj e => by rw [e, inn_T (by omega) hj (by omega)] at hww; cases hww
      rw [hww]
      refine Or.inr ⟨by simp (disch := omega) only [Nat.zero_add, LT, BD_some, BD2_some, JN1, JN2, IX_nI, nI_add, pk_mul, pk_sub, leT, leF, ltT, ltF, eqT, eqF, M1_lit, bI_true, bI_false, BZ_n0, BZ_n1, BZ_b, ↓reduceIte, l_0, l_1, l_2, l_3, l_4, l_5, l_6, l_7, l_8, l_9, l_10, l_11, l_12, l_13, l_14, l_15, l_16, l_17, l_18, l_19, l_20, l_21, l_22, l_23, l_24, l_25, l_26, l_27, l_28, l_29, l_30, l_31, l_32, l_33, l_34, l_35, l_36, l_37, l_38, l_39, l_40, l_41, l_42, l_43, l_44, l_45, l_46, l_47, l_48, l_49, l_50, l_51, l_52, l_53, l_54, l_55, l_56, l_57, l_58, l_59, l_60, l_61, l_62, l_63, l_64, l_72, l_74, l_86, l_97, l_99, l_100, l_122, l_140, l_158, l_160, l_164, l_200, l_240, l_255, l_400, l_406, l_900, l_940, l_980, l_999, l_1120, l_1000, l_100000], nI 0, ?_⟩
      simp (disch := omega) only [Nat.zero_add, LT, BD_some, BD2_some, JN1, JN2, IX_nI, nI_add, pk_mul, pk_sub, leT, leF, ltT, ltF, eqT, eqF, M1_lit, bI_true, bI_false, BZ_n0, BZ_n1, BZ_b, ↓reduceIte, l_0, l_1, l_2, l_3, l_4, l_5, l_6, l_7, l_8, l_9, l_10, l_11, l_12, l_13, l_14, l_15, l_16, l_17, l_18, l_19, l_20, l_21, l_22, l_23, l_24, l_25, l_26, l_27, l_28, l_29, l_30, l_31, l_32, l_33, l_34, l_35, l_36, l_37, l_38, l_39, l_40, l_41, l_42, l_43, l_44, l_45, l_46, l_47, l_48, l_49, l_50, l_51, l_52, l_53, l_54, l_55, l_56, l_57, l_58, l_59, l_60, l_61, l_62, l_63, l_64, l_72, l_74, l_86, l_97, l_99, l_100, l_122, l_140, l_158, l_160, l_164, l_200, l_240, l_255, l_400, l_406, l_900, l_940, l_980, l_999, l_1120, l_1000, l_100000, q 0 (by omega), q 1 (by omega), q 2 (by omega), q 3 (by omega), q 4 (by omega), q 5 (by omega), q 6 (by omega), q 7 (by omega)]
  · rw [hp]
    exact Or.inr ⟨by simp (disch := omega) only [Nat.zero_add, LT, BD_some, BD2_some, JN1, JN2, IX_nI, nI_add, pk_mul, pk_sub, leT, leF, ltT, ltF, eqT, eqF, M1_lit, bI_true, bI_false, BZ_n0, BZ_n1, BZ_b, ↓reduceIte, l_0, l_1, l_2, l_3, l_4, l_5, l_6, l_7, l_8, l_9, l_10, l_11, l_12, l_13, l_14, l_15, l_16, l_17, l_18, l_19, l_20, l_21, l_22, l_23, l_24, l_25, l_26, l_27, l_28, l_29, l_30, l_31, l_32, l_33, l_34, l_35, l_36, l_37, l_38, l_39, l_40, l_41, l_42, l_43, l_44, l_45, l_46, l_47, l_48, l_49, l_50, l_51, l_52, l_53, l_54, l_55, l_56, l_57, l_58, l_59, l_60, l_61, l_62, l_63, l_64, l_72, l_74, l_86, l_97, l_99, l_100, l_122, l_140, l_158, l_160, l_164, l_200, l_240, l_255, l_400, l_406, l_900, l_940, l_980, l_999, l_1120, l_1000, l_100000], nI 0, by simp (disch := omega) only [Nat.zero_add, LT, BD_some, BD2_some, JN1, JN2, IX_nI, nI_add, pk_mul, pk_sub, leT, leF, ltT, ltF, eqT, eqF, M1_lit, bI_true, bI_false, BZ_n0, BZ_n1, BZ_b, ↓reduceIte, l_0, l_1, l_2, l_3, l_4, l_5, l_6, l_7, l_8, l_9, l_10, l_11, l_12, l_13, l_14, l_15, l_16, l_17, l_18, l_19, l_20, l_21, l_22, l_23, l_24, l_25, l_26, l_27, l_28, l_29, l_30, l_31, l_32, l_33, l_34, l_35, l_36, l_37, l_38, l_39, l_40, l_41, l_42, l_43, l_44, l_45, l_46, l_47, l_48, l_49, l_50, l_51, l_52, l_53, l_54, l_55, l_56, l_57, l_58, l_59, l_60, l_61, l_62, l_63, l_64, l_72, l_74, l_86, l_97, l_99, l_100, l_122, l_140, l_158, l_160, l_164, l_200, l_240, l_255, l_400, l_406, l_900, l_940, l_980, l_999, l_1120, l_1000, l_100000]⟩
theorem op_act (h : RR x G m c b e z d ow n U) (p w : Int32) : (∃ v, x1_act G x p w = some (v, G) ∧ m_act m p w = some (v, sI m 0 0)) ∨ (x1_actT G x p w = some () ∧ ∃ v, m_act m p w = some (v, sI (sI m 0 0) 0 1)) := by
  have hd := h.di
  have hN := hd.N
  have hA := hd.acts
  have t := h.t14 0
  obtain ⟨-, -, -, -, z2, z3, z4, z5, -⟩ := h.hz
  unfold x1_act x1_actT m_act m_refuse
  simp only [LT, RD_of _ h.hx, h.hb, BD_some, RD_of _ h.g2, RD_of _ h.g3, JN1]
  generalize sI m 0 0 = s at t ⊢
  rw [x1_isAct_v h.hz, m_isAct_v t]
  rcases inn_count p (d 25) (by omega) with ⟨hp, k, hk, rfl⟩ | hp
  · rw [hp, x1_isIn_v]
    have l1 : x4_witnesses z e (nI k) (nI 1) = some (nI (setN (fun p => hw d true p k) (d 1))) := x4_witnesses_v h.he h.hz hd true (by omega)
    have l0 : x4_witnesses z e (nI k) (nI 0) = some (nI (setN (fun p => hw d false p k) (d 1))) := x4_witnesses_v h.he h.hz hd false (by omega)
    have m1 : m_plantsFor s (nI k) (nI 1) = some (nI (setN (fun p => hw d true p k) (d 1))) := m_plantsFor_v t hd true (by omega)
    have m0 : m_plantsFor s (nI k) (nI 0) = some (nI (setN (fun p => hw d false p k) (d 1))) := m_plantsFor_v t hd false (by omega)
    rw [show (6 : Int32) = nI 6 from rfl, show inn w 0 (nI 6) = inn w (nI 0) (nI 6) from rfl]
    rcases inn_cases w 0 6 (by omega) (by omega) with ⟨hww, j, -, hj, rfl⟩ | hww
    · rw [hww]
      refine Or.inl ?_
      rcases (show j = 0 ∨ j = 1 ∨ j = 2 ∨ j = 3 ∨ j = 4 ∨ j = 5 ∨ j = 6 by omega) with rfl | rfl | rfl | rfl | rfl | rfl | rfl
      · exact ⟨nI (d (38 + k)), by simp (disch := omega) only [Nat.zero_add, LT, BD_some, BD2_some, JN1, JN2, IX_nI, nI_add, pk_mul, pk_sub, leT, leF, ltT, ltF, eqT, eqF, M1_lit, bI_true, bI_false, BZ_n0, BZ_n1, BZ_b, ↓reduceIte, l_0, l_1, l_2, l_3, l_4, l_5, l_6, l_7, l_8, l_9, l_10, l_11, l_12, l_13, l_14, l_15, l_16, l_17, l_18, l_19, l_20, l_21, l_22, l_23, l_24, l_25, l_26, l_27, l_28, l_29, l_30, l_31, l_32, l_33, l_34, l_35, l_36, l_37, l_38, l_39, l_40, l_41, l_42, l_43, l_44, l_45, l_46, l_47, l_48, l_49, l_50, l_51, l_52, l_53, l_54, l_55, l_56, l_57, l_58, l_59, l_60, l_61, l_62, l_63, l_64, l_72, l_74, l_86, l_97, l_99, l_100, l_122, l_140, l_158, l_160, l_164, l_200, l_240, l_255, l_400, l_406, l_900, l_940, l_980, l_999, l_1120, l_1000, l_100000, NZ, z2], by simp (disch := omega) only [Nat.zero_add, LT, BD_some, BD2_some, JN1, JN2, IX_nI, nI_add, pk_mul, pk_sub, leT, leF, ltT, ltF, eqT, eqF, M1_lit, bI_true, bI_false, BZ_n0, BZ_n1, BZ_b, ↓reduceIte, l_0, l_1, l_2, l_3, l_4, l_5, l_6, l_7, l_8, l_9, l_10, l_11, l_12, l_13, l_14, l_15, l_16, l_17, l_18, l_19, l_20, l_21, l_22, l_23, l_24, l_25, l_26, l_27, l_28, l_29, l_30, l_31, l_32, l_33, l_34, l_35, l_36, l_37, l_38, l_39, l_40, l_41, l_42, l_43, l_44, l_45, l_46, l_47, l_48, l_49, l_50, l_51, l_52, l_53, l_54, l_55, l_56, l_57, l_58, l_59, l_60, l_61, l_62, l_63, l_64, l_72, l_74, l_86, l_97, l_99, l_100, l_122, l_140, l_158, l_160, l_164, l_200, l_240, l_255, l_400, l_406, l_900, l_940, l_980, l_999, l_1120, l_1000, l_100000, t, RF_a]⟩
      · exact ⟨nI (d (50 + k)), by simp (disch := omega) only [Nat.zero_add, LT, BD_some, BD2_some, JN1, JN2, IX_nI, nI_add, pk_mul, pk_sub, leT, leF, ltT, ltF, eqT, eqF, M1_lit, bI_true, bI_false, BZ_n0, BZ_n1, BZ_b, ↓reduceIte, l_0, l_1, l_2, l_3, l_4, l_5, l_6, l_7, l_8, l_9, l_10, l_11, l_12, l_13, l_14, l_15, l_16, l_17, l_18, l_19, l_20, l_21, l_22, l_23, l_24, l_25, l_26, l_27, l_28, l_29, l_30, l_31, l_32, l_33, l_34, l_35, l_36, l_37, l_38, l_39, l_40, l_41, l_42, l_43, l_44, l_45, l_46, l_47, l_48, l_49, l_50, l_51, l_52, l_53, l_54, l_55, l_56, l_57, l_58, l_59, l_60, l_61, l_62, l_63, l_64, l_72, l_74, l_86, l_97, l_99, l_100, l_122, l_140, l_158, l_160, l_164, l_200, l_240, l_255, l_400, l_406, l_900, l_940, l_980, l_999, l_1120, l_1000, l_100000, NZ, z3], by simp (disch := omega) only [Nat.zero_add, LT, BD_some, BD2_some, JN1, JN2, IX_nI, nI_add, pk_mul, pk_sub, leT, leF, ltT, ltF, eqT, eqF, M1_lit, bI_true, bI_false, BZ_n0, BZ_n1, BZ_b, ↓reduceIte, l_0, l_1, l_2, l_3, l_4, l_5, l_6, l_7, l_8, l_9, l_10, l_11, l_12, l_13, l_14, l_15, l_16, l_17, l_18, l_19, l_20, l_21, l_22, l_23, l_24, l_25, l_26, l_27, l_28, l_29, l_30, l_31, l_32, l_33, l_34, l_35, l_36, l_37, l_38, l_39, l_40, l_41, l_42, l_43, l_44, l_45, l_46, l_47, l_48, l_49, l_50, l_51, l_52, l_53, l_54, l_55, l_56, l_57, l_58, l_59, l_60, l_61, l_62, l_63, l_64, l_72, l_74, l_86, l_97, l_99, l_100, l_122, l_140, l_158, l_160, l_164, l_200, l_240, l_255, l_400, l_406, l_900, l_940, l_980, l_999, l_1120, l_1000, l_100000, t, RF_a]⟩
      · exact ⟨nI (d (62 + k)), by simp (disch := omega) only [Nat.zero_add, LT, BD_some, BD2_some, JN1, JN2, IX_nI, nI_add, pk_mul, pk_sub, leT, leF, ltT, ltF, eqT, eqF, M1_lit, bI_true, bI_false, BZ_n0, BZ_n1, BZ_b, ↓reduceIte, l_0, l_1, l_2, l_3, l_4, l_5, l_6, l_7, l_8, l_9, l_10, l_11, l_12, l_13, l_14, l_15, l_16, l_17, l_18, l_19, l_20, l_21, l_22, l_23, l_24, l_25, l_26, l_27, l_28, l_29, l_30, l_31, l_32, l_33, l_34, l_35, l_36, l_37, l_38, l_39, l_40, l_41, l_42, l_43, l_44, l_45, l_46, l_47, l_48, l_49, l_50, l_51, l_52, l_53, l_54, l_55, l_56, l_57, l_58, l_59, l_60, l_61, l_62, l_63, l_64, l_72, l_74, l_86, l_97, l_99, l_100, l_122, l_140, l_158, l_160, l_164, l_200, l_240, l_255, l_400, l_406, l_900, l_940, l_980, l_999, l_1120, l_1000, l_100000, NZ, z4], by simp (disch := omega) only [Nat.zero_add, LT, BD_some, BD2_some, JN1, JN2, IX_nI, nI_add, pk_mul, pk_sub, leT, leF, ltT, ltF, eqT, eqF, M1_lit, bI_true, bI_false, BZ_n0, BZ_n1, BZ_b, ↓reduceIte, l_0, l_1, l_2, l_3, l_4, l_5, l_6, l_7, l_8, l_9, l_10, l_11, l_12, l_13, l_14, l_15, l_16, l_17, l_18, l_19, l_20, l_21, l_22, l_23, l_24, l_25, l_26, l_27, l_28, l_29, l_30, l_31, l_32, l_33, l_34, l_35, l_36, l_37, l_38, l_39, l_40, l_41, l_42, l_43, l_44, l_45, l_46, l_47, l_48, l_49, l_50, l_51, l_52, l_53, l_54, l_55, l_56, l_57, l_58, l_59, l_60, l_61, l_62, l_63, l_64, l_72, l_74, l_86, l_97, l_99, l_100, l_122, l_140, l_158, l_160, l_164, l_200, l_240, l_255, l_400, l_406, l_900, l_940, l_980, l_999, l_1120, l_1000, l_100000, t, RF_a]⟩
      · exact ⟨nI (d (74 + k)), by simp (disch := omega) only [Nat.zero_add, LT, BD_some, BD2_some, JN1, JN2, IX_nI, nI_add, pk_mul, pk_sub, leT, leF, ltT, ltF, eqT, eqF, M1_lit, bI_true, bI_false, BZ_n0, BZ_n1, BZ_b, ↓reduceIte, l_0, l_1, l_2, l_3, l_4, l_5, l_6, l_7, l_8, l_9, l_10, l_11, l_12, l_13, l_14, l_15, l_16, l_17, l_18, l_19, l_20, l_21, l_22, l_23, l_24, l_25, l_26, l_27, l_28, l_29, l_30, l_31, l_32, l_33, l_34, l_35, l_36, l_37, l_38, l_39, l_40, l_41, l_42, l_43, l_44, l_45, l_46, l_47, l_48, l_49, l_50, l_51, l_52, l_53, l_54, l_55, l_56, l_57, l_58, l_59, l_60, l_61, l_62, l_63, l_64, l_72, l_74, l_86, l_97, l_99, l_100, l_122, l_140, l_158, l_160, l_164, l_200, l_240, l_255, l_400, l_406, l_900, l_940, l_980, l_999, l_1120, l_1000, l_100000, NZ, z5], by simp (disch := omega) only [Nat.zero_add, LT, BD_some, BD2_some, JN1, JN2, IX_nI, nI_add, pk_mul, pk_sub, leT, leF, ltT, ltF, eqT, eqF, M1_lit, bI_true, bI_false, BZ_n0, BZ_n1, BZ_b, ↓reduceIte, l_0, l_1, l_2, l_3, l_4, l_5, l_6, l_7, l_8, l_9, l_10, l_11, l_12, l_13, l_14, l_15, l_16, l_17, l_18, l_19, l_20, l_21, l_22, l_23, l_24, l_25, l_26, l_27, l_28, l_29, l_30, l_31, l_32, l_33, l_34, l_35, l_36, l_37, l_38, l_39, l_40, l_41, l_42, l_43, l_44, l_45, l_46, l_47, l_48, l_49, l_50, l_51, l_52, l_53, l_54, l_55, l_56, l_57, l_58, l_59, l_60, l_61, l_62, l_63, l_64, l_72, l_74, l_86, l_97, l_99, l_100, l_122, l_140, l_158, l_160, l_164, l_200, l_240, l_255, l_400, l_406, l_900, l_940, l_980, l_999, l_1120, l_1000, l_100000, t, RF_a]⟩
      · exact ⟨nI (setN (fun p => hw d true p k) (d 1)), by simp (disch := omega) only [Nat.zero_add, LT, BD_some, BD2_some, JN1, JN2, IX_nI, nI_add, pk_mul, pk_sub, leT, leF, ltT, ltF, eqT, eqF, M1_lit, bI_true, bI_false, BZ_n0, BZ_n1, BZ_b, ↓reduceIte, l_0, l_1, l_2, l_3, l_4, l_5, l_6, l_7, l_8, l_9, l_10, l_11, l_12, l_13, l_14, l_15, l_16, l_17, l_18, l_19, l_20, l_21, l_22, l_23, l_24, l_25, l_26, l_27, l_28, l_29, l_30, l_31, l_32, l_33, l_34, l_35, l_36, l_37, l_38, l_39, l_40, l_41, l_42, l_43, l_44, l_45, l_46, l_47, l_48, l_49, l_50, l_51, l_52, l_53, l_54, l_55, l_56, l_57, l_58, l_59, l_60, l_61, l_62, l_63, l_64, l_72, l_74, l_86, l_97, l_99, l_100, l_122, l_140, l_158, l_160, l_164, l_200, l_240, l_255, l_400, l_406, l_900, l_940, l_980, l_999, l_1120, l_1000, l_100000, NZ, l1], by simp (disch := omega) only [Nat.zero_add, LT, BD_some, BD2_some, JN1, JN2, IX_nI, nI_add, pk_mul, pk_sub, leT, leF, ltT, ltF, eqT, eqF, M1_lit, bI_true, bI_false, BZ_n0, BZ_n1, BZ_b, ↓reduceIte, l_0, l_1, l_2, l_3, l_4, l_5, l_6, l_7, l_8, l_9, l_10, l_11, l_12, l_13, l_14, l_15, l_16, l_17, l_18, l_19, l_20, l_21, l_22, l_23, l_24, l_25, l_26, l_27, l_28, l_29, l_30, l_31, l_32, l_33, l_34, l_35, l_36, l_37, l_38, l_39, l_40, l_41, l_42, l_43, l_44, l_45, l_46, l_47, l_48, l_49, l_50, l_51, l_52, l_53, l_54, l_55, l_56, l_57, l_58, l_59, l_60, l_61, l_62, l_63, l_64, l_72, l_74, l_86, l_97, l_99, l_100, l_122, l_140, l_158, l_160, l_164, l_200, l_240, l_255, l_400, l_406, l_900, l_940, l_980, l_999, l_1120, l_1000, l_100000, m1]⟩
      · exact ⟨nI (setN (fun p => hw d false p k) (d 1)), by simp (disch := omega) only [Nat.zero_add, LT, BD_some, BD2_some, JN1, JN2, IX_nI, nI_add, pk_mul, pk_sub, leT, leF, ltT, ltF, eqT, eqF, M1_lit, bI_true, bI_false, BZ_n0, BZ_n1, BZ_b, ↓reduceIte, l_0, l_1, l_2, l_3, l_4, l_5, l_6, l_7, l_8, l_9, l_10, l_11, l_12, l_13, l_14, l_15, l_16, l_17, l_18, l_19, l_20, l_21, l_22, l_23, l_24, l_25, l_26, l_27, l_28, l_29, l_30, l_31, l_32, l_33, l_34, l_35, l_36, l_37, l_38, l_39, l_40, l_41, l_42, l_43, l_44, l_45, l_46, l_47, l_48, l_49, l_50, l_51, l_52, l_53, l_54, l_55, l_56, l_57, l_58, l_59, l_60, l_61, l_62, l_63, l_64, l_72, l_74, l_86, l_97, l_99, l_100, l_122, l_140, l_158, l_160, l_164, l_200, l_240, l_255, l_400, l_406, l_900, l_940, l_980, l_999, l_1120, l_1000, l_100000, NZ, l0], by simp (disch := omega) only [Nat.zero_add, LT, BD_some, BD2_some, JN1, JN2, IX_nI, nI_add, pk_mul, pk_sub, leT, leF, ltT, ltF, eqT, eqF, M1_lit, bI_true, bI_false, BZ_n0, BZ_n1, BZ_b, ↓reduceIte, l_0, l_1, l_2, l_3, l_4, l_5, l_6, l_7, l_8, l_9, l_10, l_11, l_12, l_13, l_14, l_15, l_16, l_17, l_18, l_19, l_20, l_21, l_22, l_23, l_24, l_25, l_26, l_27, l_28, l_29, l_30, l_31, l_32, l_33, l_34, l_35, l_36, l_37, l_38, l_39, l_40, l_41, l_42, l_43, l_44, l_45, l_46, l_47, l_48, l_49, l_50, l_51, l_52, l_53, l_54, l_55, l_56, l_57, l_58, l_59, l_60, l_61, l_62, l_63, l_64, l_72, l_74, l_86, l_97, l_99, l_100, l_122, l_140, l_158, l_160, l_164, l_200, l_240, l_255, l_400, l_406, l_900, l_940, l_980, l_999, l_1120, l_1000, l_100000, m0]⟩
      · cases a : prv d k
        · exact ⟨nI 0, by simp (disch := omega) only [Nat.zero_add, LT, BD_some, BD2_some, JN1, JN2, IX_nI, nI_add, pk_mul, pk_sub, leT, leF, ltT, ltF, eqT, eqF, M1_lit, bI_true, bI_false, BZ_n0, BZ_n1, BZ_b, ↓reduceIte, l_0, l_1, l_2, l_3, l_4, l_5, l_6, l_7, l_8, l_9, l_10, l_11, l_12, l_13, l_14, l_15, l_16, l_17, l_18, l_19, l_20, l_21, l_22, l_23, l_24, l_25, l_26, l_27, l_28, l_29, l_30, l_31, l_32, l_33, l_34, l_35, l_36, l_37, l_38, l_39, l_40, l_41, l_42, l_43, l_44, l_45, l_46, l_47, l_48, l_49, l_50, l_51, l_52, l_53, l_54, l_55, l_56, l_57, l_58, l_59, l_60, l_61, l_62, l_63, l_64, l_72, l_74, l_86, l_97, l_99, l_100, l_122, l_140, l_158, l_160, l_164, l_200, l_240, l_255, l_400, l_406, l_900, l_940, l_980, l_999, l_1120, l_1000, l_100000, NZ, x4_isProved_v h.he h.hz hd, a], by simp (disch := omega) only [Nat.zero_add, LT, BD_some, BD2_some, JN1, JN2, IX_nI, nI_add, pk_mul, pk_sub, leT, leF, ltT, ltF, eqT, eqF, M1_lit, bI_true, bI_false, BZ_n0, BZ_n1, BZ_b, ↓reduceIte, l_0, l_1, l_2, l_3, l_4, l_5, l_6, l_7, l_8, l_9, l_10, l_11, l_12, l_13, l_14, l_15, l_16, l_17, l_18, l_19, l_20, l_21, l_22, l_23, l_24, l_25, l_26, l_27, l_28, l_29, l_30, l_31, l_32, l_33, l_34, l_35, l_36, l_37, l_38, l_39, l_40, l_41, l_42, l_43, l_44, l_45, l_46, l_47, l_48, l_49, l_50, l_51, l_52, l_53, l_54, l_55, l_56, l_57, l_58, l_59, l_60, l_61, l_62, l_63, l_64, l_72, l_74, l_86, l_97, l_99, l_100, l_122, l_140, l_158, l_160, l_164, l_200, l_240, l_255, l_400, l_406, l_900, l_940, l_980, l_999, l_1120, l_1000, l_100000, m_isProved_v t hd, a]⟩
        · exact ⟨nI 1, by simp (disch := omega) only [Nat.zero_add, LT, BD_some, BD2_some, JN1, JN2, IX_nI, nI_add, pk_mul, pk_sub, leT, leF, ltT, ltF, eqT, eqF, M1_lit, bI_true, bI_false, BZ_n0, BZ_n1, BZ_b, ↓reduceIte, l_0, l_1, l_2, l_3, l_4, l_5, l_6, l_7, l_8, l_9, l_10, l_11, l_12, l_13, l_14, l_15, l_16, l_17, l_18, l_19, l_20, l_21, l_22, l_23, l_24, l_25, l_26, l_27, l_28, l_29, l_30, l_31, l_32, l_33, l_34, l_35, l_36, l_37, l_38, l_39, l_40, l_41, l_42, l_43, l_44, l_45, l_46, l_47, l_48, l_49, l_50, l_51, l_52, l_53, l_54, l_55, l_56, l_57, l_58, l_59, l_60, l_61, l_62, l_63, l_64, l_72, l_74, l_86, l_97, l_99, l_100, l_122, l_140, l_158, l_160, l_164, l_200, l_240, l_255, l_400, l_406, l_900, l_940, l_980, l_999, l_1120, l_1000, l_100000, NZ, x4_isProved_v h.he h.hz hd, a], by simp (disch := omega) only [Nat.zero_add, LT, BD_some, BD2_some, JN1, JN2, IX_nI, nI_add, pk_mul, pk_sub, leT, leF, ltT, ltF, eqT, eqF, M1_lit, bI_true, bI_false, BZ_n0, BZ_n1, BZ_b, ↓reduceIte, l_0, l_1, l_2, l_3, l_4, l_5, l_6, l_7, l_8, l_9, l_10, l_11, l_12, l_13, l_14, l_15, l_16, l_17, l_18, l_19, l_20, l_21, l_22, l_23, l_24, l_25, l_26, l_27, l_28, l_29, l_30, l_31, l_32, l_33, l_34, l_35, l_36, l_37, l_38, l_39, l_40, l_41, l_42, l_43, l_44, l_45, l_46, l_47, l_48, l_49, l_50, l_51, l_52, l_53, l_54, l_55, l_56, l_57, l_58, l_59, l_60, l_61, l_62, l_63, l_64, l_72, l_74, l_86, l_97, l_99, l_100, l_122, l_140, l_158, l_160, l_164, l_200, l_240, l_255, l_400, l_406, l_900, l_940, l_980, l_999, l_1120, l_1000, l_100000, m_isProved_v t hd, a]⟩
    · have q : ∀ j, j ≤ 6 → ¬ w = nI j := fun j hj e => by rw [e, inn_T (by omega) hj (by omega)] at hww; cases hww
      rw [hww]
      refine Or.inr ⟨by simp (disch := omega) only [Nat.zero_add, LT, BD_some, BD2_some, JN1, JN2, IX_nI, nI_add, pk_mul, pk_sub, leT, leF, ltT, ltF, eqT, eqF, M1_lit, bI_true, bI_false, BZ_n0, BZ_n1, BZ_b, ↓reduceIte, l_0, l_1, l_2, l_3, l_4, l_5, l_6, l_7, l_8, l_9, l_10, l_11, l_12, l_13, l_14, l_15, l_16, l_17, l_18, l_19, l_20, l_21, l_22, l_23, l_24, l_25, l_26, l_27, l_28, l_29, l_30, l_31, l_32, l_33, l_34, l_35, l_36, l_37, l_38, l_39, l_40, l_41, l_42, l_43, l_44, l_45, l_46, l_47, l_48, l_49, l_50, l_51, l_52, l_53, l_54, l_55, l_56, l_57, l_58, l_59, l_60, l_61, l_62, l_63, l_64, l_72, l_74, l_86, l_97, l_99, l_100, l_122, l_140, l_158, l_160, l_164, l_200, l_240, l_255, l_400, l_406, l_900, l_940, l_980, l_999, l_1120, l_1000, l_100000], nI 0, ?_⟩
      simp (disch := omega) only [Nat.zero_add, LT, BD_some, BD2_some, JN1, JN2, IX_nI, nI_add, pk_mul, pk_sub, leT, leF, ltT, ltF, eqT, eqF, M1_lit, bI_true, bI_false, BZ_n0, BZ_n1, BZ_b, ↓reduceIte, l_0, l_1, l_2, l_3, l_4, l_5, l_6, l_7, l_8, l_9, l_10, l_11, l_12, l_13, l_14, l_15, l_16, l_17, l_18, l_19, l_20, l_21, l_22, l_23, l_24, l_25, l_26, l_27, l_28, l_29, l_30, l_31, l_32, l_33, l_34, l_35, l_36, l_37, l_38, l_39, l_40, l_41, l_42, l_43, l_44, l_45, l_46, l_47, l_48, l_49, l_50, l_51, l_52, l_53, l_54, l_55, l_56, l_57, l_58, l_59, l_60, l_61, l_62, l_63, l_64, l_72, l_74, l_86, l_97, l_99, l_100, l_122, l_140, l_158, l_160, l_164, l_200, l_240, l_255, l_400, l_406, l_900, l_940, l_980, l_999, l_1120, l_1000, l_100000, q 0 (by omega), q 1 (by omega), q 2 (by omega), q 3 (by omega), q 4 (by omega), q 5 (by omega), q 6 (by omega)]
  · rw [hp]
    exact Or.inr ⟨by simp (disch := omega) only [Nat.zero_add, LT, BD_some, BD2_some, JN1, JN2, IX_nI, nI_add, pk_mul, pk_sub, leT, leF, ltT, ltF, eqT, eqF, M1_lit, bI_true, bI_false, BZ_n0, BZ_n1, BZ_b, ↓reduceIte, l_0, l_1, l_2, l_3, l_4, l_5, l_6, l_7, l_8, l_9, l_10, l_11, l_12, l_13, l_14, l_15, l_16, l_17, l_18, l_19, l_20, l_21, l_22, l_23, l_24, l_25, l_26, l_27, l_28, l_29, l_30, l_31, l_32, l_33, l_34, l_35, l_36, l_37, l_38, l_39, l_40, l_41, l_42, l_43, l_44, l_45, l_46, l_47, l_48, l_49, l_50, l_51, l_52, l_53, l_54, l_55, l_56, l_57, l_58, l_59, l_60, l_61, l_62, l_63, l_64, l_72, l_74, l_86, l_97, l_99, l_100, l_122, l_140, l_158, l_160, l_164, l_200, l_240, l_255, l_400, l_406, l_900, l_940, l_980, l_999, l_1120, l_1000, l_100000], nI 0, by simp (disch := omega) only [Nat.zero_add, LT, BD_some, BD2_some, JN1, JN2, IX_nI, nI_add, pk_mul, pk_sub, leT, leF, ltT, ltF, eqT, eqF, M1_lit, bI_true, bI_false, BZ_n0, BZ_n1, BZ_b, ↓reduceIte, l_0, l_1, l_2, l_3, l_4, l_5, l_6, l_7, l_8, l_9, l_10, l_11, l_12, l_13, l_14, l_15, l_16, l_17, l_18, l_19, l_20, l_21, l_22, l_23, l_24, l_25, l_26, l_27, l_28, l_29, l_30, l_31, l_32, l_33, l_34, l_35, l_36, l_37, l_38, l_39, l_40, l_41, l_42, l_43, l_44, l_45, l_46, l_47, l_48, l_49, l_50, l_51, l_52, l_53, l_54, l_55, l_56, l_57, l_58, l_59, l_60, l_61, l_62, l_63, l_64, l_72, l_74, l_86, l_97, l_99, l_100, l_122, l_140, l_158, l_160, l_164, l_200, l_240, l_255, l_400, l_406, l_900, l_940, l_980, l_999, l_1120, l_1000, l_100000]⟩
/-- covers: parlours from which all is seen -/
def cov (d : Nat → Nat) (s : Nat) : Bool := decide (sfN d s (d 0) = allp d)
/-- better: fewer, or as many and less -/
def btr (a r : Nat) : Prop := pop 12 a < pop 12 r ∨ (pop 12 a = pop 12 r ∧ a ≤ r)
theorem btr_anti {a r : Nat} (h1 : btr a r) (h2 : btr r a) : a = r := by unfold btr at h1 h2; omega
theorem pop_all : ∀ P, P ≤ 5 → ∀ r, r < 2 ^ P - 1 → pop 12 r < pop 12 (2 ^ P - 1) := by decide +kernel
def upB (d : Nat → Nat) : Nat → Nat
  | 0 => allp d
  | s + 1 => if cov d s = true ∧ pop 12 s < pop 12 (upB d s) then s else upB d s
def dnB (d : Nat → Nat) : Nat → Nat
  | 0 => allp d
  | k + 1 => if cov d (allp d - k) = true ∧ pop 12 (allp d - k) ≤ pop 12 (dnB d k) then allp d - k else dnB d k
def smN (d : Nat → Nat) (s : Nat) : Nat → Nat
  | 0 => 0
  | l + 1 => if s.testBit l = true then smN d s l ||| (d (6 + l) ||| 2 ^ l) else smN d s l
theorem smN_lt {d : Nat → Nat} (h : DI d) (s : Nat) : ∀ n, n ≤ 5 → smN d s n < 32 := by
  intro n
  induction n with
  | zero => intro _; show (0 : Nat) < 32; omega
  | succ n ih =>
    intro hn
    show (if _ then _ else _) < 32
    split
    · exact Nat.or_lt_two_pow (n := 5) (ih (by omega)) (Nat.or_lt_two_pow (n := 5) (h.sg (by omega)) (Nat.pow_lt_pow_right (by omega) (by omega)))
    · exact ih (by omega)
theorem sf_bit {d : Nat → Nat} (s k : Nat) : ∀ n, (sfN d s n).testBit k = (s.testBit k || (List.range n).any (fun l => s.testBit l && (d (6 + l)).testBit k)) := by
  intro n
  induction n with
  | zero => show s.testBit k = _; simp
  | succ n ih =>
    show (if _ then _ else _ : Nat).testBit k = _
    rw [List.range_succ, List.any_append]
    cases a : s.testBit n
    · rw [if_neg (by simp), ih]; simp [a]
    · rw [if_pos rfl, Nat.testBit_or, ih]; simp [a, Bool.or_assoc]
theorem sm_bit {d : Nat → Nat} (s k : Nat) : ∀ n, (smN d s n).testBit k = (List.range n).any (fun l => s.testBit l && ((d (6 + l)).testBit k || decide (l = k))) := by
  intro n
  induction n with
  | zero => show (0 : Nat).testBit k = _; simp
  | succ n ih =>
    show (if _ then _ else _ : Nat).testBit k = _
    rw [List.range_succ, List.any_append]
    cases a : s.testBit n
    · rw [if_neg (by simp), ih]; simp [a]
    · rw [if_pos rfl, Nat.testBit_or, ih, Nat.testBit_or, Nat.testBit_two_pow]; simp [a]
theorem sf_sm {d : Nat → Nat} (hP : d 0 ≤ 5) {s : Nat} (hs : s < 2 ^ d 0) : sfN d s (d 0) = smN d s 5 := by
  have hz : ∀ l, d 0 ≤ l → s.testBit l = false := fun l hl => Nat.testBit_lt_two_pow (Nat.lt_of_lt_of_le hs (Nat.pow_le_pow_right (by omega) hl))
  refine Nat.eq_of_testBit_eq (fun k => ?_)
  rw [sf_bit, sm_bit]
  apply Bool.eq_iff_iff.mpr
  simp only [Bool.or_eq_true, List.any_eq_true, List.mem_range, Bool.and_eq_true, decide_eq_true_eq]
  constructor
  · rintro (h | ⟨l, h1, h2, h3⟩)
    · have hk : k < d 0 := Nat.lt_of_not_le (fun hh => by rw [hz k hh] at h; cases h)
      exact ⟨k, by omega, h, Or.inr rfl⟩
    · exact ⟨l, by omega, h2, Or.inl h3⟩
  · rintro ⟨l, h1, h2, h3⟩
    have hk : l < d 0 := Nat.lt_of_not_le (fun hh => by rw [hz l hh] at h2; cases h2)
    rcases h3 with h3 | h3
    · exact Or.inr ⟨l, hk, h2, h3⟩
    · subst h3; exact Or.inl h2
theorem m_seenFrom_v {s : Rec} (h : gA s 14 = RF d) (hd : DI d) {q : Nat} (hq : q < 32) : m_seenFrom s (nI q) = some (nI (smN d q 5)) := by
  unfold m_seenFrom
  refine LP2_run (fun l => nI (smN d q l)) (fun l => nI l) 0 5 (by omega) rfl rfl (fun l _ hl rec => ?_) (fun rec => ?_)
  · have h1 := smN_lt hd q l (by omega)
    have h2 : d (6 + l) ||| 2 ^ l < 32 := Nat.or_lt_two_pow (n := 5) (hd.sg (by omega)) (Nat.pow_lt_pow_right (by omega) (by omega))
    cases a : q.testBit l
    · have a2 : smN d q (l + 1) = smN d q l := by show (if _ then _ else _) = _; rw [if_neg (by simp [a])]
      simp (disch := omega) only [Nat.zero_add, LT, BD_some, BD2_some, JN1, JN2, IX_nI, nI_add, pk_mul, pk_sub, leT, leF, ltT, ltF, eqT, eqF, M1_lit, bI_true, bI_false, BZ_n0, BZ_n1, BZ_b, ↓reduceIte, l_0, l_1, l_2, l_3, l_4, l_5, l_6, l_7, l_8, l_9, l_10, l_11, l_12, l_13, l_14, l_15, l_16, l_17, l_18, l_19, l_20, l_21, l_22, l_23, l_24, l_25, l_26, l_27, l_28, l_29, l_30, l_31, l_32, l_33, l_34, l_35, l_36, l_37, l_38, l_39, l_40, l_41, l_42, l_43, l_44, l_45, l_46, l_47, l_48, l_49, l_50, l_51, l_52, l_53, l_54, l_55, l_56, l_57, l_58, l_59, l_60, l_61, l_62, l_63, l_64, l_72, l_74, l_86, l_97, l_99, l_100, l_122, l_140, l_158, l_160, l_164, l_200, l_240, l_255, l_400, l_406, l_900, l_940, l_980, l_999, l_1120, l_1000, l_100000, m_has_v, hs_nI, a, a2]
    · have a2 : smN d q (l + 1) = smN d q l ||| (d (6 + l) ||| 2 ^ l) := by show (if _ then _ else _) = _; rw [if_pos a]
      have a3 : nI (smN d q l) ||| nI (d (6 + l) ||| 2 ^ l) = nI (smN d q (l + 1)) := by rw [nI_or (by omega) (by omega), a2]
      simp (disch := omega) only [Nat.zero_add, LT, BD_some, BD2_some, JN1, JN2, IX_nI, nI_add, pk_mul, pk_sub, leT, leF, ltT, ltF, eqT, eqF, M1_lit, bI_true, bI_false, BZ_n0, BZ_n1, BZ_b, ↓reduceIte, l_0, l_1, l_2, l_3, l_4, l_5, l_6, l_7, l_8, l_9, l_10, l_11, l_12, l_13, l_14, l_15, l_16, l_17, l_18, l_19, l_20, l_21, l_22, l_23, l_24, l_25, l_26, l_27, l_28, l_29, l_30, l_31, l_32, l_33, l_34, l_35, l_36, l_37, l_38, l_39, l_40, l_41, l_42, l_43, l_44, l_45, l_46, l_47, l_48, l_49, l_50, l_51, l_52, l_53, l_54, l_55, l_56, l_57, l_58, l_59, l_60, l_61, l_62, l_63, l_64, l_72, l_74, l_86, l_97, l_99, l_100, l_122, l_140, l_158, l_160, l_164, l_200, l_240, l_255, l_400, l_406, l_900, l_940, l_980, l_999, l_1120, l_1000, l_100000, m_has_v, hs_nI, a, m_around_v h hd, a3]
  · simp (disch := omega) only [Nat.zero_add, LT, BD_some, BD2_some, JN1, JN2, IX_nI, nI_add, pk_mul, pk_sub, leT, leF, ltT, ltF, eqT, eqF, M1_lit, bI_true, bI_false, BZ_n0, BZ_n1, BZ_b, ↓reduceIte, l_0, l_1, l_2, l_3, l_4, l_5, l_6, l_7, l_8, l_9, l_10, l_11, l_12, l_13, l_14, l_15, l_16, l_17, l_18, l_19, l_20, l_21, l_22, l_23, l_24, l_25, l_26, l_27, l_28, l_29, l_30, l_31, l_32, l_33, l_34, l_35, l_36, l_37, l_38, l_39, l_40, l_41, l_42, l_43, l_44, l_45, l_46, l_47, l_48, l_49, l_50, l_51, l_52, l_53, l_54, l_55, l_56, l_57, l_58, l_59, l_60, l_61, l_62, l_63, l_64, l_72, l_74, l_86, l_97, l_99, l_100, l_122, l_140, l_158, l_160, l_164, l_200, l_240, l_255, l_400, l_406, l_900, l_940, l_980, l_999, l_1120, l_1000, l_100000, Nat.reduceAdd]
theorem allp_cov {d : Nat → Nat} (h : DI d) : cov d (allp d) = true := by
  unfold cov
  rw [decide_eq_true_eq]
  refine Nat.eq_of_testBit_eq (fun k => ?_)
  rw [sf_bit]
  show ((2 ^ d 0 - 1).testBit k || _) = (2 ^ d 0 - 1).testBit k
  rw [Nat.testBit_two_pow_sub_one]
  by_cases hk : k < d 0
  · simp [hk]
  · have : ∀ l, l < d 0 → (d (6 + l)).testBit k = false := fun l hl => Nat.testBit_lt_two_pow (Nat.lt_of_lt_of_le (h.1.2.2.2.2.2.2.1 l (by have := h.P; omega)) (Nat.pow_le_pow_right (by omega) (by omega)))
    simp only [hk, decide_false, Bool.false_or]
    rw [List.any_eq_false]
    intro l hl
    rw [this l (List.mem_range.mp hl)]; simp
theorem up_ok {d : Nat → Nat} (h : DI d) : ∀ s, s ≤ allp d → cov d (upB d s) = true ∧ upB d s ≤ allp d ∧ (∀ r, r < s → cov d r = true → btr (upB d s) r) ∧ (upB d s = allp d ∨ upB d s < s) := by
  intro s
  induction s with
  | zero => intro _; exact ⟨allp_cov h, Nat.le_refl _, fun r hr => absurd hr (Nat.not_lt_zero r), Or.inl rfl⟩
  | succ s ih =>
    intro hs
    obtain ⟨a1, a2, a3, a4⟩ := ih (by omega)
    have hu : upB d (s + 1) = if cov d s = true ∧ pop 12 s < pop 12 (upB d s) then s else upB d s := rfl
    rw [hu]
    by_cases c : cov d s = true ∧ pop 12 s < pop 12 (upB d s)
    · rw [if_pos c]
      refine ⟨c.1, by omega, fun r hr h1 => ?_, Or.inr (by omega)⟩
      by_cases e : r = s
      · subst e; exact Or.inr ⟨rfl, Nat.le_refl _⟩
      · have := a3 r (by omega) h1
        unfold btr at this ⊢; omega
    · rw [if_neg c]
      refine ⟨a1, a2, fun r hr h1 => ?_, by omega⟩
      by_cases e : r = s
      · subst e
        have h2 : pop 12 (upB d r) ≤ pop 12 r := Nat.le_of_not_lt (fun hh => c ⟨h1, hh⟩)
        unfold btr
        rcases a4 with a4 | a4
        · have hp := pop_all (d 0) h.P r hs
          rw [a4] at h2
          have : pop 12 (allp d) = pop 12 (2 ^ d 0 - 1) := rfl
          omega
        · omega
      · exact a3 r (by omega) h1
theorem dn_ok {d : Nat → Nat} (h : DI d) : ∀ k, k ≤ allp d + 1 → cov d (dnB d k) = true ∧ dnB d k ≤ allp d ∧ (∀ r, allp d < r + k → r ≤ allp d → cov d r = true → btr (dnB d k) r) := by
  intro k
  induction k with
  | zero => intro _; exact ⟨allp_cov h, Nat.le_refl _, fun r h1 h2 => absurd h1 (by omega)⟩
  | succ k ih =>
    intro hk
    obtain ⟨a1, a2, a3⟩ := ih (by omega)
    have hs : dnB d (k + 1) = if cov d (allp d - k) = true ∧ pop 12 (allp d - k) ≤ pop 12 (dnB d k) then allp d - k else dnB d k := rfl
    rw [hs]
    by_cases c : cov d (allp d - k) = true ∧ pop 12 (allp d - k) ≤ pop 12 (dnB d k)
    · rw [if_pos c]
      refine ⟨c.1, by omega, fun r h1 h2 h3 => ?_⟩
      by_cases e : r = allp d - k
      · rw [e]; exact Or.inr ⟨rfl, Nat.le_refl _⟩
      · have := a3 r (by omega) h2 h3
        unfold btr at this ⊢; omega
    · rw [if_neg c]
      refine ⟨a1, a2, fun r h1 h2 h3 => ?_⟩
      by_cases e : r = allp d - k
      · rw [← e] at c
        exact Or.inl (Nat.lt_of_not_le (fun hh => c ⟨h3, hh⟩))
      · exact a3 r (by omega) h2 h3
theorem up_dn {d : Nat → Nat} (h : DI d) : upB d (allp d) = dnB d (allp d + 1) := by
  obtain ⟨a1, a2, a3, a4⟩ := up_ok h (allp d) (Nat.le_refl _)
  obtain ⟨b1, b2, b3⟩ := dn_ok h (allp d + 1) (Nat.le_refl _)
  refine btr_anti ?_ (b3 _ (by omega) a2 a1)
  by_cases e : dnB d (allp d + 1) = allp d
  · rw [e]
    rcases a4 with a4 | a4
    · rw [a4]; exact Or.inr ⟨rfl, Nat.le_refl _⟩
    · exact Or.inl (pop_all (d 0) h.P _ a4)
  · exact a3 _ (by omega) b1
theorem nI_M {a : Nat} : nI a + M1 = lf a := by
  unfold lf
  rw [Int32.sub_eq_add_neg]; rfl
theorem x1_cover_v (h : RR x G m c b e z d ow n U) : x1_cover c b e = some (nI (pop 12 (upB d (allp d))), sI (sI c 17 1) 16 (nI (upB d (allp d)))) := by
  have hd := h.di
  have hP := hd.P
  have t := h.t14 0
  have ha := allp_lt hd
  have hal : allp d < 2 ^ d 0 := by
    have := Nat.pow_pos (n := d 0) (a := 2) (by omega)
    show 2 ^ d 0 - 1 < _; omega
  unfold x1_cover
  rw [PG_of _ h.hb, x3_all_v h.he hd, BD_some]
  refine LP2_run (fun s => nI (upB d s)) (fun s => nI s) 0 (allp d) (by omega) rfl rfl (fun s _ hs rec => ?_) (fun rec => ?_)
  · obtain ⟨-, u2, -⟩ := up_ok hd s (by omega)
    have h1 := sfN_lt hd (s := s) (by omega) (d 0) hP
    have p1 := pop_le 12 s
    have p2 := pop_le 12 (upB d s)
    have hs' : upB d (s + 1) = if cov d s = true ∧ pop 12 s < pop 12 (upB d s) then s else upB d s := rfl
    by_cases a : sfN d s (d 0) = allp d
    · have a1 : cov d s = true := by unfold cov; simp [a]
      by_cases g : pop 12 s < pop 12 (upB d s)
      · rw [if_pos ⟨a1, g⟩] at hs'
        simp (disch := omega) only [Nat.zero_add, LT, BD_some, BD2_some, JN1, JN2, IX_nI, nI_add, pk_mul, pk_sub, leT, leF, ltT, ltF, eqT, eqF, M1_lit, bI_true, bI_false, BZ_n0, BZ_n1, BZ_b, ↓reduceIte, l_0, l_1, l_2, l_3, l_4, l_5, l_6, l_7, l_8, l_9, l_10, l_11, l_12, l_13, l_14, l_15, l_16, l_17, l_18, l_19, l_20, l_21, l_22, l_23, l_24, l_25, l_26, l_27, l_28, l_29, l_30, l_31, l_32, l_33, l_34, l_35, l_36, l_37, l_38, l_39, l_40, l_41, l_42, l_43, l_44, l_45, l_46, l_47, l_48, l_49, l_50, l_51, l_52, l_53, l_54, l_55, l_56, l_57, l_58, l_59, l_60, l_61, l_62, l_63, l_64, l_72, l_74, l_86, l_97, l_99, l_100, l_122, l_140, l_158, l_160, l_164, l_200, l_240, l_255, l_400, l_406, l_900, l_940, l_980, l_999, l_1120, l_1000, l_100000, PG_of _ h.hb, x3_all_v h.he hd, x3_seenFrom_v h.he hd, a, bc_v, hs']
      · rw [if_neg (fun q => g q.2)] at hs'
        simp (disch := omega) only [Nat.zero_add, LT, BD_some, BD2_some, JN1, JN2, IX_nI, nI_add, pk_mul, pk_sub, leT, leF, ltT, ltF, eqT, eqF, M1_lit, bI_true, bI_false, BZ_n0, BZ_n1, BZ_b, ↓reduceIte, l_0, l_1, l_2, l_3, l_4, l_5, l_6, l_7, l_8, l_9, l_10, l_11, l_12, l_13, l_14, l_15, l_16, l_17, l_18, l_19, l_20, l_21, l_22, l_23, l_24, l_25, l_26, l_27, l_28, l_29, l_30, l_31, l_32, l_33, l_34, l_35, l_36, l_37, l_38, l_39, l_40, l_41, l_42, l_43, l_44, l_45, l_46, l_47, l_48, l_49, l_50, l_51, l_52, l_53, l_54, l_55, l_56, l_57, l_58, l_59, l_60, l_61, l_62, l_63, l_64, l_72, l_74, l_86, l_97, l_99, l_100, l_122, l_140, l_158, l_160, l_164, l_200, l_240, l_255, l_400, l_406, l_900, l_940, l_980, l_999, l_1120, l_1000, l_100000, PG_of _ h.hb, x3_all_v h.he hd, x3_seenFrom_v h.he hd, a, bc_v, hs']
    · have a1 : ¬ cov d s = true := by unfold cov; simp [a]
      rw [if_neg (fun q => a1 q.1)] at hs'
      simp (disch := omega) only [Nat.zero_add, LT, BD_some, BD2_some, JN1, JN2, IX_nI, nI_add, pk_mul, pk_sub, leT, leF, ltT, ltF, eqT, eqF, M1_lit, bI_true, bI_false, BZ_n0, BZ_n1, BZ_b, ↓reduceIte, l_0, l_1, l_2, l_3, l_4, l_5, l_6, l_7, l_8, l_9, l_10, l_11, l_12, l_13, l_14, l_15, l_16, l_17, l_18, l_19, l_20, l_21, l_22, l_23, l_24, l_25, l_26, l_27, l_28, l_29, l_30, l_31, l_32, l_33, l_34, l_35, l_36, l_37, l_38, l_39, l_40, l_41, l_42, l_43, l_44, l_45, l_46, l_47, l_48, l_49, l_50, l_51, l_52, l_53, l_54, l_55, l_56, l_57, l_58, l_59, l_60, l_61, l_62, l_63, l_64, l_72, l_74, l_86, l_97, l_99, l_100, l_122, l_140, l_158, l_160, l_164, l_200, l_240, l_255, l_400, l_406, l_900, l_940, l_980, l_999, l_1120, l_1000, l_100000, PG_of _ h.hb, x3_all_v h.he hd, x3_seenFrom_v h.he hd, hs']
  · obtain ⟨-, u2, -⟩ := up_ok hd (allp d) (Nat.le_refl _)
    simp (disch := omega) only [Nat.zero_add, LT, BD_some, BD2_some, JN1, JN2, IX_nI, nI_add, pk_mul, pk_sub, leT, leF, ltT, ltF, eqT, eqF, M1_lit, bI_true, bI_false, BZ_n0, BZ_n1, BZ_b, ↓reduceIte, l_0, l_1, l_2, l_3, l_4, l_5, l_6, l_7, l_8, l_9, l_10, l_11, l_12, l_13, l_14, l_15, l_16, l_17, l_18, l_19, l_20, l_21, l_22, l_23, l_24, l_25, l_26, l_27, l_28, l_29, l_30, l_31, l_32, l_33, l_34, l_35, l_36, l_37, l_38, l_39, l_40, l_41, l_42, l_43, l_44, l_45, l_46, l_47, l_48, l_49, l_50, l_51, l_52, l_53, l_54, l_55, l_56, l_57, l_58, l_59, l_60, l_61, l_62, l_63, l_64, l_72, l_74, l_86, l_97, l_99, l_100, l_122, l_140, l_158, l_160, l_164, l_200, l_240, l_255, l_400, l_406, l_900, l_940, l_980, l_999, l_1120, l_1000, l_100000, PG_of _ h.hb, x3_all_v h.he hd, bc_v]
theorem m_cover_v (h : RR x G m c b e z d ow n U) : m_cover m = some (nI (pop 12 (upB d (allp d))), sI (sI m 0 0) 26 (nI (upB d (allp d)))) := by
  have hd := h.di
  have hP := hd.P
  have t := h.t14 0
  have ha := allp_lt hd
  have hal : allp d < 2 ^ d 0 := by
    have := Nat.pow_pos (n := d 0) (a := 2) (by omega)
    show 2 ^ d 0 - 1 < _; omega
  unfold m_cover
  rw [LT]
  generalize sI m 0 0 = s at t ⊢
  rw [up_dn hd]
  have al : (1 : Int32) <<< (gA s 14 0 &&& 31) - 1 = nI (allp d) := by rw [t, RF_a (by omega)]; exact all_v _ hP
  rw [al]
  refine LP2_run (fun k => nI (dnB d k)) (fun k => lf (allp d + 1 - k)) 0 (allp d + 1) (by omega) rfl (by rw [Nat.sub_zero, lf_s]) (fun k _ hk rec => ?_) (fun rec => ?_)
  · obtain ⟨-, u2, -⟩ := dn_ok hd k (by omega)
    have p1 := pop_le 12 (allp d - k)
    have p2 := pop_le 12 (dnB d k)
    have h1 := smN_lt hd (allp d - k) 5 (by omega)
    have q1 : lf (allp d + 1 - k) = nI (allp d - k) := by rw [show allp d + 1 - k = (allp d - k) + 1 by omega, lf_s]
    have q2 : nI (allp d - k) + M1 = lf (allp d + 1 - (k + 1)) := by rw [nI_M]; congr 1; omega
    have hs' : dnB d (k + 1) = if cov d (allp d - k) = true ∧ pop 12 (allp d - k) ≤ pop 12 (dnB d k) then allp d - k else dnB d k := rfl
    have hsm := sf_sm hP (s := allp d - k) (by omega)
    by_cases a : smN d (allp d - k) 5 = allp d
    · have a1 : cov d (allp d - k) = true := by unfold cov; rw [hsm]; simp [a]
      by_cases g : pop 12 (allp d - k) ≤ pop 12 (dnB d k)
      · rw [if_pos ⟨a1, g⟩] at hs'
        simp (disch := omega) only [Nat.zero_add, LT, BD_some, BD2_some, JN1, JN2, IX_nI, nI_add, pk_mul, pk_sub, leT, leF, ltT, ltF, eqT, eqF, M1_lit, bI_true, bI_false, BZ_n0, BZ_n1, BZ_b, ↓reduceIte, l_0, l_1, l_2, l_3, l_4, l_5, l_6, l_7, l_8, l_9, l_10, l_11, l_12, l_13, l_14, l_15, l_16, l_17, l_18, l_19, l_20, l_21, l_22, l_23, l_24, l_25, l_26, l_27, l_28, l_29, l_30, l_31, l_32, l_33, l_34, l_35, l_36, l_37, l_38, l_39, l_40, l_41, l_42, l_43, l_44, l_45, l_46, l_47, l_48, l_49, l_50, l_51, l_52, l_53, l_54, l_55, l_56, l_57, l_58, l_59, l_60, l_61, l_62, l_63, l_64, l_72, l_74, l_86, l_97, l_99, l_100, l_122, l_140, l_158, l_160, l_164, l_200, l_240, l_255, l_400, l_406, l_900, l_940, l_980, l_999, l_1120, l_1000, l_100000, q1, m_seenFrom_v t hd, a, m_bits_v, q2, hs']
      · rw [if_neg (fun q => g q.2)] at hs'
        simp (disch := omega) only [Nat.zero_add, LT, BD_some, BD2_some, JN1, JN2, IX_nI, nI_add, pk_mul, pk_sub, leT, leF, ltT, ltF, eqT, eqF, M1_lit, bI_true, bI_false, BZ_n0, BZ_n1, BZ_b, ↓reduceIte, l_0, l_1, l_2, l_3, l_4, l_5, l_6, l_7, l_8, l_9, l_10, l_11, l_12, l_13, l_14, l_15, l_16, l_17, l_18, l_19, l_20, l_21, l_22, l_23, l_24, l_25, l_26, l_27, l_28, l_29, l_30, l_31, l_32, l_33, l_34, l_35, l_36, l_37, l_38, l_39, l_40, l_41, l_42, l_43, l_44, l_45, l_46, l_47, l_48, l_49, l_50, l_51, l_52, l_53, l_54, l_55, l_56, l_57, l_58, l_59, l_60, l_61, l_62, l_63, l_64, l_72, l_74, l_86, l_97, l_99, l_100, l_122, l_140, l_158, l_160, l_164, l_200, l_240, l_255, l_400, l_406, l_900, l_940, l_980, l_999, l_1120, l_1000, l_100000, q1, m_seenFrom_v t hd, a, m_bits_v, q2, hs']
    · have a1 : ¬ cov d (allp d - k) = true := by unfold cov; rw [hsm]; simp [a]
      rw [if_neg (fun q => a1 q.1)] at hs'
      simp (disch := omega) only [Nat.zero_add, LT, BD_some, BD2_some, JN1, JN2, IX_nI, nI_add, pk_mul, pk_sub, leT, leF, ltT, ltF, eqT, eqF, M1_lit, bI_true, bI_false, BZ_n0, BZ_n1, BZ_b, ↓reduceIte, l_0, l_1, l_2, l_3, l_4, l_5, l_6, l_7, l_8, l_9, l_10, l_11, l_12, l_13, l_14, l_15, l_16, l_17, l_18, l_19, l_20, l_21, l_22, l_23, l_24, l_25, l_26, l_27, l_28, l_29, l_30, l_31, l_32, l_33, l_34, l_35, l_36, l_37, l_38, l_39, l_40, l_41, l_42, l_43, l_44, l_45, l_46, l_47, l_48, l_49, l_50, l_51, l_52, l_53, l_54, l_55, l_56, l_57, l_58, l_59, l_60, l_61, l_62, l_63, l_64, l_72, l_74, l_86, l_97, l_99, l_100, l_122, l_140, l_158, l_160, l_164, l_200, l_240, l_255, l_400, l_406, l_900, l_940, l_980, l_999, l_1120, l_1000, l_100000, q1, m_seenFrom_v t hd, q2, hs']
  · obtain ⟨-, u2, -⟩ := dn_ok hd (allp d + 1) (Nat.le_refl _)
    have q1 : lf (allp d + 1 - (allp d + 1)) = M1 := by rw [Nat.sub_self, lf_0]
    simp (disch := omega) only [Nat.zero_add, LT, BD_some, BD2_some, JN1, JN2, IX_nI, nI_add, pk_mul, pk_sub, leT, leF, ltT, ltF, eqT, eqF, M1_lit, bI_true, bI_false, BZ_n0, BZ_n1, BZ_b, ↓reduceIte, l_0, l_1, l_2, l_3, l_4, l_5, l_6, l_7, l_8, l_9, l_10, l_11, l_12, l_13, l_14, l_15, l_16, l_17, l_18, l_19, l_20, l_21, l_22, l_23, l_24, l_25, l_26, l_27, l_28, l_29, l_30, l_31, l_32, l_33, l_34, l_35, l_36, l_37, l_38, l_39, l_40, l_41, l_42, l_43, l_44, l_45, l_46, l_47, l_48, l_49, l_50, l_51, l_52, l_53, l_54, l_55, l_56, l_57, l_58, l_59, l_60, l_61, l_62, l_63, l_64, l_72, l_74, l_86, l_97, l_99, l_100, l_122, l_140, l_158, l_160, l_164, l_200, l_240, l_255, l_400, l_406, l_900, l_940, l_980, l_999, l_1120, l_1000, l_100000, q1, M1_lt, m_bits_v]
theorem op_cover (h : RR x G m c b e z d ow n U) : ∃ v c' m', x1_cover c b e = some (v, c') ∧ m_cover m = some (v, m') ∧ RR x (wp G x 0 c') m' c' b e z d ow n U := by
  refine ⟨_, _, _, x1_cover_v h, m_cover_v h, ?_⟩
  obtain ⟨q1, q2, q3, q4, q5, q6⟩ := h.ms
  exact h.main ((CK_sI c _ (by omega)).trans (CK_sI _ _ (by omega))) ⟨q1, q2, q3, q4, Or.inr ⟨rfl, rfl⟩, q6⟩ ((MK_sI m _ (by omega)).trans (MK_sI _ _ (by omega)))
end OPS
