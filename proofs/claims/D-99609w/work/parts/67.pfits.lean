/-! PURE: where it was -/
theorem tb_and : ∀ t, t < 256 → (nI t).toInt8.toInt32 &&& 255 = nI t := by decide +kernel
theorem off_a : ∀ a, a < 13 → ∀ c, c < 26 → a < c → ¬ (0 ≤ nI a - nI c) ∧ 0 - (nI a - nI c) = nI (c - a) ∧ -(nI a - nI c) = nI (c - a) := by decide +kernel
theorem off_b : ∀ a, a < 26 → ∀ c, c < 13 → a < c → ¬ (0 ≤ nI a - nI c) ∧ -(nI a - nI c) = nI (c - a) := by decide +kernel
/-- a byte of the tape -/
def tp (m : Rec) (i : Nat) : Nat := (gA m 1 i).toBitVec.toNat
section OPS
variable {x : Nat} {G : Wd} {m c : Rec} {b : Nat} {e z : Rec} {d : Nat → Nat} {ow : Nat → Nat} {n : Nat} {U : Nat → Nat → Nat}
theorem TB_n {a v : Int32} (h : TB a v) : a.toBitVec.toNat < 256 ∧ a = nI a.toBitVec.toNat ∧ v &&& 255 = nI a.toBitVec.toNat := by
  obtain ⟨t, ht, rfl, rfl⟩ := h
  have e : (nI t).toBitVec.toNat = t := pk_tn (by omega)
  rw [e]
  exact ⟨ht, rfl, tb_and t ht⟩
theorem inn_nI {t N : Nat} (ht : t < 2 ^ 30) (hN : N < 2 ^ 30) : inn (nI t) 0 (nI N - 1) = decide (t < N) := by
  rcases inn_count (nI t) N hN with ⟨h, p, hp, e⟩ | h
  · have := (nI_eq (by omega) (by omega)).mp e
    rw [h, decide_eq_true (by omega)]
  · rw [h]
    symm
    rw [decide_eq_false_iff_not]
    intro hlt
    have e : nI N - 1 = nI (N - 1) := by
      obtain ⟨j, rfl⟩ : ∃ j, N = j + 1 := ⟨N - 1, by omega⟩
      exact nI_pred j
    rw [e, show (0 : Int32) = nI 0 from rfl, inn_T (by omega) (by omega) (by omega)] at h
    cases h
/-- a pair on the tape that can be -/
def vld (d : Nat → Nat) (T : Nat → Nat) (i : Nat) : Bool := decide (T (2 * i) < d 1) && decide (T (2 * i + 1) ≤ 1)
def ftN (d : Nat → Nat) (T : Nat → Nat) : Nat → Nat
  | 0 => allp d
  | i + 1 => if T (2 * i + 1) = 1 then ftN d T i &&& sees d (T (2 * i)) 0 else dif (ftN d T i) (sees d (T (2 * i)) 0)
theorem ftN_s (d : Nat → Nat) (T : Nat → Nat) (i : Nat) : ftN d T (i + 1) = if T (2 * i + 1) = 1 then ftN d T i &&& sees d (T (2 * i)) 0 else dif (ftN d T i) (sees d (T (2 * i)) 0) := rfl
theorem ftN_lt {d : Nat → Nat} (h : DI d) (T : Nat → Nat) : ∀ i, ftN d T i < 32 := by
  intro i
  induction i with
  | zero => exact allp_lt h
  | succ i ih =>
    rw [ftN_s]
    split
    · exact Nat.lt_of_le_of_lt Nat.and_le_left ih
    · exact Nat.lt_of_le_of_lt (dif_le _ _) ih
/-- by how much a plant halves a set amiss -/
def ofN (d : Nat → Nat) (q p : Nat) : Nat := if 2 * pop 12 (q &&& sees d p 0) ≤ pop 12 q then pop 12 q - 2 * pop 12 (q &&& sees d p 0) else 2 * pop 12 (q &&& sees d p 0) - pop 12 q
theorem ofN_le (d : Nat → Nat) (q p : Nat) : ofN d q p ≤ 24 := by
  have := pop_le 12 q
  have := pop_le 12 (q &&& sees d p 0)
  unfold ofN; split <;> omega
theorem x1_offBy_v (hb : gP c 6 = some b) (he : HS e d) (hz : ZS z d) (hd : DI d) {q p : Nat} (hq : q < 32) (hp : p < d 1) : x1_offBy c b e z (nI q) (nI p) = some (nI (ofN d q p)) := by
  have h6 := sees_lt hd (p := p) (k := 0) hp
  have hl : q &&& sees d p 0 < 32 := Nat.lt_of_le_of_lt Nat.and_le_left hq
  have p1 := pop_le 12 q
  have p2 := pop_le 12 (q &&& sees d p 0)
  unfold x1_offBy
  rw [bc_v q (by omega), BD_some, PG_of _ hb, x4_sees_v he hz hd hp, BD_some, nI_and (by omega) (by omega), bc_v _ (by omega), BD_some, show (2 : Int32) = nI 2 from rfl, pk_mul]
  unfold ofN
  by_cases g : 2 * pop 12 (q &&& sees d p 0) ≤ pop 12 q
  · rw [if_pos g, pk_sub g, if_pos (nI_pos' (by omega))]
  · obtain ⟨o1, o2, -⟩ := off_a (pop 12 q) (by omega) (2 * pop 12 (q &&& sees d p 0)) (by omega) (by omega)
    rw [if_neg g, if_neg o1, o2]
theorem m_size_v {d : Nat → Nat} (q p : Nat) : m_size (nI (2 * pop 12 (q &&& sees d p 0)) - nI (pop 12 q)) = some (nI (ofN d q p)) := by
  have p1 := pop_le 12 q
  have p2 := pop_le 12 (q &&& sees d p 0)
  unfold m_size ofN
  by_cases g : 2 * pop 12 (q &&& sees d p 0) ≤ pop 12 q
  · rw [if_pos g]
    by_cases g2 : 2 * pop 12 (q &&& sees d p 0) = pop 12 q
    · rw [g2, pk_sub (Nat.le_refl _), Nat.sub_self]; rfl
    · obtain ⟨o1, o2⟩ := off_b (2 * pop 12 (q &&& sees d p 0)) (by omega) (pop 12 q) (by omega) (by omega)
      rw [if_neg o1, o2]
  · rw [if_neg g, pk_sub (by omega), if_pos (nI_pos' (by omega))]
theorem op_fits (h : RR x G m c b e z d ow n U) : ∃ v c' m', x1_fits c b e z = some (v, c') ∧ m_fits m = some (v, m') ∧ RR x (wp G x 0 c') m' c' b e z d ow n U := by
  have hd := h.di
  have hN := hd.N
  have hP := hd.P
  obtain ⟨w1, ⟨k, hk, k1, k2⟩, w3, w4, w5⟩ := h.ms
  have e8 := h.he.2.1
  have hT : ∀ i, i < 940 → tp m i < 256 ∧ gA m 1 i = nI (tp m i) ∧ gA c 0 i &&& 255 = nI (tp m i) := fun i hi => TB_n (w1 i hi)
  generalize tp m = T at hT
  have hc1 : RR x (wp G x 0 (sI (sI c 2 (nI k)) 1 0)) (sI (sI m 0 0) 2 0) (sI (sI c 2 (nI k)) 1 0) b e z d ow n U :=
    h.main ((CK_sI c _ (by omega)).trans (CK_sI _ _ (by omega))) ⟨w1, ⟨0, by omega, rfl, rfl⟩, w3, w4, w5⟩ ((MK_sI m _ (by omega)).trans (MK_sI _ _ (by omega)))
  have tk : x1_taken c = some (sI (sI c 2 (nI k)) 1 0) := by unfold x1_taken; rw [LT, LT, k1]
  have c2 : gI (sI (sI c 2 (nI k)) 1 0) 2 = nI k := rfl
  have one : ∀ i, i < 940 → x1_one (sI (sI c 2 (nI k)) 1 0) (nI i) = some (nI (T i)) := fun i hi => by
    unfold x1_one
    rw [IX_nI _ hi (by omega)]
    show some (gA c 0 i &&& 255) = _
    rw [(hT i hi).2.2]
  have mt : m_take (sI m 0 0) = some (nI k, sI (sI m 0 0) 2 0) := by
    unfold m_take; rw [LT]
    show some (gI m 2, _) = _
    rw [k2]
  have m1 : ∀ i, i < 940 → gA (sI (sI m 0 0) 2 0) 1 i = nI (T i) := fun i hi => (hT i hi).2.1
  have hMA : ∀ (a : Nat), RR x (wp G x 0 (sI (sI (sI (sI c 2 (nI k)) 1 0) 15 1) 14 (nI a))) (sI (sI (sI m 0 0) 2 0) 25 (nI a)) (sI (sI (sI (sI c 2 (nI k)) 1 0) 15 1) 14 (nI a)) b e z d ow n U := fun a =>
    h.main (((CK_sI c _ (by omega)).trans (CK_sI _ _ (by omega))).trans ((CK_sI _ _ (by omega)).trans (CK_sI _ _ (by omega)))) ⟨w1, ⟨0, by omega, rfl, rfl⟩, w3, Or.inr ⟨rfl, rfl⟩, w5⟩ (((MK_sI m _ (by omega)).trans (MK_sI _ _ (by omega))).trans (MK_sI _ _ (by omega)))
  unfold x1_fits m_fits
  rw [LT, mt, BD2_some, tk, BD_some, c2]
  have tM := hc1.h14
  have hbC := hc1.hb
  have hbA : ∀ v, gP (sI (sI (sI (sI c 2 (nI k)) 1 0) 15 1) 14 v) 6 = some b := fun v => h.hb
  have tA : ∀ v, gA (sI (sI (sI m 0 0) 2 0) 25 v) 14 = RF d := fun v => h.h14
  have fA : ∀ v, sI (sI (sI (sI (sI c 2 (nI k)) 1 0) 15 1) 14 0) 14 v = sI (sI (sI (sI c 2 (nI k)) 1 0) 15 1) 14 v := fun v => sI_sI _ _ _ _
  have cA : sI (sI (sI c 2 (nI k)) 1 0) 15 1 = sI (sI (sI c 2 (nI k)) 1 0) 15 1 := rfl
  generalize hcc : sI (sI c 2 (nI k)) 1 0 = cc at *
  generalize sI (sI m 0 0) 2 0 = s at *
  rw [x1_isIn_v, BD_some, show (2 : Int32) = nI 2 from rfl, show (12 : Int32) = nI 12 from rfl, NZ_of _ (nI_ne0 (by omega) (by omega)), NZ_of _ (nI_ne0 (by omega) (by omega)), NZ_of _ (nI_ne0 (by omega) (by omega)), pk_rem (by omega) (by omega) (by omega), pk_div (by omega) (by omega) (by omega), m_isIn_v, BD_some]
  have hfail : ∃ v c' m', some ((-1 : Int32), cc) = some (v, c') ∧ some ((-1 : Int32), s) = some (v, m') ∧ RR x (wp G x 0 c') m' c' b e z d ow n U := ⟨_, _, _, rfl, rfl, hc1⟩
  by_cases odd : k % 2 = 1
  · have o1 : ¬ nI (k % 2) = 0 := nI_ne0 (by omega) (by omega)
    have o2 : nI (k % 2) = 1 := by rw [odd]; rfl
    rw [if_neg o1, if_pos o2]
    by_cases r : inn (nI k) (nI 2) (nI 12) = true
    · rw [r, if_neg (show ¬ bI true = (0 : Int32) by decide)]; exact hfail
    · rw [Bool.not_eq_true] at r
      rw [r, if_pos (show bI false = (0 : Int32) from rfl)]; exact hfail
  · have ev : k % 2 = 0 := by omega
    have o1 : nI (k % 2) = 0 := by rw [ev]; rfl
    have o2 : ¬ nI (k % 2) = 1 := by rw [ev]; decide
    rw [if_pos o1, if_neg o2]
    by_cases rg : 2 ≤ k ∧ k ≤ 12
    · obtain ⟨j, rfl⟩ : ∃ j, k = 2 * j := ⟨k / 2, by omega⟩
      rw [inn_T rg.1 rg.2 (by omega), if_neg (show ¬ bI true = (0 : Int32) by decide), show inn (nI (2 * j / 2)) 1 6 = inn (nI (2 * j / 2)) (nI 1) (nI 6) from rfl, inn_T (by omega) (by omega) (by omega), if_neg (show ¬ bI true = (0 : Int32) by decide), PG_of _ hbC, x3_all_v h.he hd, BD_some]
      have isP : ∀ t, t < 256 → x1_isPlant cc b e (nI t) = some (bI (decide (t < d 1))) := fun t ht => by rw [x1_isPlant_v hbC h.he, inn_nI (by omega) (by omega)]
      have isM : ∀ t, t < 256 → m_isPlant s (nI t) = some (bI (decide (t < d 1))) := fun t ht => by rw [m_isPlant_v tM, inn_nI (by omega) (by omega)]
      have T2 : ∀ i, i < 940 → T i < 256 := fun i hi => (hT i hi).1
      have xs : ∀ i, i < j → vld d T i = true → ∀ rec : Int32 → Int32 → Option (Int32 × Rec), BD (x1_one cc (nI (2 * i))) (fun v24 => BD (x1_isPlant cc b e v24) (fun v26 => (if v26 = 0 then some ((-1 : Int32), cc) else BD (x1_one cc (nI (2 * i) + (1 : Int32))) (fun v28 => (if v28 ≤ (1 : Int32) then PG (gP cc 6) b (BD (x1_one cc (nI (2 * i))) (fun v31 => BD (x4_sees z e v31) (fun v33 => BD (x1_one cc (nI (2 * i) + (1 : Int32))) (fun v35 => (if v35 = (1 : Int32) then rec (nI (ftN d T i) &&& v33) (nI (2 * i) + (2 : Int32)) else rec (nI (ftN d T i) &&& (v33 ^^^ (-1 : Int32))) (nI (2 * i) + (2 : Int32))))))) else some ((-1 : Int32), cc)))))) = rec (nI (ftN d T (i + 1))) (nI (2 * (i + 1))) := by
        intro i hi hv rec
        unfold vld at hv
        simp only [Bool.and_eq_true, decide_eq_true_eq] at hv
        have t1 := T2 (2 * i) (by omega)
        have t2 := T2 (2 * i + 1) (by omega)
        have h6 := sees_lt hd (p := T (2 * i)) (k := 0) hv.1
        have hf := ftN_lt hd T i
        have hs := ftN_s d T i
        have ei : 2 * (i + 1) = 2 * i + 2 := by omega
        rw [ei]
        have dt : decide (T (2 * i) < d 1) = true := decide_eq_true hv.1
        by_cases g : T (2 * i + 1) = 1
        · rw [if_pos g] at hs
          have ea : nI (ftN d T i) &&& nI (sees d (T (2 * i)) 0) = nI (ftN d T (i + 1)) := by rw [nI_and (by omega) (by omega), hs]
          simp (disch := omega) only [Nat.zero_add, LT, BD_some, BD2_some, JN1, JN2, IX_nI, nI_add, pk_mul, pk_sub, leT, leF, ltT, ltF, eqT, eqF, M1_lit, bI_true, bI_false, BZ_n0, BZ_n1, BZ_b, ↓reduceIte, l_0, l_1, l_2, l_3, l_4, l_5, l_6, l_7, l_8, l_9, l_10, l_11, l_12, l_13, l_14, l_15, l_16, l_17, l_18, l_19, l_20, l_21, l_22, l_23, l_24, l_25, l_26, l_27, l_28, l_29, l_30, l_31, l_32, l_33, l_34, l_35, l_36, l_37, l_38, l_39, l_40, l_41, l_42, l_43, l_44, l_45, l_46, l_47, l_48, l_49, l_50, l_51, l_52, l_53, l_54, l_55, l_56, l_57, l_58, l_59, l_60, l_61, l_62, l_63, l_64, l_72, l_74, l_86, l_97, l_99, l_100, l_122, l_140, l_158, l_160, l_164, l_200, l_240, l_255, l_400, l_406, l_900, l_940, l_980, l_999, l_1120, l_1000, l_100000, one, isP, dt, g, PG_of _ hbC, x4_sees_v h.he h.hz hd, ea]
        · rw [if_neg g] at hs
          have ea : nI (ftN d T i) &&& (nI (sees d (T (2 * i)) 0) ^^^ M1) = nI (ftN d T (i + 1)) := by rw [nI_dif (by omega) (by omega), hs]
          simp (disch := omega) only [Nat.zero_add, LT, BD_some, BD2_some, JN1, JN2, IX_nI, nI_add, pk_mul, pk_sub, leT, leF, ltT, ltF, eqT, eqF, M1_lit, bI_true, bI_false, BZ_n0, BZ_n1, BZ_b, ↓reduceIte, l_0, l_1, l_2, l_3, l_4, l_5, l_6, l_7, l_8, l_9, l_10, l_11, l_12, l_13, l_14, l_15, l_16, l_17, l_18, l_19, l_20, l_21, l_22, l_23, l_24, l_25, l_26, l_27, l_28, l_29, l_30, l_31, l_32, l_33, l_34, l_35, l_36, l_37, l_38, l_39, l_40, l_41, l_42, l_43, l_44, l_45, l_46, l_47, l_48, l_49, l_50, l_51, l_52, l_53, l_54, l_55, l_56, l_57, l_58, l_59, l_60, l_61, l_62, l_63, l_64, l_72, l_74, l_86, l_97, l_99, l_100, l_122, l_140, l_158, l_160, l_164, l_200, l_240, l_255, l_400, l_406, l_900, l_940, l_980, l_999, l_1120, l_1000, l_100000, one, isP, dt, PG_of _ hbC, x4_sees_v h.he h.hz hd, ea]
      have xf : ∀ i, i < j → vld d T i = false → ∀ rec : Int32 → Int32 → Option (Int32 × Rec), BD (x1_one cc (nI (2 * i))) (fun v24 => BD (x1_isPlant cc b e v24) (fun v26 => (if v26 = 0 then some ((-1 : Int32), cc) else BD (x1_one cc (nI (2 * i) + (1 : Int32))) (fun v28 => (if v28 ≤ (1 : Int32) then PG (gP cc 6) b (BD (x1_one cc (nI (2 * i))) (fun v31 => BD (x4_sees z e v31) (fun v33 => BD (x1_one cc (nI (2 * i) + (1 : Int32))) (fun v35 => (if v35 = (1 : Int32) then rec (nI (ftN d T i) &&& v33) (nI (2 * i) + (2 : Int32)) else rec (nI (ftN d T i) &&& (v33 ^^^ (-1 : Int32))) (nI (2 * i) + (2 : Int32))))))) else some ((-1 : Int32), cc)))))) = some (M1, cc) := by
        intro i hi hv rec
        have t1 := T2 (2 * i) (by omega)
        have t2 := T2 (2 * i + 1) (by omega)
        unfold vld at hv
        by_cases g1 : T (2 * i) < d 1
        · have g2 : ¬ T (2 * i + 1) ≤ 1 := by simpa [g1] using hv
          have dt : decide (T (2 * i) < d 1) = true := decide_eq_true g1
          simp (disch := omega) only [Nat.zero_add, LT, BD_some, BD2_some, JN1, JN2, IX_nI, nI_add, pk_mul, pk_sub, leT, leF, ltT, ltF, eqT, eqF, M1_lit, bI_true, bI_false, BZ_n0, BZ_n1, BZ_b, ↓reduceIte, l_0, l_1, l_2, l_3, l_4, l_5, l_6, l_7, l_8, l_9, l_10, l_11, l_12, l_13, l_14, l_15, l_16, l_17, l_18, l_19, l_20, l_21, l_22, l_23, l_24, l_25, l_26, l_27, l_28, l_29, l_30, l_31, l_32, l_33, l_34, l_35, l_36, l_37, l_38, l_39, l_40, l_41, l_42, l_43, l_44, l_45, l_46, l_47, l_48, l_49, l_50, l_51, l_52, l_53, l_54, l_55, l_56, l_57, l_58, l_59, l_60, l_61, l_62, l_63, l_64, l_72, l_74, l_86, l_97, l_99, l_100, l_122, l_140, l_158, l_160, l_164, l_200, l_240, l_255, l_400, l_406, l_900, l_940, l_980, l_999, l_1120, l_1000, l_100000, one, isP, dt]
        · have dt : decide (T (2 * i) < d 1) = false := decide_eq_false g1
          simp (disch := omega) only [Nat.zero_add, LT, BD_some, BD2_some, JN1, JN2, IX_nI, nI_add, pk_mul, pk_sub, leT, leF, ltT, ltF, eqT, eqF, M1_lit, bI_true, bI_false, BZ_n0, BZ_n1, BZ_b, ↓reduceIte, l_0, l_1, l_2, l_3, l_4, l_5, l_6, l_7, l_8, l_9, l_10, l_11, l_12, l_13, l_14, l_15, l_16, l_17, l_18, l_19, l_20, l_21, l_22, l_23, l_24, l_25, l_26, l_27, l_28, l_29, l_30, l_31, l_32, l_33, l_34, l_35, l_36, l_37, l_38, l_39, l_40, l_41, l_42, l_43, l_44, l_45, l_46, l_47, l_48, l_49, l_50, l_51, l_52, l_53, l_54, l_55, l_56, l_57, l_58, l_59, l_60, l_61, l_62, l_63, l_64, l_72, l_74, l_86, l_97, l_99, l_100, l_122, l_140, l_158, l_160, l_164, l_200, l_240, l_255, l_400, l_406, l_900, l_940, l_980, l_999, l_1120, l_1000, l_100000, one, isP, dt]
      have ms : ∀ i, i < j → vld d T i = true → ∀ rec : Int32 → Option (Int32 × Rec), IX (nI (2 * i)) 940 (fun i34 => BD (m_isPlant s (gA s 1 i34)) (fun v36 => (if v36 = 0 then some ((-1 : Int32), s) else IX (nI (2 * i) + (1 : Int32)) 940 (fun i37 => (if (gA s 1 i37) ≤ (1 : Int32) then rec (nI (2 * i) + nI 2) else some ((-1 : Int32), s)))))) = rec (nI (2 * (i + 1))) := by
        intro i hi hv rec
        unfold vld at hv
        simp only [Bool.and_eq_true, decide_eq_true_eq] at hv
        have t1 := T2 (2 * i) (by omega)
        have t2 := T2 (2 * i + 1) (by omega)
        have ei : 2 * (i + 1) = 2 * i + 2 := by omega
        rw [ei]
        have dt : decide (T (2 * i) < d 1) = true := decide_eq_true hv.1
        simp (disch := omega) only [Nat.zero_add, LT, BD_some, BD2_some, JN1, JN2, IX_nI, nI_add, pk_mul, pk_sub, leT, leF, ltT, ltF, eqT, eqF, M1_lit, bI_true, bI_false, BZ_n0, BZ_n1, BZ_b, ↓reduceIte, l_0, l_1, l_2, l_3, l_4, l_5, l_6, l_7, l_8, l_9, l_10, l_11, l_12, l_13, l_14, l_15, l_16, l_17, l_18, l_19, l_20, l_21, l_22, l_23, l_24, l_25, l_26, l_27, l_28, l_29, l_30, l_31, l_32, l_33, l_34, l_35, l_36, l_37, l_38, l_39, l_40, l_41, l_42, l_43, l_44, l_45, l_46, l_47, l_48, l_49, l_50, l_51, l_52, l_53, l_54, l_55, l_56, l_57, l_58, l_59, l_60, l_61, l_62, l_63, l_64, l_72, l_74, l_86, l_97, l_99, l_100, l_122, l_140, l_158, l_160, l_164, l_200, l_240, l_255, l_400, l_406, l_900, l_940, l_980, l_999, l_1120, l_1000, l_100000, m1, isM, dt]
      have mf : ∀ i, i < j → vld d T i = false → ∀ rec : Int32 → Option (Int32 × Rec), IX (nI (2 * i)) 940 (fun i34 => BD (m_isPlant s (gA s 1 i34)) (fun v36 => (if v36 = 0 then some ((-1 : Int32), s) else IX (nI (2 * i) + (1 : Int32)) 940 (fun i37 => (if (gA s 1 i37) ≤ (1 : Int32) then rec (nI (2 * i) + nI 2) else some ((-1 : Int32), s)))))) = some (M1, s) := by
        intro i hi hv rec
        have t1 := T2 (2 * i) (by omega)
        have t2 := T2 (2 * i + 1) (by omega)
        unfold vld at hv
        by_cases g1 : T (2 * i) < d 1
        · have g2 : ¬ T (2 * i + 1) ≤ 1 := by simpa [g1] using hv
          have dt : decide (T (2 * i) < d 1) = true := decide_eq_true g1
          simp (disch := omega) only [Nat.zero_add, LT, BD_some, BD2_some, JN1, JN2, IX_nI, nI_add, pk_mul, pk_sub, leT, leF, ltT, ltF, eqT, eqF, M1_lit, bI_true, bI_false, BZ_n0, BZ_n1, BZ_b, ↓reduceIte, l_0, l_1, l_2, l_3, l_4, l_5, l_6, l_7, l_8, l_9, l_10, l_11, l_12, l_13, l_14, l_15, l_16, l_17, l_18, l_19, l_20, l_21, l_22, l_23, l_24, l_25, l_26, l_27, l_28, l_29, l_30, l_31, l_32, l_33, l_34, l_35, l_36, l_37, l_38, l_39, l_40, l_41, l_42, l_43, l_44, l_45, l_46, l_47, l_48, l_49, l_50, l_51, l_52, l_53, l_54, l_55, l_56, l_57, l_58, l_59, l_60, l_61, l_62, l_63, l_64, l_72, l_74, l_86, l_97, l_99, l_100, l_122, l_140, l_158, l_160, l_164, l_200, l_240, l_255, l_400, l_406, l_900, l_940, l_980, l_999, l_1120, l_1000, l_100000, m1, isM, dt]
        · have dt : decide (T (2 * i) < d 1) = false := decide_eq_false g1
          simp (disch := omega) only [Nat.zero_add, LT, BD_some, BD2_some, JN1, JN2, IX_nI, nI_add, pk_mul, pk_sub, leT, leF, ltT, ltF, eqT, eqF, M1_lit, bI_true, bI_false, BZ_n0, BZ_n1, BZ_b, ↓reduceIte, l_0, l_1, l_2, l_3, l_4, l_5, l_6, l_7, l_8, l_9, l_10, l_11, l_12, l_13, l_14, l_15, l_16, l_17, l_18, l_19, l_20, l_21, l_22, l_23, l_24, l_25, l_26, l_27, l_28, l_29, l_30, l_31, l_32, l_33, l_34, l_35, l_36, l_37, l_38, l_39, l_40, l_41, l_42, l_43, l_44, l_45, l_46, l_47, l_48, l_49, l_50, l_51, l_52, l_53, l_54, l_55, l_56, l_57, l_58, l_59, l_60, l_61, l_62, l_63, l_64, l_72, l_74, l_86, l_97, l_99, l_100, l_122, l_140, l_158, l_160, l_164, l_200, l_240, l_255, l_400, l_406, l_900, l_940, l_980, l_999, l_1120, l_1000, l_100000, m1, isM, dt]
      rcases least_cases (fun i => !vld d T i) j with ⟨i0, hi0, v1, v2⟩ | hall
      · have v1' : vld d T i0 = false := by simpa using v1
        have v2' : ∀ i, i < i0 → vld d T i = true := fun i hi => by simpa using v2 i hi
        refine ⟨M1, cc, s, ?_, ?_, hc1⟩
        · refine LP2_run (fun i => nI (ftN d T i)) (fun i => nI (2 * i)) 0 i0 (by omega) rfl rfl (fun i _ hi rec => ?_) (fun rec => ?_)
          · exact (if_neg (nI_ge (by omega) (by omega))).trans (xs i (by omega) (v2' i (by omega)) rec)
          · rw [Nat.zero_add]
            exact (if_neg (nI_ge (by omega) (by omega))).trans (xf i0 hi0 v1' rec)
        · refine LP1_run (fun i => nI (2 * i)) 0 i0 (by omega) rfl (fun i _ hi rec => ?_) (fun rec => ?_)
          · exact (if_neg (nI_ge (by omega) (by omega))).trans (ms i (by omega) (v2' i (by omega)) rec)
          · rw [Nat.zero_add]
            exact (if_neg (nI_ge (by omega) (by omega))).trans (mf i0 hi0 v1' rec)
      · have hv : ∀ i, i < j → vld d T i = true := fun i hi => by simpa using hall i hi
        have hN1 : 0 < d 1 := by
          have := hv 0 (by omega)
          unfold vld at this
          simp only [Bool.and_eq_true, decide_eq_true_eq] at this
          omega
        have hF := ftN_lt hd T j
        have hseen : ∀ i, i < j → sees d (T (2 * i)) 0 < 32 ∧ T (2 * i) < d 1 := fun i hi => by
          have := hv i hi
          unfold vld at this
          simp only [Bool.and_eq_true, decide_eq_true_eq] at this
          exact ⟨sees_lt hd this.1, this.1⟩
        have mset : ∀ {R : Option (Int32 × Rec)} (K : Int32 → Option (Int32 × Rec)), K (nI (ftN d T j)) = R → LP2 (fun (rec13 : Int32 → Int32 → Option (Int32 × Rec)) (v11 : Int32) (v12 : Int32) => (if nI (2 * j) ≤ v12 then K v11 else IX (v12 + (1 : Int32)) 940 (fun i27 => (if (gA s 1 i27) = (1 : Int32) then IX v12 940 (fun i31 => BD (m_seesOf s (gA s 1 i31) (0 : Int32)) (fun v33 => rec13 (v11 &&& v33) (v12 + nI 2))) else IX v12 940 (fun i28 => BD (m_seesOf s (gA s 1 i28) (0 : Int32)) (fun v30 => rec13 (v11 &&& (v30 ^^^ (-1 : Int32))) (v12 + nI 2))))))) FU (nI (allp d)) (0 : Int32) = R := by
          intro R K hK
          refine LP2_run (fun i => nI (ftN d T i)) (fun i => nI (2 * i)) 0 j (by omega) rfl rfl (fun i _ hi rec => ?_) (fun rec => ?_)
          · obtain ⟨h6, h7⟩ := hseen i (by omega)
            have t1 := T2 (2 * i) (by omega)
            have t2 := T2 (2 * i + 1) (by omega)
            have hf := ftN_lt hd T i
            have hs := ftN_s d T i
            have ei : 2 * (i + 1) = 2 * i + 2 := by omega
            rw [ei]
            by_cases g : T (2 * i + 1) = 1
            · rw [if_pos g] at hs
              have ea : nI (ftN d T i) &&& nI (sees d (T (2 * i)) 0) = nI (ftN d T (i + 1)) := by rw [nI_and (by omega) (by omega), hs]
              simp (disch := omega) only [Nat.zero_add, LT, BD_some, BD2_some, JN1, JN2, IX_nI, nI_add, pk_mul, pk_sub, leT, leF, ltT, ltF, eqT, eqF, M1_lit, bI_true, bI_false, BZ_n0, BZ_n1, BZ_b, ↓reduceIte, l_0, l_1, l_2, l_3, l_4, l_5, l_6, l_7, l_8, l_9, l_10, l_11, l_12, l_13, l_14, l_15, l_16, l_17, l_18, l_19, l_20, l_21, l_22, l_23, l_24, l_25, l_26, l_27, l_28, l_29, l_30, l_31, l_32, l_33, l_34, l_35, l_36, l_37, l_38, l_39, l_40, l_41, l_42, l_43, l_44, l_45, l_46, l_47, l_48, l_49, l_50, l_51, l_52, l_53, l_54, l_55, l_56, l_57, l_58, l_59, l_60, l_61, l_62, l_63, l_64, l_72, l_74, l_86, l_97, l_99, l_100, l_122, l_140, l_158, l_160, l_164, l_200, l_240, l_255, l_400, l_406, l_900, l_940, l_980, l_999, l_1120, l_1000, l_100000, m1, g, m_seesOf_v tM hd, ea]
            · rw [if_neg g] at hs
              have ea : nI (ftN d T i) &&& (nI (sees d (T (2 * i)) 0) ^^^ M1) = nI (ftN d T (i + 1)) := by rw [nI_dif (by omega) (by omega), hs]
              simp (disch := omega) only [Nat.zero_add, LT, BD_some, BD2_some, JN1, JN2, IX_nI, nI_add, pk_mul, pk_sub, leT, leF, ltT, ltF, eqT, eqF, M1_lit, bI_true, bI_false, BZ_n0, BZ_n1, BZ_b, ↓reduceIte, l_0, l_1, l_2, l_3, l_4, l_5, l_6, l_7, l_8, l_9, l_10, l_11, l_12, l_13, l_14, l_15, l_16, l_17, l_18, l_19, l_20, l_21, l_22, l_23, l_24, l_25, l_26, l_27, l_28, l_29, l_30, l_31, l_32, l_33, l_34, l_35, l_36, l_37, l_38, l_39, l_40, l_41, l_42, l_43, l_44, l_45, l_46, l_47, l_48, l_49, l_50, l_51, l_52, l_53, l_54, l_55, l_56, l_57, l_58, l_59, l_60, l_61, l_62, l_63, l_64, l_72, l_74, l_86, l_97, l_99, l_100, l_122, l_140, l_158, l_160, l_164, l_200, l_240, l_255, l_400, l_406, l_900, l_940, l_980, l_999, l_1120, l_1000, l_100000, m1, m_seesOf_v tM hd, ea]
          · rw [Nat.zero_add]
            exact (if_pos (nI_le (Nat.le_refl _) (by omega))).trans hK
        have xset : ∀ {R : Option (Int32 × Rec)} (K : Int32 → Option (Int32 × Rec)), K (nI (ftN d T j)) = R → LP2 (fun (rec11 : Int32 → Int32 → Option (Int32 × Rec)) (v9 : Int32) (v10 : Int32) => (if nI (2 * j) ≤ v10 then K v9 else BD (x1_one cc v10) (fun v24 => BD (x1_isPlant cc b e v24) (fun v26 => (if v26 = 0 then some ((-1 : Int32), cc) else BD (x1_one cc (v10 + (1 : Int32))) (fun v28 => (if v28 ≤ (1 : Int32) then PG (gP cc 6) b (BD (x1_one cc v10) (fun v31 => BD (x4_sees z e v31) (fun v33 => BD (x1_one cc (v10 + (1 : Int32))) (fun v35 => (if v35 = (1 : Int32) then rec11 (v9 &&& v33) (v10 + (2 : Int32)) else rec11 (v9 &&& (v33 ^^^ (-1 : Int32))) (v10 + (2 : Int32))))))) else some ((-1 : Int32), cc)))))))) FU (nI (allp d)) (0 : Int32) = R := by
          intro R K hK
          refine LP2_run (fun i => nI (ftN d T i)) (fun i => nI (2 * i)) 0 j (by omega) rfl rfl (fun i _ hi rec => ?_) (fun rec => ?_)
          · exact (if_neg (nI_ge (by omega) (by omega))).trans (xs i (by omega) (hv i (by omega)) rec)
          · rw [Nat.zero_add]
            exact (if_pos (nI_le (Nat.le_refl _) (by omega))).trans hK
        have mok : ∀ {R : Option (Int32 × Rec)} (K : Option (Int32 × Rec)), K = R → LP1 (fun (rec10 : Int32 → Option (Int32 × Rec)) (v9 : Int32) => (if nI (2 * j) ≤ v9 then K else IX v9 940 (fun i34 => BD (m_isPlant s (gA s 1 i34)) (fun v36 => (if v36 = 0 then some ((-1 : Int32), s) else IX (v9 + (1 : Int32)) 940 (fun i37 => (if (gA s 1 i37) ≤ (1 : Int32) then rec10 (v9 + nI 2) else some ((-1 : Int32), s)))))))) FU (0 : Int32) = R := by
          intro R K hK
          refine LP1_run (fun i => nI (2 * i)) 0 j (by omega) rfl (fun i _ hi rec => ?_) (fun rec => ?_)
          · exact (if_neg (nI_ge (by omega) (by omega))).trans (ms i (by omega) (hv i (by omega)) rec)
          · rw [Nat.zero_add]
            exact (if_pos (nI_le (Nat.le_refl _) (by omega))).trans hK
        have al : (1 : Int32) <<< (gA s 14 0 &&& 31) - 1 = nI (allp d) := by rw [tM, RF_a (by omega)]; exact all_v _ hP
        rw [al]
        by_cases z0 : ftN d T j = 0
        · refine ⟨0, cc, s, xset _ ?_, mok _ (mset _ ?_), hc1⟩
          · rw [z0]; exact if_pos rfl
          · rw [z0]; exact if_pos rfl
        · have zn : ¬ nI (ftN d T j) = 0 := nI_ne0 (by omega) (by omega)
          refine ⟨nI (ftN d T j), _, _, xset _ ?_, mok _ (mset _ ?_), hMA (amN (ofN d (ftN d T j)) (d 1))⟩
          · rw [if_neg zn, LT, LT]
            refine LP2_run (fun p => nI p) (fun p => sI (sI cc 15 1) 14 (nI (amN (ofN d (ftN d T j)) p))) 1 (d 1 - 1) (by omega) rfl ?_ (fun p h1 h2 rec => ?_) (fun rec => ?_)
            · show _ = sI (sI cc 15 1) 14 (nI (amN (ofN d (ftN d T j)) 1)); rw [amN_1]; rfl
            · have hb1 := hbA (nI (amN (ofN d (ftN d T j)) p))
              have hl : amN (ofN d (ftN d T j)) p < d 1 := by
                have := amN_le (ofN d (ftN d T j)) p
                omega
              have o1 := x1_offBy_v hb1 h.he h.hz hd hF (p := p) (by omega)
              have o2 := x1_offBy_v hb1 h.he h.hz hd hF hl
              have l1 := ofN_le d (ftN d T j) p
              have l2 := ofN_le d (ftN d T j) (amN (ofN d (ftN d T j)) p)
              have hs := amN_s (ofN d (ftN d T j)) p
              show PG (gP (sI (sI cc 15 1) 14 (nI (amN (ofN d (ftN d T j)) p))) 6) b _ = rec (nI (p + 1)) (sI (sI cc 15 1) 14 (nI (amN (ofN d (ftN d T j)) (p + 1))))
              rw [PG_of _ hb1, e8, if_neg (nI_ge (by omega) (by omega)), o1, BD_some, gI_sIs, o2, BD_some, nI_1]
              by_cases g : ofN d (ftN d T j) p < ofN d (ftN d T j) (amN (ofN d (ftN d T j)) p)
              · rw [if_pos g] at hs
                rw [if_neg (nI_ge g (by omega)), LT, sI_sI, hs]
              · rw [if_neg g] at hs
                rw [if_pos (nI_le (by omega) (by omega)), hs]
            · rw [show 1 + (d 1 - 1) = d 1 by omega]
              show PG (gP (sI (sI cc 15 1) 14 (nI (amN (ofN d (ftN d T j)) (d 1)))) 6) b _ = _
              rw [PG_of _ (hbA _), e8, if_pos (nI_le (Nat.le_refl _) (by omega))]
          · rw [if_neg zn]
            have r3 : ∀ p, 1 ≤ p → (if p = 0 then s else sI s 25 (nI (amN (ofN d (ftN d T j)) p))) = sI s 25 (nI (amN (ofN d (ftN d T j)) p)) := fun p hp => if_neg (by omega)
            refine LP3_run (fun p => nI (if p = 0 then 100000 else ofN d (ftN d T j) (amN (ofN d (ftN d T j)) p))) (fun p => nI p) (fun p => if p = 0 then s else sI s 25 (nI (amN (ofN d (ftN d T j)) p))) 0 (d 1) (by omega) rfl rfl rfl (fun p _ hp rec => ?_) (fun rec => ?_)
            · have h3 : gA (if p = 0 then s else sI s 25 (nI (amN (ofN d (ftN d T j)) p))) 14 = RF d := by
                split
                · exact tM
                · exact tM
              have hs3 : ∀ v, sI (if p = 0 then s else sI s 25 (nI (amN (ofN d (ftN d T j)) p))) 25 v = sI s 25 v := fun v => by
                split
                · rfl
                · exact sI_sI _ _ _ _
              have l1 := ofN_le d (ftN d T j) p
              have hq : (if p = 0 then 100000 else ofN d (ftN d T j) (amN (ofN d (ftN d T j)) p)) ≤ 100000 := by
                split
                · omega
                · have := ofN_le d (ftN d T j) (amN (ofN d (ftN d T j)) p); omega
              have hcmp : (ofN d (ftN d T j) p < (if p = 0 then 100000 else ofN d (ftN d T j) (amN (ofN d (ftN d T j)) p)) → amN (ofN d (ftN d T j)) (p + 1) = p) ∧ (¬ ofN d (ftN d T j) p < (if p = 0 then 100000 else ofN d (ftN d T j) (amN (ofN d (ftN d T j)) p)) → p ≠ 0 ∧ amN (ofN d (ftN d T j)) (p + 1) = amN (ofN d (ftN d T j)) p) := by
                by_cases h0 : p = 0
                · subst h0
                  refine ⟨fun _ => amN_1 _, fun hh => absurd ?_ hh⟩
                  rw [if_pos rfl]; omega
                · rw [if_neg h0, amN_s]
                  exact ⟨fun hh => if_pos hh, fun hh => ⟨h0, if_neg hh⟩⟩
              rw [r3 (p + 1) (by omega), if_neg (show ¬ p + 1 = 0 by omega)]
              generalize hS : (if p = 0 then s else sI s 25 (nI (amN (ofN d (ftN d T j)) p))) = S at h3 hs3
              generalize hB : (if p = 0 then 100000 else ofN d (ftN d T j) (amN (ofN d (ftN d T j)) p)) = B at hq hcmp
              have h6 := sees_lt hd (p := p) (k := 0) (by omega)
              have hla : ftN d T j &&& sees d p 0 < 32 := Nat.lt_of_le_of_lt Nat.and_le_left hF
              show (if gA S 14 1 ≤ nI p then _ else _) = _
              rw [h3, RF_a (by omega), if_neg (nI_ge (by omega) (by omega)), show (0 : Int32) = nI 0 from rfl, m_seesOf_v h3 hd (by omega) (by omega), BD_some, nI_and (by omega) (by omega), m_bits_v (by omega), BD_some, m_bits_v (by omega), BD_some, pk_mul, m_size_v, BD_some, nI_1]
              by_cases g : ofN d (ftN d T j) p < B
              · rw [if_pos (nI_lt g (by omega)), LT, hs3, hcmp.1 g]
              · obtain ⟨g1, g2⟩ := hcmp.2 g
                rw [if_neg g1] at hS hB
                rw [if_neg (nI_nlt (by omega) (by omega)), g2, ← hS, hB]
            · rw [Nat.zero_add, if_neg (show ¬ d 1 = 0 by omega), if_neg (show ¬ d 1 = 0 by omega)]
              show (if gA (sI s 25 (nI (amN (ofN d (ftN d T j)) (d 1)))) 14 1 ≤ nI (d 1) then _ else _) = _
              rw [tA, RF_a (by omega), if_pos (nI_le (Nat.le_refl _) (by omega))]
    · have r1 : inn (nI k) (nI 2) (nI 12) = false := by
        rcases inn_cases (nI k) 2 12 (by omega) (by omega) with ⟨-, j, h1, h2, h3⟩ | hh
        · have := (nI_eq (by omega) (by omega)).mp h3
          omega
        · exact hh
      have r2 : inn (nI (k / 2)) (nI 1) (nI 6) = false := by
        rcases inn_cases (nI (k / 2)) 1 6 (by omega) (by omega) with ⟨-, j, h1, h2, h3⟩ | hh
        · have := (nI_eq (by omega) (by omega)).mp h3
          omega
        · exact hh
      rw [r1, if_pos (show bI false = (0 : Int32) from rfl), show inn (nI (k / 2)) 1 6 = inn (nI (k / 2)) (nI 1) (nI 6) from rfl, r2, if_pos (show bI false = (0 : Int32) from rfl)]
      exact hfail
end OPS
