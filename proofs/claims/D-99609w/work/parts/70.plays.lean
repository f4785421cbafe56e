/-! PURE: steps, as the model lays them -/
def FRS (m s : Rec) : Prop := s.1 = m.1 ∧ s.2.2 = m.2.2 ∧ ∀ k, k ≠ 27 → gA s k = gA m k
theorem FRS.refl (m : Rec) : FRS m m := ⟨rfl, rfl, fun _ _ => rfl⟩
theorem FRS.gL {c s : Rec} (h : FRS c s) (k : Nat) : gL s k = gL c k := congrArg (fun r : (Nat → Int64) × (Nat → Nat → Int64) × (Nat → Option Nat) × (Nat → Nat → Option Nat) => r.2.1 k) h.2.1
theorem FRS.gI {c s : Rec} (h : FRS c s) (k : Nat) : gI s k = gI c k := congrFun h.1 k
theorem FRS_sA {m s : Rec} (h : FRS m s) (i : Nat) (v : Int32) : FRS m (sA s 27 i v) := ⟨h.1, h.2.1, fun j hj => by rw [gA_sAn _ _ _ hj]; exact h.2.2 j hj⟩
def MTB (s : Rec) (f : Nat → Nat) : Prop := ∀ q, q < 160 → gA s 27 q = nI (f q)
theorem MTB_up {s : Rec} {f : Nat → Nat} (h : MTB s f) (q v : Nat) : MTB (sA s 27 q (nI v)) (va_up f q v) := by
  intro p hp
  by_cases e : p = q
  · subst e; rw [gA_sAs, up_s]
  · rw [gA_sAi _ _ _ e, up_n _ _ e]; exact h p hp
def mtK (d : Nat → Nat) (l w k : Nat) (t : Bool × (Nat → Nat)) : Bool × (Nat → Nat) := if (d (6 + l)).testBit k = true then rlx (32 * l + w) (32 * k + dif w (2 ^ k)) t else t
def mtL (d : Nat → Nat) (l w : Nat) (t : Bool × (Nat → Nat)) : Bool × (Nat → Nat) := itR (mtK d l w) t (d 0)
def mtl (d : Nat → Nat) (l : Nat) (t : Bool × (Nat → Nat)) : Bool × (Nat → Nat) := itR (fun j => mtL d l (j + 1)) t 31
def mwp (d : Nat → Nat) (t : Bool × (Nat → Nat)) : Bool × (Nat → Nat) := itR (mtl d) t (d 0)
def DmM (_ : Nat) : Bool := true
def ZM (q : Nat) : Prop := q < 160 ∧ q % 32 = 0
def EdM (d : Nat → Nat) (q r : Nat) : Prop := ∃ l, l < d 0 ∧ ∃ j, j < 31 ∧ ∃ k, k < d 0 ∧ (d (6 + l)).testBit k = true ∧ q = 32 * l + (j + 1) ∧ r = 32 * k + dif (j + 1) (2 ^ k)
section LAY
variable {m : Rec} {d : Nat → Nat}
theorem RL_mtK (hP : d 0 ≤ 5) {l j k : Nat} (hl : l < d 0) (hj : j < 31) (hk : k < d 0) (t : Bool × (Nat → Nat)) : RL DmM ZM (EdM d) (fun a b => (d (6 + l)).testBit k = true ∧ a = 32 * l + (j + 1) ∧ b = 32 * k + dif (j + 1) (2 ^ k)) t (mtK d l (j + 1) k t) := by
  unfold mtK
  have hd := dif_le (j + 1) (2 ^ k)
  by_cases a : (d (6 + l)).testBit k = true
  · rw [if_pos a]
    exact RL_mono (RL_rlx ⟨l, hl, j, hj, k, hk, a, rfl, rfl⟩ (by omega) (by omega) rfl rfl t) (fun _ _ h => h.2)
  · rw [if_neg a]
    exact RL_mono (RL_id t) (fun _ _ h => absurd h.1 a)
theorem RL_mtL (hP : d 0 ≤ 5) {l j : Nat} (hl : l < d 0) (hj : j < 31) (t : Bool × (Nat → Nat)) : ∀ n, n ≤ d 0 → RL DmM ZM (EdM d) (fun a b => ∃ k, k < n ∧ (d (6 + l)).testBit k = true ∧ a = 32 * l + (j + 1) ∧ b = 32 * k + dif (j + 1) (2 ^ k)) t (itR (mtK d l (j + 1)) t n) := RL_it (fun k hk t => RL_mtK hP hl hj hk t) t
theorem RL_mtl (hP : d 0 ≤ 5) {l : Nat} (hl : l < d 0) (t : Bool × (Nat → Nat)) : ∀ n, n ≤ 31 → RL DmM ZM (EdM d) (fun a b => ∃ j, j < n ∧ ∃ k, k < d 0 ∧ (d (6 + l)).testBit k = true ∧ a = 32 * l + (j + 1) ∧ b = 32 * k + dif (j + 1) (2 ^ k)) t (itR (fun j => mtL d l (j + 1)) t n) := RL_it (fun j hj t => RL_mtL hP hl hj t (d 0) (Nat.le_refl _)) t
theorem RL_mwp (hP : d 0 ≤ 5) (t : Bool × (Nat → Nat)) : ∀ n, n ≤ d 0 → RL DmM ZM (EdM d) (fun a b => ∃ l, l < n ∧ ∃ j, j < 31 ∧ ∃ k, k < d 0 ∧ (d (6 + l)).testBit k = true ∧ a = 32 * l + (j + 1) ∧ b = 32 * k + dif (j + 1) (2 ^ k)) t (itR (mtl d) t n) := RL_it (fun l hl t => RL_mtl hP hl t 31 (Nat.le_refl _)) t
theorem lmK (h14 : gA m 14 = RF d) (hd : DI d) (K : Int32 → Rec → Option Rec) {l j : Nat} (hl : l < d 0) (hj : j < 31) {t : Bool × (Nat → Nat)} (hR : RI DmM ZM (EdM d) t.2) {s : Rec} (hs : FRS m s) (hC : MTB s t.2) : ∃ s', FRS m s' ∧ MTB s' (mtL d l (j + 1) t).2 ∧ LP3 (fun (rec18 : Int32 → Int32 → Rec → Option Rec) (v15 : Int32) (v16 : Int32) (s17 : Rec) => (if (gA s17 14 0) ≤ v16 then K v15 s17 else IX ((6 : Int32) + nI l) 406 (fun i19 => BD (m_has (gA s17 14 i19) v16) (fun v21 => (if v21 = 0 then rec18 v15 (v16 + (1 : Int32)) s17 else BD (m_cellOf v16 (nI (j + 1) &&& (((1 : Int32) <<< (v16 &&& 31)) ^^^ (-1 : Int32)))) (fun v23 => IX v23 160 (fun i24 => BD (m_cellOf (nI l) (nI (j + 1))) (fun v26 => IX v26 160 (fun i27 => (if ((gA s17 27 i24) + (1 : Int32)) < (gA s17 27 i27) then BD (m_cellOf (nI l) (nI (j + 1))) (fun v29 => IX v29 160 (fun i30 => LT (sA s17 27 i30 ((gA s17 27 i24) + (1 : Int32))) (fun s31 => rec18 (1 : Int32) (v16 + (1 : Int32)) s31))) else rec18 v15 (v16 + (1 : Int32)) s17)))))))))) FU (bI t.1) (0 : Int32) s = K (bI (mtL d l (j + 1) t).1) s' := by
  have hP := hd.P
  have p5' := p5 hP
  have hsg := hd.sg (l := l) (by omega)
  have cell : ∀ a w : Nat, m_cellOf (nI a) (nI w) = some (nI (32 * a + w)) := fun a w => by
    unfold m_cellOf; rw [show (32 : Int32) = nI 32 from rfl, pk_mul, nI_add]
  refine LP3_inv (fun k a1 a2 a3 => a1 = bI (itR (mtK d l (j + 1)) t k).1 ∧ a2 = nI k ∧ FRS m a3 ∧ MTB a3 (itR (mtK d l (j + 1)) t k).2) (fun o => ∃ s', FRS m s' ∧ MTB s' (mtL d l (j + 1) t).2 ∧ o = K (bI (mtL d l (j + 1) t).1) s') (d 0) (by omega) ⟨rfl, rfl, hs, hC⟩ (fun k a1 a2 a3 rec hk hI => Or.inl ?_) (fun a1 a2 a3 rec hI => ?_)
  · obtain ⟨rfl, rfl, i3, i4⟩ := hI
    have h3 : gA a3 14 = RF d := (i3.2.2 14 (by omega)).trans h14
    have hR2 := ((RL_mtL hP hl hj t k (by omega)).1 hR).1
    have hs := itR_s (mtK d l (j + 1)) t k
    generalize itR (mtK d l (j + 1)) t k = u at i4 hR2 hs ⊢
    rw [hs]
    unfold mtK
    cases a : (d (6 + l)).testBit k
    · rw [if_neg (by simp)]
      refine ⟨_, _, a3, ⟨rfl, rfl, i3, i4⟩, ?_⟩
      simp (disch := omega) only [Nat.zero_add, LT, BD_some, BD2_some, JN1, JN2, IX_nI, nI_add, pk_mul, pk_sub, leT, leF, ltT, ltF, eqT, eqF, M1_lit, bI_true, bI_false, BZ_n0, BZ_n1, BZ_b, ↓reduceIte, l_0, l_1, l_2, l_3, l_4, l_5, l_6, l_7, l_8, l_9, l_10, l_11, l_12, l_13, l_14, l_15, l_16, l_17, l_18, l_19, l_20, l_21, l_22, l_23, l_24, l_25, l_26, l_27, l_28, l_29, l_30, l_31, l_32, l_33, l_34, l_35, l_36, l_37, l_38, l_39, l_40, l_41, l_42, l_43, l_44, l_45, l_46, l_47, l_48, l_49, l_50, l_51, l_52, l_53, l_54, l_55, l_56, l_57, l_58, l_59, l_60, l_61, l_62, l_63, l_64, l_72, l_74, l_86, l_97, l_99, l_100, l_122, l_140, l_158, l_160, l_164, l_200, l_240, l_255, l_400, l_406, l_900, l_940, l_980, l_999, l_1120, l_1000, l_100000, h3, RF_a, m_has_v, hs_nI, a]
    · rw [if_pos rfl]
      have hdl := dif_le (j + 1) (2 ^ k)
      have l1 := hR2.le (q := 32 * l + (j + 1)) (by omega) rfl
      have l2 := hR2.le (q := 32 * k + dif (j + 1) (2 ^ k)) (by omega) rfl
      have k2 : 2 ^ k < 32 := Nat.lt_of_lt_of_le (Nat.pow_lt_pow_right (by omega) hk) p5'
      have eo : nI (j + 1) &&& ((nI 1 <<< (nI k &&& nI 31)) ^^^ M1) = nI (dif (j + 1) (2 ^ k)) := by rw [shl1' k (by omega), nI_dif (by omega) (by omega)]
      have c1 := i4 (32 * l + (j + 1)) (by omega)
      have c2 := i4 (32 * k + dif (j + 1) (2 ^ k)) (by omega)
      unfold rlx
      by_cases g : u.2 (32 * k + dif (j + 1) (2 ^ k)) + 1 < u.2 (32 * l + (j + 1))
      · rw [if_pos g]
        refine ⟨_, _, sA a3 27 (32 * l + (j + 1)) (nI (u.2 (32 * k + dif (j + 1) (2 ^ k)) + 1)), ⟨rfl, rfl, FRS_sA i3 _ _, MTB_up i4 _ _⟩, ?_⟩
        simp (disch := omega) only [Nat.zero_add, LT, BD_some, BD2_some, JN1, JN2, IX_nI, nI_add, pk_mul, pk_sub, leT, leF, ltT, ltF, eqT, eqF, M1_lit, bI_true, bI_false, BZ_n0, BZ_n1, BZ_b, ↓reduceIte, l_0, l_1, l_2, l_3, l_4, l_5, l_6, l_7, l_8, l_9, l_10, l_11, l_12, l_13, l_14, l_15, l_16, l_17, l_18, l_19, l_20, l_21, l_22, l_23, l_24, l_25, l_26, l_27, l_28, l_29, l_30, l_31, l_32, l_33, l_34, l_35, l_36, l_37, l_38, l_39, l_40, l_41, l_42, l_43, l_44, l_45, l_46, l_47, l_48, l_49, l_50, l_51, l_52, l_53, l_54, l_55, l_56, l_57, l_58, l_59, l_60, l_61, l_62, l_63, l_64, l_72, l_74, l_86, l_97, l_99, l_100, l_122, l_140, l_158, l_160, l_164, l_200, l_240, l_255, l_400, l_406, l_900, l_940, l_980, l_999, l_1120, l_1000, l_100000, h3, RF_a, m_has_v, hs_nI, a, eo, cell, c1, c2]
      · rw [if_neg g]
        refine ⟨_, _, a3, ⟨rfl, rfl, i3, i4⟩, ?_⟩
        simp (disch := omega) only [Nat.zero_add, LT, BD_some, BD2_some, JN1, JN2, IX_nI, nI_add, pk_mul, pk_sub, leT, leF, ltT, ltF, eqT, eqF, M1_lit, bI_true, bI_false, BZ_n0, BZ_n1, BZ_b, ↓reduceIte, l_0, l_1, l_2, l_3, l_4, l_5, l_6, l_7, l_8, l_9, l_10, l_11, l_12, l_13, l_14, l_15, l_16, l_17, l_18, l_19, l_20, l_21, l_22, l_23, l_24, l_25, l_26, l_27, l_28, l_29, l_30, l_31, l_32, l_33, l_34, l_35, l_36, l_37, l_38, l_39, l_40, l_41, l_42, l_43, l_44, l_45, l_46, l_47, l_48, l_49, l_50, l_51, l_52, l_53, l_54, l_55, l_56, l_57, l_58, l_59, l_60, l_61, l_62, l_63, l_64, l_72, l_74, l_86, l_97, l_99, l_100, l_122, l_140, l_158, l_160, l_164, l_200, l_240, l_255, l_400, l_406, l_900, l_940, l_980, l_999, l_1120, l_1000, l_100000, h3, RF_a, m_has_v, hs_nI, a, eo, cell, c1, c2]
  · obtain ⟨rfl, rfl, i3, i4⟩ := hI
    have h3 : gA a3 14 = RF d := (i3.2.2 14 (by omega)).trans h14
    refine ⟨a3, i3, i4, ?_⟩
    simp (disch := omega) only [Nat.zero_add, LT, BD_some, BD2_some, JN1, JN2, IX_nI, nI_add, pk_mul, pk_sub, leT, leF, ltT, ltF, eqT, eqF, M1_lit, bI_true, bI_false, BZ_n0, BZ_n1, BZ_b, ↓reduceIte, l_0, l_1, l_2, l_3, l_4, l_5, l_6, l_7, l_8, l_9, l_10, l_11, l_12, l_13, l_14, l_15, l_16, l_17, l_18, l_19, l_20, l_21, l_22, l_23, l_24, l_25, l_26, l_27, l_28, l_29, l_30, l_31, l_32, l_33, l_34, l_35, l_36, l_37, l_38, l_39, l_40, l_41, l_42, l_43, l_44, l_45, l_46, l_47, l_48, l_49, l_50, l_51, l_52, l_53, l_54, l_55, l_56, l_57, l_58, l_59, l_60, l_61, l_62, l_63, l_64, l_72, l_74, l_86, l_97, l_99, l_100, l_122, l_140, l_158, l_160, l_164, l_200, l_240, l_255, l_400, l_406, l_900, l_940, l_980, l_999, l_1120, l_1000, l_100000, h3, RF_a]
    rfl
theorem lmL (h14 : gA m 14 = RF d) (hd : DI d) (K : Int32 → Rec → Option Rec) {l : Nat} (hl : l < d 0) {t : Bool × (Nat → Nat)} (hR : RI DmM ZM (EdM d) t.2) {s : Rec} (hs : FRS m s) (hC : MTB s t.2) : ∃ s', FRS m s' ∧ MTB s' (mtl d l t).2 ∧ LP3 (fun (rec14 : Int32 → Int32 → Rec → Option Rec) (v11 : Int32) (v12 : Int32) (s13 : Rec) => (if (32 : Int32) ≤ v12 then K v11 s13 else LP3 (fun (rec18 : Int32 → Int32 → Rec → Option Rec) (v15 : Int32) (v16 : Int32) (s17 : Rec) => (if (gA s17 14 0) ≤ v16 then rec14 v15 (v12 + (1 : Int32)) s17 else IX ((6 : Int32) + nI l) 406 (fun i19 => BD (m_has (gA s17 14 i19) v16) (fun v21 => (if v21 = 0 then rec18 v15 (v16 + (1 : Int32)) s17 else BD (m_cellOf v16 (v12 &&& (((1 : Int32) <<< (v16 &&& 31)) ^^^ (-1 : Int32)))) (fun v23 => IX v23 160 (fun i24 => BD (m_cellOf (nI l) v12) (fun v26 => IX v26 160 (fun i27 => (if ((gA s17 27 i24) + (1 : Int32)) < (gA s17 27 i27) then BD (m_cellOf (nI l) v12) (fun v29 => IX v29 160 (fun i30 => LT (sA s17 27 i30 ((gA s17 27 i24) + (1 : Int32))) (fun s31 => rec18 (1 : Int32) (v16 + (1 : Int32)) s31))) else rec18 v15 (v16 + (1 : Int32)) s17)))))))))) FU v11 (0 : Int32) s13)) FU (bI t.1) (1 : Int32) s = K (bI (mtl d l t).1) s' := by
  have hP := hd.P
  refine LP3_inv (fun j a1 a2 a3 => a1 = bI (itR (fun j => mtL d l (j + 1)) t j).1 ∧ a2 = nI (j + 1) ∧ FRS m a3 ∧ MTB a3 (itR (fun j => mtL d l (j + 1)) t j).2) (fun o => ∃ s', FRS m s' ∧ MTB s' (mtl d l t).2 ∧ o = K (bI (mtl d l t).1) s') 31 (by omega) ⟨rfl, rfl, hs, hC⟩ (fun j a1 a2 a3 rec hj hI => Or.inl ?_) (fun a1 a2 a3 rec hI => ?_)
  · obtain ⟨rfl, rfl, i3, i4⟩ := hI
    have hR2 := ((RL_mtl hP hl t j (by omega)).1 hR).1
    obtain ⟨s', j1, j2, j3⟩ := lmK h14 hd (fun v s => rec v (nI (j + 1) + (1 : Int32)) s) hl hj hR2 i3 i4
    refine ⟨_, _, s', ⟨rfl, rfl, j1, j2⟩, ?_⟩
    refine (if_neg (show ¬ (32 : Int32) ≤ nI (j + 1) from nI_ge (a := j + 1) (b := 32) (by omega) (by omega))).trans ?_
    refine j3.trans ?_
    rw [nI_1]; rfl
  · obtain ⟨rfl, rfl, i3, i4⟩ := hI
    refine ⟨a3, i3, i4, ?_⟩
    refine (if_pos (show (32 : Int32) ≤ nI (31 + 1) from nI_le (a := 32) (b := 31 + 1) (by omega) (by omega))).trans ?_
    rfl
theorem lmS (h14 : gA m 14 = RF d) (hd : DI d) (K : Int32 → Rec → Option Rec) {t : Bool × (Nat → Nat)} (hR : RI DmM ZM (EdM d) t.2) {s : Rec} (hs : FRS m s) (hC : MTB s t.2) : ∃ s', FRS m s' ∧ MTB s' (mwp d t).2 ∧ LP3 (fun (rec10 : Int32 → Int32 → Rec → Option Rec) (v7 : Int32) (v8 : Int32) (s9 : Rec) => (if (gA s9 14 0) ≤ v8 then K v7 s9 else LP3 (fun (rec14 : Int32 → Int32 → Rec → Option Rec) (v11 : Int32) (v12 : Int32) (s13 : Rec) => (if (32 : Int32) ≤ v12 then rec10 v11 (v8 + (1 : Int32)) s13 else LP3 (fun (rec18 : Int32 → Int32 → Rec → Option Rec) (v15 : Int32) (v16 : Int32) (s17 : Rec) => (if (gA s17 14 0) ≤ v16 then rec14 v15 (v12 + (1 : Int32)) s17 else IX ((6 : Int32) + v8) 406 (fun i19 => BD (m_has (gA s17 14 i19) v16) (fun v21 => (if v21 = 0 then rec18 v15 (v16 + (1 : Int32)) s17 else BD (m_cellOf v16 (v12 &&& (((1 : Int32) <<< (v16 &&& 31)) ^^^ (-1 : Int32)))) (fun v23 => IX v23 160 (fun i24 => BD (m_cellOf v8 v12) (fun v26 => IX v26 160 (fun i27 => (if ((gA s17 27 i24) + (1 : Int32)) < (gA s17 27 i27) then BD (m_cellOf v8 v12) (fun v29 => IX v29 160 (fun i30 => LT (sA s17 27 i30 ((gA s17 27 i24) + (1 : Int32))) (fun s31 => rec18 (1 : Int32) (v16 + (1 : Int32)) s31))) else rec18 v15 (v16 + (1 : Int32)) s17)))))))))) FU v11 (0 : Int32) s13)) FU v7 (1 : Int32) s9)) FU (bI t.1) (0 : Int32) s = K (bI (mwp d t).1) s' := by
  have hP := hd.P
  refine LP3_inv (fun l a1 a2 a3 => a1 = bI (itR (mtl d) t l).1 ∧ a2 = nI l ∧ FRS m a3 ∧ MTB a3 (itR (mtl d) t l).2) (fun o => ∃ s', FRS m s' ∧ MTB s' (mwp d t).2 ∧ o = K (bI (mwp d t).1) s') (d 0) (by omega) ⟨rfl, rfl, hs, hC⟩ (fun l a1 a2 a3 rec hl hI => Or.inl ?_) (fun a1 a2 a3 rec hI => ?_)
  · obtain ⟨rfl, rfl, i3, i4⟩ := hI
    have h3 : gA a3 14 = RF d := (i3.2.2 14 (by omega)).trans h14
    have hR2 := ((RL_mwp hP t l (by omega)).1 hR).1
    obtain ⟨s', j1, j2, j3⟩ := lmL h14 hd (fun v s => rec v (nI l + (1 : Int32)) s) hl hR2 i3 i4
    refine ⟨_, _, s', ⟨rfl, rfl, j1, j2⟩, ?_⟩
    rw [h3, RF_a (by omega), if_neg (nI_ge (by omega) (by omega))]
    refine j3.trans ?_
    rw [nI_1]; rfl
  · obtain ⟨rfl, rfl, i3, i4⟩ := hI
    have h3 : gA a3 14 = RF d := (i3.2.2 14 (by omega)).trans h14
    refine ⟨a3, i3, i4, ?_⟩
    rw [h3, RF_a (by omega), if_pos (nI_le (Nat.le_refl _) (by omega))]
    rfl
def FIXM (d : Nat → Nat) (f : Nat → Nat) : Prop := (∀ q, q < 160 → f q ≤ 100000) ∧ (∀ l, l < 5 → f (32 * l) = 0) ∧ (∀ l w k, l < d 0 → 1 ≤ w → w < 32 → k < d 0 → (d (6 + l)).testBit k = true → f (32 * l + w) ≤ f (32 * k + dif w (2 ^ k)) + 1) ∧ (∀ l w, l < 5 → 1 ≤ w → w < 32 → f (32 * l + w) < 100000 → l < d 0 ∧ ∃ k, k < d 0 ∧ (d (6 + l)).testBit k = true ∧ f (32 * l + w) = f (32 * k + dif w (2 ^ k)) + 1)
theorem RI_FIXM {f : Nat → Nat} (hR : RI DmM ZM (EdM d) f) (hE : ∀ q r, EdM d q r → f q ≤ f r + 1) : FIXM d f := by
  refine ⟨fun q hq => hR.le hq rfl, fun l hl => hR.2.2 _ ⟨by omega, by omega⟩, fun l w k hl h1 h2 hk hb => ?_, fun l w hl h1 h2 hlt => ?_⟩
  · obtain ⟨j, rfl⟩ : ∃ j, w = j + 1 := ⟨w - 1, by omega⟩
    exact hE _ _ ⟨l, hl, j, by omega, k, hk, hb, rfl, rfl⟩
  · rcases hR.2.1 _ (by omega) rfl hlt with ⟨-, a⟩ | ⟨r, hE2, hr⟩
    · omega
    · obtain ⟨l', a1, j, a2, k, a3, a4, a5, a6⟩ := id hE2
      have e1 : l = l' := by omega
      have e2 : w = j + 1 := by omega
      subst e1; subst e2
      have := hE _ _ hE2
      rw [a6] at this hr
      exact ⟨a1, k, a3, a4, by omega⟩
theorem m_laySteps_v (h14 : gA m 14 = RF d) (hd : DI d) : ∃ s' f', m_laySteps m = some s' ∧ FRS m s' ∧ MTB s' f' ∧ FIXM d f' := by
  have hP := hd.P
  unfold m_laySteps
  refine LP2_inv (fun q a1 a2 => a1 = nI q ∧ FRS m a2 ∧ ∀ p, p < q → gA a2 27 p = nI (if p % 32 = 0 then 0 else 100000)) (fun o => ∃ s' f', o = some s' ∧ FRS m s' ∧ MTB s' f' ∧ FIXM d f') 160 (by omega) ⟨rfl, FRS.refl m, fun p hp => absurd hp (Nat.not_lt_zero p)⟩ (fun q a1 a2 rec hq hI => Or.inl ?_) (fun a1 a2 rec hI => ?_)
  · obtain ⟨rfl, i3, i4⟩ := hI
    refine ⟨_, sA a2 27 q (nI (if q % 32 = 0 then 0 else 100000)), ⟨rfl, FRS_sA i3 _ _, fun p hp => ?_⟩, ?_⟩
    · by_cases e : p = q
      · subst e; rw [gA_sAs]
      · rw [gA_sAi _ _ _ e]; exact i4 p (by omega)
    · have er : nI q - nI q / nI 32 * nI 32 = nI (q % 32) := pk_rem (by omega) (by omega) (by omega)
      have hz : ¬ nI 32 = 0 := nI_ne0 (by omega) (by omega)
      rw [show (160 : Int32) = nI 160 from rfl, show (32 : Int32) = nI 32 from rfl, if_neg (nI_ge (by omega) (by omega)), NZ_of _ hz, er]
      by_cases g : q % 32 = 0
      · rw [if_pos (by rw [g]; rfl), if_pos g, IX_nI _ hq (by omega), LT, nI_1]; rfl
      · rw [if_neg (nI_ne0 (by omega) (by omega)), if_neg g, IX_nI _ hq (by omega), LT, nI_1]; rfl
  · obtain ⟨rfl, i3, i4⟩ := hI
    rw [if_pos (show (160 : Int32) ≤ nI 160 from nI_le (a := 160) (b := 160) (by omega) (by omega))]
    have hR0 : RI DmM ZM (EdM d) (fun p => if p % 32 = 0 then 0 else 100000) := by
      refine ⟨fun q _ _ => ?_, fun q hq _ hlt => Or.inl ⟨hq, ?_⟩, fun q hz => if_pos hz.2⟩
      · show (if q % 32 = 0 then 0 else 100000) = 100000 ∨ (if q % 32 = 0 then 0 else 100000) ≤ _
        split
        · exact Or.inr (Nat.zero_le _)
        · exact Or.inl rfl
      · have hlt' : (if q % 32 = 0 then 0 else 100000) < 100000 := hlt
        by_cases g : q % 32 = 0
        · exact g
        · rw [if_neg g] at hlt'; omega
    refine LP2_inv (fun i a1 a2 => ∃ fl f, a1 = bI fl ∧ FRS m a2 ∧ MTB a2 f ∧ RI DmM ZM (EdM d) f ∧ (fl = true → muF DmM f + i ≤ 25760) ∧ (fl = false → ∀ q r, EdM d q r → f q ≤ f r + 1)) (fun o => ∃ s' f', o = some s' ∧ FRS m s' ∧ MTB s' f' ∧ FIXM d f') 25761 (by omega) ⟨true, fun p => if p % 32 = 0 then 0 else 100000, rfl, i3, fun p hp => i4 p hp, hR0, fun _ => by have := muF_le DmM (fun p => if p % 32 = 0 then 0 else 100000); omega, fun h => by cases h⟩ (fun i a1 a2 rec hi hI => ?_) (fun a1 a2 rec hI => ?_)
    · obtain ⟨fl, f, rfl, i3, i4, i5, i6, i7⟩ := hI
      cases fl with
      | false => exact Or.inr ⟨a2, f, if_pos rfl, i3, i4, RI_FIXM i5 (i7 rfl)⟩
      | true =>
        refine Or.inl ?_
        obtain ⟨s', j1, j2, j3⟩ := lmS h14 hd (fun v s => rec v s) (t := (false, f)) i5 i3 i4
        have hRL : RL DmM ZM (EdM d) (EdM d) (false, f) (mwp d (false, f)) := RL_mwp hP (false, f) (d 0) (Nat.le_refl _)
        have e0 : bI (false, f).1 = (0 : Int32) := rfl
        rw [e0] at j3
        generalize mwp d (false, f) = W at hRL j2 j3
        obtain ⟨r1, r2, r3⟩ := hRL.1 i5
        refine ⟨_, s', ⟨W.1, W.2, rfl, j1, j2, r1, fun ht => ?_, fun hf => ?_⟩, (if_neg (show ¬ bI true = (0 : Int32) by decide)).trans j3⟩
        · have h1 := i6 rfl
          rcases r3 ht with h2 | h2
          · cases h2
          · have h3 : muF DmM W.2 < muF DmM f := h2
            omega
        · obtain ⟨-, h2, h3⟩ := hRL.2 hf
          have h2' : W.2 = f := h2
          rw [h2']
          exact h3
    · obtain ⟨fl, f, rfl, i3, i4, i5, i6, i7⟩ := hI
      cases fl with
      | false => exact ⟨a2, f, if_pos rfl, i3, i4, RI_FIXM i5 (i7 rfl)⟩
      | true => have := i6 rfl; omega
end LAY
