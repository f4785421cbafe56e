/-! PURE: images -/
def sM (r : Rec) (j : Nat) (f : Nat → Int64) : Rec := (r.1, r.2.1, r.2.2.1, va_up r.2.2.2.1 j f, r.2.2.2.2)
theorem gL_sM (r : Rec) (j : Nat) (f : Nat → Int64) : gL (sM r j f) j = f := up_s _ _ _
theorem gL_sMn (r : Rec) {j k : Nat} (f : Nat → Int64) (h : k ≠ j) : gL (sM r j f) k = gL r k := up_n _ _ h
theorem sM_id (r : Rec) (j : Nat) : sM r j (gL r j) = r := by
  obtain ⟨a, b, c, f, g⟩ := r
  show (a, b, c, va_up f j (f j), g) = (a, b, c, f, g)
  have e : va_up f j (f j) = f := by
    funext q
    by_cases h : q = j
    · subst h; exact up_s _ _ _
    · exact up_n _ _ h
  rw [e]
theorem sL_sM (r : Rec) (j i : Nat) (v : Int64) (f : Nat → Int64) : sL (sM r j f) j i v = sM r j (va_up f i v) := by
  obtain ⟨a, b, c, q, g⟩ := r
  show (a, b, c, va_up (va_up q j f) j (va_up (va_up q j f j) i v), g) = (a, b, c, va_up q j (va_up f i v), g)
  rw [bx_uu, up_s]
section OPS
variable {x : Nat} {G : Wd} {m c : Rec} {b : Nat} {e z : Rec} {d : Nat → Nat} {ow : Nat → Nat} {n : Nat} {U : Nat → Nat → Nat}
/-- the model keeps all -/
theorem m_image_v (s : Rec) {k : Nat} (hk : k < 2) : LP2 (fun (rec6 : Int32 → Rec → Option (Int32 × Rec)) (v4 : Int32) (s5 : Rec) => (if (406 : Int32) ≤ v4 then LP2 (fun (rec9 : Int32 → Rec → Option (Int32 × Rec)) (v7 : Int32) (s8 : Rec) => (if (20 : Int32) ≤ v7 then IX (nI k) 2 (fun i10 => LT (sA s8 22 i10 (1 : Int32)) (fun s11 => some ((1 : Int32), s11))) else IX v7 20 (fun i12 => IX (((20 : Int32) * nI k) + v7) 40 (fun i13 => LT (sL s8 21 i13 (gL s8 19 i12)) (fun s14 => rec9 (v7 + (1 : Int32)) s14))))) FU (0 : Int32) s5 else IX v4 406 (fun i15 => IX (((406 : Int32) * nI k) + v4) 812 (fun i16 => LT (sA s5 16 i16 (gA s5 14 i15)) (fun s17 => rec6 (v4 + (1 : Int32)) s17))))) FU (0 : Int32) s = some (nI 1, sA (sM (sB s 16 (va_cpy (gA s 14) (gA s 16) 0 (406 * k) 406)) 21 (va_cpy (gL s 19) (gL s 21) 0 (20 * k) 20)) 22 k (nI 1)) := by
  refine LP2_run (fun i => nI i) (fun i => sB s 16 (va_cpy (gA s 14) (gA s 16) 0 (406 * k) i)) 0 406 (by omega) rfl (by rw [cpy_0, sB_id]) (fun i _ hi rec => ?_) (fun rec => ?_)
  · have e := cpy_s (gA s 14) (gA s 16) 0 (406 * k) i
    rw [Nat.zero_add] at e
    simp (disch := omega) only [Nat.zero_add, LT, BD_some, BD2_some, JN1, JN2, IX_nI, nI_add, pk_mul, pk_sub, leT, leF, ltT, ltF, eqT, eqF, M1_lit, bI_true, bI_false, BZ_n0, BZ_n1, BZ_b, ↓reduceIte, l_0, l_1, l_2, l_3, l_4, l_5, l_6, l_7, l_8, l_9, l_10, l_11, l_12, l_13, l_14, l_15, l_16, l_17, l_18, l_19, l_20, l_21, l_22, l_23, l_24, l_25, l_26, l_27, l_28, l_29, l_30, l_31, l_32, l_33, l_34, l_35, l_36, l_37, l_38, l_39, l_40, l_41, l_42, l_43, l_44, l_45, l_46, l_47, l_48, l_49, l_50, l_51, l_52, l_53, l_54, l_55, l_56, l_57, l_58, l_59, l_60, l_61, l_62, l_63, l_64, l_72, l_74, l_86, l_97, l_99, l_100, l_122, l_140, l_158, l_160, l_164, l_200, l_240, l_255, l_400, l_406, l_900, l_940, l_980, l_999, l_1120, l_1000, l_100000, gA_sBn, sA_sB, e]
  · refine (if_pos (show (406 : Int32) ≤ nI (0 + 406) by decide)).trans ?_
    rw [Nat.zero_add]
    have h19 : gL (sB s 16 (va_cpy (gA s 14) (gA s 16) 0 (406 * k) 406)) 19 = gL s 19 := rfl
    have h21 : gL (sB s 16 (va_cpy (gA s 14) (gA s 16) 0 (406 * k) 406)) 21 = gL s 21 := rfl
    generalize sB s 16 (va_cpy (gA s 14) (gA s 16) 0 (406 * k) 406) = S at h19 h21 ⊢
    rw [← h19, ← h21]
    refine LP2_run (fun i => nI i) (fun i => sM S 21 (va_cpy (gL S 19) (gL S 21) 0 (20 * k) i)) 0 20 (by omega) rfl (by rw [cpy_0, sM_id]) (fun i _ hi rec => ?_) (fun rec => ?_)
    · have e := cpy_s (gL S 19) (gL S 21) 0 (20 * k) i
      rw [Nat.zero_add] at e
      simp (disch := omega) only [Nat.zero_add, LT, BD_some, BD2_some, JN1, JN2, IX_nI, nI_add, pk_mul, pk_sub, leT, leF, ltT, ltF, eqT, eqF, M1_lit, bI_true, bI_false, BZ_n0, BZ_n1, BZ_b, ↓reduceIte, l_0, l_1, l_2, l_3, l_4, l_5, l_6, l_7, l_8, l_9, l_10, l_11, l_12, l_13, l_14, l_15, l_16, l_17, l_18, l_19, l_20, l_21, l_22, l_23, l_24, l_25, l_26, l_27, l_28, l_29, l_30, l_31, l_32, l_33, l_34, l_35, l_36, l_37, l_38, l_39, l_40, l_41, l_42, l_43, l_44, l_45, l_46, l_47, l_48, l_49, l_50, l_51, l_52, l_53, l_54, l_55, l_56, l_57, l_58, l_59, l_60, l_61, l_62, l_63, l_64, l_72, l_74, l_86, l_97, l_99, l_100, l_122, l_140, l_158, l_160, l_164, l_200, l_240, l_255, l_400, l_406, l_900, l_940, l_980, l_999, l_1120, l_1000, l_100000, gL_sMn, sL_sM, e]
    · simp (disch := omega) only [Nat.zero_add, LT, BD_some, BD2_some, JN1, JN2, IX_nI, nI_add, pk_mul, pk_sub, leT, leF, ltT, ltF, eqT, eqF, M1_lit, bI_true, bI_false, BZ_n0, BZ_n1, BZ_b, ↓reduceIte, l_0, l_1, l_2, l_3, l_4, l_5, l_6, l_7, l_8, l_9, l_10, l_11, l_12, l_13, l_14, l_15, l_16, l_17, l_18, l_19, l_20, l_21, l_22, l_23, l_24, l_25, l_26, l_27, l_28, l_29, l_30, l_31, l_32, l_33, l_34, l_35, l_36, l_37, l_38, l_39, l_40, l_41, l_42, l_43, l_44, l_45, l_46, l_47, l_48, l_49, l_50, l_51, l_52, l_53, l_54, l_55, l_56, l_57, l_58, l_59, l_60, l_61, l_62, l_63, l_64, l_72, l_74, l_86, l_97, l_99, l_100, l_122, l_140, l_158, l_160, l_164, l_200, l_240, l_255, l_400, l_406, l_900, l_940, l_980, l_999, l_1120, l_1000, l_100000, Nat.reduceAdd]
theorem m_restore_v (s : Rec) {k : Nat} (hk : k < 2) : LP2 (fun (rec7 : Int32 → Rec → Option (Int32 × Rec)) (v5 : Int32) (s6 : Rec) => (if (406 : Int32) ≤ v5 then LP2 (fun (rec10 : Int32 → Rec → Option (Int32 × Rec)) (v8 : Int32) (s9 : Rec) => (if (20 : Int32) ≤ v8 then LT (sI s9 24 (0 : Int32)) (fun s11 => some ((1 : Int32), s11)) else IX (((20 : Int32) * nI k) + v8) 40 (fun i12 => IX v8 20 (fun i13 => LT (sL s9 19 i13 (gL s9 21 i12)) (fun s14 => rec10 (v8 + (1 : Int32)) s14))))) FU (0 : Int32) s6 else IX (((406 : Int32) * nI k) + v5) 812 (fun i15 => IX v5 406 (fun i16 => LT (sA s6 14 i16 (gA s6 16 i15)) (fun s17 => rec7 (v5 + (1 : Int32)) s17))))) FU (0 : Int32) s = some (nI 1, sI (sM (sB s 14 (va_cpy (gA s 16) (gA s 14) (406 * k) 0 406)) 19 (va_cpy (gL s 21) (gL s 19) (20 * k) 0 20)) 24 (nI 0)) := by
  refine LP2_run (fun i => nI i) (fun i => sB s 14 (va_cpy (gA s 16) (gA s 14) (406 * k) 0 i)) 0 406 (by omega) rfl (by rw [cpy_0, sB_id]) (fun i _ hi rec => ?_) (fun rec => ?_)
  · have e := cpy_s (gA s 16) (gA s 14) (406 * k) 0 i
    rw [Nat.zero_add] at e
    simp (disch := omega) only [Nat.zero_add, LT, BD_some, BD2_some, JN1, JN2, IX_nI, nI_add, pk_mul, pk_sub, leT, leF, ltT, ltF, eqT, eqF, M1_lit, bI_true, bI_false, BZ_n0, BZ_n1, BZ_b, ↓reduceIte, l_0, l_1, l_2, l_3, l_4, l_5, l_6, l_7, l_8, l_9, l_10, l_11, l_12, l_13, l_14, l_15, l_16, l_17, l_18, l_19, l_20, l_21, l_22, l_23, l_24, l_25, l_26, l_27, l_28, l_29, l_30, l_31, l_32, l_33, l_34, l_35, l_36, l_37, l_38, l_39, l_40, l_41, l_42, l_43, l_44, l_45, l_46, l_47, l_48, l_49, l_50, l_51, l_52, l_53, l_54, l_55, l_56, l_57, l_58, l_59, l_60, l_61, l_62, l_63, l_64, l_72, l_74, l_86, l_97, l_99, l_100, l_122, l_140, l_158, l_160, l_164, l_200, l_240, l_255, l_400, l_406, l_900, l_940, l_980, l_999, l_1120, l_1000, l_100000, gA_sBn, sA_sB, e]
  · refine (if_pos (show (406 : Int32) ≤ nI (0 + 406) by decide)).trans ?_
    rw [Nat.zero_add]
    have h19 : gL (sB s 14 (va_cpy (gA s 16) (gA s 14) (406 * k) 0 406)) 19 = gL s 19 := rfl
    have h21 : gL (sB s 14 (va_cpy (gA s 16) (gA s 14) (406 * k) 0 406)) 21 = gL s 21 := rfl
    generalize sB s 14 (va_cpy (gA s 16) (gA s 14) (406 * k) 0 406) = S at h19 h21 ⊢
    rw [← h19, ← h21]
    refine LP2_run (fun i => nI i) (fun i => sM S 19 (va_cpy (gL S 21) (gL S 19) (20 * k) 0 i)) 0 20 (by omega) rfl (by rw [cpy_0, sM_id]) (fun i _ hi rec => ?_) (fun rec => ?_)
    · have e := cpy_s (gL S 21) (gL S 19) (20 * k) 0 i
      rw [Nat.zero_add] at e
      simp (disch := omega) only [Nat.zero_add, LT, BD_some, BD2_some, JN1, JN2, IX_nI, nI_add, pk_mul, pk_sub, leT, leF, ltT, ltF, eqT, eqF, M1_lit, bI_true, bI_false, BZ_n0, BZ_n1, BZ_b, ↓reduceIte, l_0, l_1, l_2, l_3, l_4, l_5, l_6, l_7, l_8, l_9, l_10, l_11, l_12, l_13, l_14, l_15, l_16, l_17, l_18, l_19, l_20, l_21, l_22, l_23, l_24, l_25, l_26, l_27, l_28, l_29, l_30, l_31, l_32, l_33, l_34, l_35, l_36, l_37, l_38, l_39, l_40, l_41, l_42, l_43, l_44, l_45, l_46, l_47, l_48, l_49, l_50, l_51, l_52, l_53, l_54, l_55, l_56, l_57, l_58, l_59, l_60, l_61, l_62, l_63, l_64, l_72, l_74, l_86, l_97, l_99, l_100, l_122, l_140, l_158, l_160, l_164, l_200, l_240, l_255, l_400, l_406, l_900, l_940, l_980, l_999, l_1120, l_1000, l_100000, gL_sMn, sL_sM, e]
    · simp (disch := omega) only [Nat.zero_add, LT, BD_some, BD2_some, JN1, JN2, IX_nI, nI_add, pk_mul, pk_sub, leT, leF, ltT, ltF, eqT, eqF, M1_lit, bI_true, bI_false, BZ_n0, BZ_n1, BZ_b, ↓reduceIte, l_0, l_1, l_2, l_3, l_4, l_5, l_6, l_7, l_8, l_9, l_10, l_11, l_12, l_13, l_14, l_15, l_16, l_17, l_18, l_19, l_20, l_21, l_22, l_23, l_24, l_25, l_26, l_27, l_28, l_29, l_30, l_31, l_32, l_33, l_34, l_35, l_36, l_37, l_38, l_39, l_40, l_41, l_42, l_43, l_44, l_45, l_46, l_47, l_48, l_49, l_50, l_51, l_52, l_53, l_54, l_55, l_56, l_57, l_58, l_59, l_60, l_61, l_62, l_63, l_64, l_72, l_74, l_86, l_97, l_99, l_100, l_122, l_140, l_158, l_160, l_164, l_200, l_240, l_255, l_400, l_406, l_900, l_940, l_980, l_999, l_1120, l_1000, l_100000, Nat.reduceAdd]
theorem RR.imaged (h : RR x G m c b e z d ow n U) {G5 : Wd} {c5 r sz y' m' : Rec} {q sa k : Nat} {ow5 : Nat → Nat} (hk : k < 2)
    (hx5 : G5.2 x = some (0, c5)) (hq : G5.2 q = some (17, r)) (hsa : G5.2 sa = some (3, sz)) (hr1 : gP r 1 = some sa) (hsm : ∀ a kd r, a ≠ x → G.2 a = some (kd, r) → G5.2 a = some (kd, r)) (hno : ∀ a, G5.1 ≤ a → G5.2 a = none)
    (oo : ∀ a kd r, G.2 a = some (kd, r) → ow5 a = ow a) (oq : ow5 q = 12 + k) (os : ow5 sa = 10 + k)
    (p6 : gP c5 6 = gP c 6) (p31 : gP c5 31 = gP c 31) (q12 : gQ c5 12 = gQ c 12) (i13 : gI c5 13 = gI c 13) (q32 : ∀ j, j < 2 → j ≠ k → gQ c5 32 j = gQ c 32 j) (q32k : gQ c5 32 k = some q)
    (hy : ZS y' d) (hM : MS c5 m') (l19 : gL m' 19 = gL m 19) (a14 : gA m' 14 = RF d) (a17 : gA m' 17 = gA m 17) (i24 : gI m' 24 = gI m 24)
    (a22k : gA m' 22 k = 1) (a22 : ∀ j, j < 2 → j ≠ k → gA m' 22 j = gA m 22 j) (a16k : ∀ j, j < 406 → gA m' 16 (406 * k + j) = RF d j) (a16 : ∀ i, i < 2 → i ≠ k → ∀ j, j < 406 → gA m' 16 (406 * i + j) = gA m 16 (406 * i + j))
    (l21k : ∀ i, i < 20 → gL m' 21 (20 * k + i) = gL m 19 i) (l21 : ∀ j, j < 2 → j ≠ k → ∀ i, i < 20 → gL m' 21 (20 * j + i) = gL m 21 (20 * j + i)) :
    RR x (wp (wp G5 sa 3 y') q 17 (sP (sP r 0 (gP c5 6)) 2 (gP c5 31))) m' c5 b e z d ow5 n U := by
  obtain ⟨⟨b1, b2, b3, b4, ⟨yt, b5⟩, b6⟩, ⟨s1, s2, s3, s4, s5⟩, -, ⟨u1, u2, u3, u4, u5, u6, u7, u8, u9⟩, hI, hS⟩ := h
  have hqx : q ≠ x := kd_ne hq hx5 (by omega)
  have hsx : sa ≠ x := kd_ne hsa hx5 (by omega)
  have hqs : q ≠ sa := kd_ne hq hsa (by omega)
  have L : ∀ {a kd : Nat} {r0 : Rec}, G.2 a = some (kd, r0) → kd ≠ 0 → kd ≠ 3 → kd ≠ 17 → (wp (wp G5 sa 3 y') q 17 (sP (sP r 0 (gP c5 6)) 2 (gP c5 31))).2 a = some (kd, r0) := by
    intro a kd r0 h1 h2 h3 h4
    have h5 := hsm a kd r0 (kd_ne h1 b1 h2) h1
    rw [wp_ne (kd_ne h5 hq h4), wp_ne (kd_ne h5 hsa h3)]; exact h5
  have L3 : ∀ {a : Nat} {r0 : Rec}, G.2 a = some (3, r0) → ow a ≠ 10 + k → (wp (wp G5 sa 3 y') q 17 (sP (sP r 0 (gP c5 6)) 2 (gP c5 31))).2 a = some (3, r0) := by
    intro a r0 h1 h2
    have h5 := hsm a 3 r0 (kd_ne h1 b1 (by omega)) h1
    have h6 := oo a 3 r0 h1
    rw [wp_ne (kd_ne h5 hq (by omega)), wp_ne (fun e => by rw [e, os] at h6; rw [e] at h2; omega)]; exact h5
  have L17 : ∀ {a : Nat} {r0 : Rec}, G.2 a = some (17, r0) → ow a ≠ 12 + k → (wp (wp G5 sa 3 y') q 17 (sP (sP r 0 (gP c5 6)) 2 (gP c5 31))).2 a = some (17, r0) := by
    intro a r0 h1 h2
    have h5 := hsm a 17 r0 (kd_ne h1 b1 (by omega)) h1
    have h6 := oo a 17 r0 h1
    rw [wp_ne (fun e => by rw [e, oq] at h6; rw [e] at h2; omega), wp_ne (kd_ne h5 hsa (by omega))]; exact h5
  have hF : FX G (wp (wp G5 sa 3 y') q 17 (sP (sP r 0 (gP c5 6)) 2 (gP c5 31))) := fun a kd r0 hk ha => L ha (by omega) (by omega) (by omega)
  refine ⟨⟨?_, p6.trans b2, L b3 (by omega) (by omega) (by omega), L3 b4 (by omega), ⟨yt, L3 b5 (by omega)⟩, ?_⟩, ⟨s1, by rw [l19]; exact s2, s3, s4, a14⟩, hM, ⟨u1, i13.trans u2, i24.trans u3, fun i hi j hj => by rw [a17]; exact u4 i hi j hj, u5, fun i hi => ?_, fun i hi a ha => ?_, by rw [oo _ _ _ b4]; exact u8, by rw [oo _ _ _ b5]; exact u9⟩, fun j hj => ?_, ?_⟩
  · rw [wp_ne hqx.symm, wp_ne hsx.symm]; exact hx5
  · intro a ha
    have h1 : G5.2 a = none := hno a ha
    rw [wp_ne (fun e => by rw [e, hq] at h1; cases h1), wp_ne (fun e => by rw [e, hsa] at h1; cases h1)]; exact h1
  · obtain ⟨a, zi, a1, a2, a3⟩ := u6 i hi
    have := (u7 i (by omega) a a1).2
    exact ⟨a, zi, by rw [q12]; exact a1, L3 a2 (by omega), a3⟩
  · rw [q12] at ha
    obtain ⟨⟨zi, a1⟩, a2⟩ := u7 i hi a ha
    exact ⟨⟨zi, L3 a1 (by omega)⟩, by rw [oo _ _ _ a1]; exact a2⟩
  · by_cases ej : j = k
    · subst ej
      refine Or.inr ⟨q, sP (sP r 0 (gP c5 6)) 2 (gP c5 31), b, e, sa, y', d, q32k, oq, a22k, wp_at _ _ _ _, p6.trans b2, L b3 (by omega) (by omega) (by omega), hr1, os, ?_, s1, NM_ext s2 s4.1.1 (fun _ _ => rfl) l21k, hy, s4, ?_, a16k⟩
      · rw [wp_ne hqs.symm]; exact wp_at _ _ _ _
      · have e31 : gP (sP (sP r 0 (gP c5 6)) 2 (gP c5 31)) 2 = gP c 31 := p31
        rw [e31]; exact SEN_ext hF (fun _ _ _ => rfl) hS
    · refine IM1_ext hj (hI j hj) (q32 j hj ej) (a22 j hj ej) (a16 j hj ej) (l21 j hj ej) hF (fun a r0 _ h1 h2 => ⟨L17 h2 (by omega), by rw [oo _ _ _ h2]; exact h1⟩) (fun a r0 h1 h2 => ⟨L3 h2 (by omega), by rw [oo _ _ _ h2]; exact h1⟩)
  · have hS2 := SEN_ext hF (fun _ _ _ => rfl) hS
    rw [← p31] at hS2; exact hS2
theorem image_core {G5 : Wd} {c5 r sz y' : Rec} {q sa k : Nat} (hk : k < 2) (hx5 : G5.2 x = some (0, c5)) (hq : G5.2 q = some (17, r)) (hsa : G5.2 sa = some (3, sz)) (hr1 : gP r 1 = some sa) (hz5 : G5.2 (x + 13) = some (3, z)) (hne : x + 13 ≠ sa) (q32k : gQ c5 32 k = some q) (hbe : x4_be sz z = some y') : RD G5 x 0 (fun s7 => IX (nI k) 2 (fun i8 => BD (gQ s7 32 i8) (fun b9 => RD G5 b9 17 (fun s10 => BD (gP (sP s10 0 (gP s7 6)) 1) (fun b13 => RD (wp G5 b9 17 (sP s10 0 (gP s7 6))) x 0 (fun s14 => RD (wp G5 b9 17 (sP s10 0 (gP s7 6))) b13 3 (fun s16 => RD (wp G5 b9 17 (sP s10 0 (gP s7 6))) (x + 13) 3 (fun s17 => NE (x + 13) b13 (BD (x4_be s16 s17) (fun s19 => RD (wp (wp G5 b9 17 (sP s10 0 (gP s7 6))) b13 3 s19) x 0 (fun s21 => RD (wp (wp G5 b9 17 (sP s10 0 (gP s7 6))) b13 3 s19) b9 17 (fun s22 => some ((1 : Int32), wp (wp (wp G5 b9 17 (sP s10 0 (gP s7 6))) b13 3 s19) b9 17 (sP s22 2 (gP s21 31))))))))))))))) = some ((1 : Int32), wp (wp G5 sa 3 y') q 17 (sP (sP r 0 (gP c5 6)) 2 (gP c5 31))) := by
  have hqx : q ≠ x := kd_ne hq hx5 (by omega)
  have hsx : sa ≠ x := kd_ne hsa hx5 (by omega)
  have hqs : q ≠ sa := kd_ne hq hsa (by omega)
  have hq13 : q ≠ x + 13 := kd_ne hq hz5 (by omega)
  have hr1' : gP (sP r 0 (gP c5 6)) 1 = some sa := hr1
  have g1 : (wp G5 q 17 (sP r 0 (gP c5 6))).2 x = some (0, c5) := by rw [wp_ne hqx.symm]; exact hx5
  have g2 : (wp G5 q 17 (sP r 0 (gP c5 6))).2 sa = some (3, sz) := by rw [wp_ne hqs.symm]; exact hsa
  have g3 : (wp G5 q 17 (sP r 0 (gP c5 6))).2 (x + 13) = some (3, z) := by rw [wp_ne hq13.symm]; exact hz5
  have g4 : (wp (wp G5 q 17 (sP r 0 (gP c5 6))) sa 3 y').2 x = some (0, c5) := by rw [wp_ne hsx.symm]; exact g1
  have g5 : (wp (wp G5 q 17 (sP r 0 (gP c5 6))) sa 3 y').2 q = some (17, sP r 0 (gP c5 6)) := by rw [wp_ne hqs]; exact wp_at _ _ _ _
  rw [RD_of _ hx5, IX_nI _ hk (by omega), q32k, BD_some, RD_of _ hq, hr1', BD_some, RD_of _ g1, RD_of _ g2, RD_of _ g3, NE_of _ hne, hbe, BD_some, RD_of _ g4, RD_of _ g5, wp_swap G5 17 3 _ _ hqs, wp_wp]
theorem op_image (h : RR x G m c b e z d ow n U) (w : Int32) : ANS x G (x1_image G x w) (m_image m w) := by
  unfold x1_image m_image
  rw [LT]
  have h1 := h.t0 0
  generalize sI m 0 0 = s at h1 ⊢
  simp only [x1_isIn_v, m_isIn_v, BD_some]
  rw [show inn w 0 1 = inn w (nI 0) (nI 1) from rfl]
  rcases inn_cases w 0 1 (by omega) (by omega) with ⟨hp, k, -, hk, rfl⟩ | hp
  · rw [hp, if_neg (show ¬ bI true = (0 : Int32) by decide), if_neg (show ¬ bI true = (0 : Int32) by decide), m_image_v s (by omega), RD_of _ h1.hx, IX_nI _ (by omega) (by omega)]
    simp only [JN1, LT]
    obtain ⟨⟨b1, b2, b3, b4, ⟨yt, b5⟩, b6⟩, ⟨s1, s2, s3, s4, s5⟩, hM, ⟨u1, u2, u3, u4, u5, u6, u7, u8, u9⟩, hI, hS⟩ := id h1
    have A22k : gA (sA (sM (sB s 16 (va_cpy (gA s 14) (gA s 16) 0 (406 * k) 406)) 21 (va_cpy (gL s 19) (gL s 21) 0 (20 * k) 20)) 22 k (nI 1)) 22 k = 1 := gA_sAs _ _ _ _
    have A22 : ∀ j, j < 2 → j ≠ k → gA (sA (sM (sB s 16 (va_cpy (gA s 14) (gA s 16) 0 (406 * k) 406)) 21 (va_cpy (gL s 19) (gL s 21) 0 (20 * k) 20)) 22 k (nI 1)) 22 j = gA s 22 j := fun j _ hjk => gA_sAi _ _ _ hjk
    have A16k : ∀ j, j < 406 → gA (sA (sM (sB s 16 (va_cpy (gA s 14) (gA s 16) 0 (406 * k) 406)) 21 (va_cpy (gL s 19) (gL s 21) 0 (20 * k) 20)) 22 k (nI 1)) 16 (406 * k + j) = RF d j := fun j hj => by
      show va_cpy (gA s 14) (gA s 16) 0 (406 * k) 406 (406 * k + j) = _
      rw [pk_cpy_in (by omega) (by omega), s5]; congr 1; omega
    have A16 : ∀ i, i < 2 → i ≠ k → ∀ j, j < 406 → gA (sA (sM (sB s 16 (va_cpy (gA s 14) (gA s 16) 0 (406 * k) 406)) 21 (va_cpy (gL s 19) (gL s 21) 0 (20 * k) 20)) 22 k (nI 1)) 16 (406 * i + j) = gA s 16 (406 * i + j) := fun i hi hik j hj => by
      show va_cpy (gA s 14) (gA s 16) 0 (406 * k) 406 (406 * i + j) = _
      rw [pk_cpy_out (by omega)]
    have L21k : ∀ i, i < 20 → gL (sA (sM (sB s 16 (va_cpy (gA s 14) (gA s 16) 0 (406 * k) 406)) 21 (va_cpy (gL s 19) (gL s 21) 0 (20 * k) 20)) 22 k (nI 1)) 21 (20 * k + i) = gL s 19 i := fun i hi => by
      show va_cpy (gL s 19) (gL s 21) 0 (20 * k) 20 (20 * k + i) = _
      rw [pk_cpy_in (by omega) (by omega)]; congr 1; omega
    have L21 : ∀ j, j < 2 → j ≠ k → ∀ i, i < 20 → gL (sA (sM (sB s 16 (va_cpy (gA s 14) (gA s 16) 0 (406 * k) 406)) 21 (va_cpy (gL s 19) (gL s 21) 0 (20 * k) 20)) 22 k (nI 1)) 21 (20 * j + i) = gL s 21 (20 * j + i) := fun j hj hjk i hi => by
      show va_cpy (gL s 19) (gL s 21) 0 (20 * k) 20 (20 * j + i) = _
      rw [pk_cpy_out (by omega)]
    have A14 : gA (sA (sM (sB s 16 (va_cpy (gA s 14) (gA s 16) 0 (406 * k) 406)) 21 (va_cpy (gL s 19) (gL s 21) 0 (20 * k) 20)) 22 k (nI 1)) 14 = RF d := s5
    have A17 : gA (sA (sM (sB s 16 (va_cpy (gA s 14) (gA s 16) 0 (406 * k) 406)) 21 (va_cpy (gL s 19) (gL s 21) 0 (20 * k) 20)) 22 k (nI 1)) 17 = gA s 17 := rfl
    have L19 : gL (sA (sM (sB s 16 (va_cpy (gA s 14) (gA s 16) 0 (406 * k) 406)) 21 (va_cpy (gL s 19) (gL s 21) 0 (20 * k) 20)) 22 k (nI 1)) 19 = gL s 19 := rfl
    have I24 : gI (sA (sM (sB s 16 (va_cpy (gA s 14) (gA s 16) 0 (406 * k) 406)) 21 (va_cpy (gL s 19) (gL s 21) 0 (20 * k) 20)) 22 k (nI 1)) 24 = gI s 24 := rfl
    have hM' : ∀ q, MS (sQ c 32 k q) (sA (sM (sB s 16 (va_cpy (gA s 14) (gA s 16) 0 (406 * k) 406)) 21 (va_cpy (gL s 19) (gL s 21) 0 (20 * k) 20)) 22 k (nI 1)) := fun q => hM
    have hM0 : MS c (sA (sM (sB s 16 (va_cpy (gA s 14) (gA s 16) 0 (406 * k) 406)) 21 (va_cpy (gL s 19) (gL s 21) 0 (20 * k) 20)) 22 k (nI 1)) := hM
    generalize sA (sM (sB s 16 (va_cpy (gA s 14) (gA s 16) 0 (406 * k) 406)) 21 (va_cpy (gL s 19) (gL s 21) 0 (20 * k) 20)) 22 k (nI 1) = m' at *
    rcases hI k (by omega) with ⟨i1, i2⟩ | ⟨q, r, hb, eh, sa, sz, dk, a1, a2, a3, a4, a5, a6, a7, a8, a9, -⟩
    · rw [if_pos i1]
      unfold x20_init
      simp only [LT]
      have ng : ∀ a kd r, G.2 a = some (kd, r) → a < G.1 := fun a kd r h1 => Nat.lt_of_not_le (fun hh => by rw [b6 a hh] at h1; cases h1)
      have hw1 : ∀ a, a < G.1 → (wf (wn (wn G 17 r0) 103 r0) (wn G 17 r0).1 3 zS 7).2 a = G.2 a := fun a ha => by
        show (wp (wn (wn G 17 r0) 103 r0) (G.1 + 1) 3 zS).2 a = _
        rw [wp_ne (by omega)]
        show (wp (wn G 17 r0) (G.1 + 1) 103 r0).2 a = _
        rw [wp_ne (by omega)]
        show (wp G G.1 17 r0).2 a = _
        rw [wp_ne (by omega)]
      have hwq : (wf (wn (wn G 17 r0) 103 r0) (wn G 17 r0).1 3 zS 7).2 G.1 = some (17, r0) := by
        show (wp (wn (wn G 17 r0) 103 r0) (G.1 + 1) 3 zS).2 G.1 = _
        rw [wp_ne (by omega)]
        show (wp (wn G 17 r0) (G.1 + 1) 103 r0).2 G.1 = _
        rw [wp_ne (by omega)]
        exact wp_at _ _ _ _
      have hws : (wf (wn (wn G 17 r0) 103 r0) (wn G 17 r0).1 3 zS 7).2 (G.1 + 1) = some (3, zS) := wp_at _ _ _ _
      have hwz : (wf (wn (wn G 17 r0) 103 r0) (wn G 17 r0).1 3 zS 7).1 = G.1 + 9 := rfl
      have hwn : ∀ a, G.1 + 9 ≤ a → (wf (wn (wn G 17 r0) 103 r0) (wn G 17 r0).1 3 zS 7).2 a = none := fun a ha => by
        show (wp (wn (wn G 17 r0) 103 r0) (G.1 + 1) 3 zS).2 a = _
        rw [wp_ne (by omega)]
        show (wp (wn G 17 r0) (G.1 + 1) 103 r0).2 a = _
        rw [wp_ne (by omega)]
        show (wp G G.1 17 r0).2 a = _
        rw [wp_ne (by omega)]; exact b6 a (by omega)
      have hw0 : (wn G 17 r0).1 = G.1 + 1 := rfl
      rw [RD_of _ hwq, BD_some, hw0]
      rw [hw0] at hw1 hwq hws hwz hwn
      generalize wf (wn (wn G 17 r0) 103 r0) (G.1 + 1) 3 zS 7 = W at hw1 hwq hws hwz hwn ⊢
      have lx := ng _ _ _ b1
      have l13 := ng _ _ _ b4
      rw [MG_of _ (by show G.1 + 1 ≤ W.1; omega)]
      have g1 : (wp W G.1 17 (sP r0 1 (some (G.1 + 1)))).2 x = some (0, c) := by rw [wp_ne (by omega), hw1 x lx]; exact b1
      rw [RD_of _ g1, RD_of _ (wp_at _ _ _ _)]
      have y0 := x4_be_v (y := zS) s3
      obtain ⟨y', be1, be2⟩ := y0
      have g2 : (wp (wp W G.1 17 (sP r0 1 (some (G.1 + 1)))) x 0 (sQ c 32 k (some G.1))).2 x = some (0, sQ c 32 k (some G.1)) := wp_at _ _ _ _
      have g3 : (wp (wp W G.1 17 (sP r0 1 (some (G.1 + 1)))) x 0 (sQ c 32 k (some G.1))).2 G.1 = some (17, sP r0 1 (some (G.1 + 1))) := by rw [wp_ne (by omega)]; exact wp_at _ _ _ _
      have g4 : (wp (wp W G.1 17 (sP r0 1 (some (G.1 + 1)))) x 0 (sQ c 32 k (some G.1))).2 (G.1 + 1) = some (3, zS) := by rw [wp_ne (by omega), wp_ne (by omega)]; exact hws
      have g5 : ∀ a kd r, a ≠ x → G.2 a = some (kd, r) → (wp (wp W G.1 17 (sP r0 1 (some (G.1 + 1)))) x 0 (sQ c 32 k (some G.1))).2 a = some (kd, r) := fun a kd r h1 h2 => by
        have := ng _ _ _ h2
        rw [wp_ne h1, wp_ne (by omega), hw1 a this]; exact h2
      have g6 : ∀ a, W.1 ≤ a → (wp (wp W G.1 17 (sP r0 1 (some (G.1 + 1)))) x 0 (sQ c 32 k (some G.1))).2 a = none := fun a ha => by
        rw [wp_ne (by omega), wp_ne (by omega)]; exact hwn a (by omega)
      refine ⟨_, _, _, image_core (by omega) g2 g3 g4 rfl (g5 _ _ _ (by omega) b4) (by omega) (gQ_sQs _ _ _ _) be1, rfl, ?_, ?_⟩
      · refine ⟨?_, ?_, fun a kd r hk h1 => ?_⟩
        · show G.1 ≤ W.1; omega
        · show W.1 ≤ G.1 + 90; omega
        · have h2 := g5 a kd r (kd_ne h1 b1 (by omega)) h1
          rw [wp_ne (kd_ne h2 g3 (by omega)), wp_ne (kd_ne h2 g4 (by omega))]; exact h2
      · have oo : ∀ a kd r, G.2 a = some (kd, r) → va_up (va_up ow G.1 (12 + k)) (G.1 + 1) (10 + k) a = ow a := fun a kd r h1 => by
          have := ng _ _ _ h1
          rw [up_n _ _ (by omega), up_n _ _ (by omega)]
        exact (h1.imaged (by omega) g2 g3 g4 rfl g5 g6 oo (by rw [up_n _ _ (by omega), up_s]) (up_s _ _ _) rfl rfl rfl rfl (fun j hj hjk => gQ_sQi _ _ _ hjk) (gQ_sQs _ _ _ _) be2 (hM' _) L19 A14 A17 I24 A22k A22 A16k A16 L21k L21).rel
    · rw [if_neg (by rw [a1]; simp)]
      obtain ⟨y', be1, be2⟩ := x4_be_v (y := sz) s3
      have hne : x + 13 ≠ sa := fun e => by rw [← e, u8] at a8; omega
      refine ⟨_, _, _, image_core (by omega) b1 a4 a9 a7 b4 hne a1 be1, rfl, ?_, ?_⟩
      · have g : (wp G sa 3 y').2 q = some (17, r) := by rw [wp_ne (kd_ne a4 a9 (by omega))]; exact a4
        exact ((KPn_wp a9 (by omega) (by omega)).trans (KPn_wp g (by omega) (by omega))).kp (by omega)
      · exact (h1.imaged (by omega) b1 a4 a9 a7 (fun a kd r _ h2 => h2) b6 (fun _ _ _ _ => rfl) a2 a8 rfl rfl rfl rfl (fun _ _ _ => rfl) a1 be2 hM0 L19 A14 A17 I24 A22k A22 A16k A16 L21k L21).rel
  · rw [hp]
    exact h1.ans (v := 0) rfl rfl
theorem op_restore (h : RR x G m c b e z d ow n U) (w : Int32) : ANS x G (x1_restore G x w) (m_restore m w) := by
  unfold x1_restore m_restore
  rw [LT]
  have h1 := h.t0 0
  generalize sI m 0 0 = s at h1 ⊢
  simp only [x1_isIn_v, m_isIn_v, BD_some]
  rw [show inn w 0 1 = inn w (nI 0) (nI 1) from rfl]
  rcases inn_cases w 0 1 (by omega) (by omega) with ⟨hp, k, -, hk, rfl⟩ | hp
  · rw [hp, if_neg (show ¬ bI true = (0 : Int32) by decide), if_neg (show ¬ bI true = (0 : Int32) by decide), m_restore_v s (by omega), RD_of _ h1.hx, IX_nI _ (by omega) (by omega), IX_nI _ (by omega) (by omega)]
    simp only [LT]
    obtain ⟨⟨b1, b2, b3, b4, ⟨yt, b5⟩, b6⟩, ⟨s1, s2, s3, s4, s5⟩, hM, ⟨u1, u2, u3, u4, u5, u6, u7, u8, u9⟩, hI, hS⟩ := id h1
    rcases hI k (by omega) with ⟨i1, i2⟩ | ⟨q, r, hb, eh, sa, sz, dk, a1, a2, a3, a4, a5, a6, a7, a8, a9, c1, c2, c3, c4, c5, c6⟩
    · rw [if_pos i1, i2]
      exact h1.ans (v := 0) rfl rfl
    · rw [if_neg (by rw [a1]; simp), a3, if_neg (show ¬ (1 : Int32) = 0 by decide), a1, BD_some, RD_of _ a4, a5, BD_some]
      have hqx : q ≠ x := kd_ne a4 b1 (by omega)
      have hsx : sa ≠ x := kd_ne a9 b1 (by omega)
      have hq13 : q ≠ x + 13 := kd_ne a4 b4 (by omega)
      have hs13 : sa ≠ x + 13 := fun e => by rw [e, u8] at a8; omega
      obtain ⟨z', be1, be2⟩ := x4_be_v (y := z) c3
      have g1 : (wp G x 0 (sP c 6 (some hb))).2 q = some (17, r) := by rw [wp_ne hqx]; exact a4
      have g2 : (wp G x 0 (sP c 6 (some hb))).2 (x + 13) = some (3, z) := by rw [wp_ne (by omega)]; exact b4
      have g3 : (wp G x 0 (sP c 6 (some hb))).2 sa = some (3, sz) := by rw [wp_ne hsx]; exact a9
      have g4 : (wp (wp G x 0 (sP c 6 (some hb))) (x + 13) 3 z').2 q = some (17, r) := by rw [wp_ne hq13]; exact g1
      have g5 : (wp (wp G x 0 (sP c 6 (some hb))) (x + 13) 3 z').2 x = some (0, sP c 6 (some hb)) := by rw [wp_ne (by omega)]; exact wp_at _ _ _ _
      rw [RD_of _ g1, a7, BD_some, RD_of _ g2, RD_of _ g3, NE_of _ hs13, be1, BD_some, RD_of _ g4, RD_of _ g5, wp_wp, wp_swap G 0 3 _ _ (show x ≠ x + 13 by omega), wp_wp]
      have ed : va_cpy (gA s 16) (gA s 14) (406 * k) 0 406 = RF (va_cpy dk d 0 0 406) := by
        rw [s5]; exact RF_cpy (fun j hj => by rw [Nat.zero_add]; exact c6 j hj)
      have dd : ∀ j, j < 406 → va_cpy dk d 0 0 406 j = dk j := fun j hj => by rw [pk_cpy_in (by omega) (by omega)]; congr 1; omega
      rw [ed]
      refine ⟨_, _, _, rfl, rfl, ?_, ?_⟩
      · have g6 : (wp G (x + 13) 3 z').2 x = some (0, c) := by rw [wp_ne (by omega)]; exact b1
        exact ((KPn_wp b4 (by omega) (by omega)).trans (KPn_wp g6 (by omega) (by omega))).kp (by omega)
      · have L : ∀ {a kd : Nat} {r0 : Rec}, G.2 a = some (kd, r0) → kd ≠ 0 → kd ≠ 3 → (wp (wp G (x + 13) 3 z') x 0 (sI (sP (sP c 6 (some hb)) 31 (gP r 2)) 13 0)).2 a = some (kd, r0) := by
          intro a kd r0 h1 h2 h3
          rw [wp_ne (kd_ne h1 b1 h2), wp_ne (kd_ne h1 b4 h3)]; exact h1
        have L3 : ∀ {a : Nat} {r0 : Rec}, G.2 a = some (3, r0) → ow a ≠ 0 → (wp (wp G (x + 13) 3 z') x 0 (sI (sP (sP c 6 (some hb)) 31 (gP r 2)) 13 0)).2 a = some (3, r0) := by
          intro a r0 h1 h2
          rw [wp_ne (kd_ne h1 b1 (by omega)), wp_ne (fun e => by rw [e, u8] at h2; exact h2 rfl)]; exact h1
        have hF : FX G (wp (wp G (x + 13) 3 z') x 0 (sI (sP (sP c 6 (some hb)) 31 (gP r 2)) 13 0)) := fun a kd r0 hk ha => L ha (by omega) (by omega)
        refine RR.rel (c := sI (sP (sP c 6 (some hb)) 31 (gP r 2)) 13 0) (b := hb) (e := eh) (z := z') (d := va_cpy dk d 0 0 406) (ow := ow) (n := 0) (U := U) ⟨⟨wp_at _ _ _ _, rfl, L a6 (by omega) (by omega), ?_, ⟨yt, L3 b5 (by omega)⟩, ?_⟩, ⟨HS_ext c1 (fun j hj => dd j (by omega)), ?_, ZS_ext be2 (fun j _ hj => dd j (by omega)), GD_ext c4 (fun j hj => dd j (by omega)), ?_⟩, hM, ⟨by omega, rfl, rfl, fun i hi => absurd hi (Nat.not_lt_zero i), fun i hi => absurd hi (Nat.not_lt_zero i), fun i hi => absurd hi (Nat.not_lt_zero i), fun i hi a ha => ?_, u8, u9⟩, fun j hj => ?_, SEN_ext hF (fun j _ hj => dd j hj) c5⟩
        · rw [wp_ne (by omega)]; exact wp_at _ _ _ _
        · intro a ha
          have h1 : G.2 a = none := b6 a ha
          rw [wp_ne (fun e => by rw [e, b1] at h1; cases h1), wp_ne (fun e => by rw [e, b4] at h1; cases h1)]; exact h1
        · refine NM_ext c2 c4.1.1 (fun j hj => dd j (by omega)) (fun i hi => ?_)
          show va_cpy (gL s 21) (gL s 19) (20 * k) 0 20 i = _
          rw [pk_cpy_in (by omega) (by omega)]; congr 1
        · show gA (sB s 14 (RF (va_cpy dk d 0 0 406))) 14 = _
          exact gA_sBs _ _ _
        · obtain ⟨⟨zi, a1⟩, a2⟩ := u7 i hi a ha
          exact ⟨⟨zi, L3 a1 (by omega)⟩, a2⟩
        · exact IM1_ext hj (hI j hj) rfl rfl (fun _ _ => rfl) (fun _ _ => rfl) hF (fun a r0 _ h1 h2 => ⟨L h2 (by omega) (by omega), h1⟩) (fun a r0 h1 h2 => ⟨L3 h2 (by omega), h1⟩)
  · rw [hp]
    exact h1.ans (v := 0) rfl rfl
end OPS
