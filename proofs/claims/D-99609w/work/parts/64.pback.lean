/-! PURE: back, days drawn, odds, images -/
theorem KH.symm {a b : Nat → Nat} (h : KH a b) : KH b a := ⟨fun k hk => (h.1 k hk).symm, fun k hk => (h.2 k hk).symm⟩
theorem GD_ext {d d' : Nat → Nat} (g : GD d) (h : ∀ k, k < 164 → d' k = d k) : GD d' := by
  obtain ⟨⟨hH, s1, s2, s3, s4, s5, s6, s7⟩, hT⟩ := g
  have hN := hH.2.1
  refine ⟨⟨DH_ext hH (fun k hk => h k (by omega)), ?_, ?_, fun p hp => ?_, fun p hp => ?_, fun i hi => ?_, fun p i hp hi => ?_, fun p hp => ?_⟩, DT_ext hT (h 25 (by omega)) (fun k _ hk => h k hk) s2⟩
  · rw [h _ (by omega)]; exact s1
  · rw [h _ (by omega)]; exact s2
  · rw [h 1 (by omega)] at hp; rw [h _ (by omega), h 0 (by omega)]; exact s3 p hp
  · rw [h _ (by omega)]; exact s4 p hp
  · rw [h _ (by omega)]; exact s5 i hi
  · rw [h _ (by omega)]; exact s6 p i hp hi
  · rw [h _ (by omega)]; exact s7 p hp
section OPS
variable {x : Nat} {G : Wd} {m c : Rec} {b : Nat} {e z : Rec} {d : Nat → Nat} {ow : Nat → Nat} {n : Nat} {U : Nat → Nat → Nat}
/-- fewer can be come back to -/
theorem RR.cut (h : RR x G m c b e z d ow n U) {k : Nat} (hk : k ≤ n) : RR x (wp G x 0 (sI c 13 (nI k))) (sI m 24 (nI k)) (sI c 13 (nI k)) b e z d ow k U := by
  obtain ⟨⟨b1, b2, b3, b4, ⟨y, b5⟩, b6⟩, ⟨s1, s2, s3, s4, s5⟩, hM, ⟨u1, u2, u3, u4, u5, u6, u7, u8, u9⟩, hI, hS⟩ := h
  have hF : FX G (wp G x 0 (sI c 13 (nI k))) := FX_wp b1 (by omega) (by omega)
  refine ⟨⟨wp_at _ _ _ _, b2, wpk b1 b3 (by omega), wpk b1 b4 (by omega), ⟨y, wpk b1 b5 (by omega)⟩, none_wp b1 b6⟩, ⟨s1, s2, s3, s4, s5⟩, hM, ⟨by omega, rfl, rfl, fun i hi => u4 i (by omega), fun i hi => u5 i (by omega), fun i hi => ?_, fun i hi a ha => ?_, u8, u9⟩, fun j hj => ?_, SEN_ext hF (fun _ _ _ => rfl) hS⟩
  · obtain ⟨a, zi, a1, a2, a3⟩ := u6 i (by omega)
    exact ⟨a, zi, a1, wpk b1 a2 (by omega), a3⟩
  · obtain ⟨⟨zi, a1⟩, a2⟩ := u7 i hi a ha
    exact ⟨⟨zi, wpk b1 a1 (by omega)⟩, a2⟩
  · exact IM1_ext hj (hI j hj) rfl rfl (fun _ _ => rfl) (fun _ _ => rfl) hF (fun q r _ a1 a2 => ⟨wpk b1 a2 (by omega), a1⟩) (fun q r a1 a2 => ⟨wpk b1 a2 (by omega), a1⟩)
theorem m_undo_v (s : Rec) {k : Nat} (hk : k < 8) {f : Nat → Nat} (h17 : ∀ j, j < 140 → gA s 17 (140 * k + j) = RF f (24 + j)) (d : Nat → Nat) : LP2 (fun (rec5 : Int32 → Rec → Option (Int32 × Rec)) (v3 : Int32) (s4 : Rec) => (if (140 : Int32) ≤ v3 then some ((gI s4 24), s4) else IX (((140 : Int32) * (gI s4 24)) + v3) 1120 (fun i6 => IX ((24 : Int32) + v3) 406 (fun i7 => LT (sA s4 14 i7 (gA s4 17 i6)) (fun s8 => rec5 (v3 + (1 : Int32)) s8))))) FU (0 : Int32) (sB (sI s 24 (nI k)) 14 (RF d)) = some (nI k, sB (sI s 24 (nI k)) 14 (RF (mixD f d))) := by
  refine LP2_run (fun i => nI i) (fun i => sB (sI s 24 (nI k)) 14 (va_cpy (gA s 17) (RF d) (140 * k) 24 i)) 0 140 (by omega) rfl (by rw [cpy_0]) (fun i _ hi rec => ?_) (fun rec => ?_)
  · have e := cpy_s (gA s 17) (RF d) (140 * k) 24 i
    simp (disch := omega) only [Nat.zero_add, LT, BD_some, BD2_some, JN1, JN2, IX_nI, nI_add, pk_mul, pk_sub, leT, leF, ltT, ltF, eqT, eqF, M1_lit, bI_true, bI_false, BZ_n0, BZ_n1, BZ_b, ↓reduceIte, l_0, l_1, l_2, l_3, l_4, l_5, l_6, l_7, l_8, l_9, l_10, l_11, l_12, l_13, l_14, l_15, l_16, l_17, l_18, l_19, l_20, l_21, l_22, l_23, l_24, l_25, l_26, l_27, l_28, l_29, l_30, l_31, l_32, l_33, l_34, l_35, l_36, l_37, l_38, l_39, l_40, l_41, l_42, l_43, l_44, l_45, l_46, l_47, l_48, l_49, l_50, l_51, l_52, l_53, l_54, l_55, l_56, l_57, l_58, l_59, l_60, l_61, l_62, l_63, l_64, l_72, l_74, l_86, l_97, l_99, l_100, l_122, l_140, l_158, l_160, l_164, l_200, l_240, l_255, l_400, l_406, l_900, l_940, l_980, l_999, l_1120, l_1000, l_100000, gI_sB, gI_sIs, gA_sBn, gA_sI, sA_sB, e]
  · have e := RF_cpy (d := d) (e := f) (f := gA s 17) (sp := 140 * k) (dp := 24) (n := 140) h17
    simp (disch := omega) only [Nat.zero_add, LT, BD_some, BD2_some, JN1, JN2, IX_nI, nI_add, pk_mul, pk_sub, leT, leF, ltT, ltF, eqT, eqF, M1_lit, bI_true, bI_false, BZ_n0, BZ_n1, BZ_b, ↓reduceIte, l_0, l_1, l_2, l_3, l_4, l_5, l_6, l_7, l_8, l_9, l_10, l_11, l_12, l_13, l_14, l_15, l_16, l_17, l_18, l_19, l_20, l_21, l_22, l_23, l_24, l_25, l_26, l_27, l_28, l_29, l_30, l_31, l_32, l_33, l_34, l_35, l_36, l_37, l_38, l_39, l_40, l_41, l_42, l_43, l_44, l_45, l_46, l_47, l_48, l_49, l_50, l_51, l_52, l_53, l_54, l_55, l_56, l_57, l_58, l_59, l_60, l_61, l_62, l_63, l_64, l_72, l_74, l_86, l_97, l_99, l_100, l_122, l_140, l_158, l_160, l_164, l_200, l_240, l_255, l_400, l_406, l_900, l_940, l_980, l_999, l_1120, l_1000, l_100000, gI_sB, gI_sIs, e]
    rfl
theorem op_undo (h : RR x G m c b e z d ow n U) : ANS x G (x1_undo G x) (m_undo m) := by
  unfold x1_undo m_undo
  rw [LT]
  have h1 := h.t0 0
  generalize sI m 0 0 = s at h1 ⊢
  obtain ⟨⟨b1, b2, b3, b4, ⟨y, b5⟩, b6⟩, ⟨s1, s2, s3, s4, s5⟩, hM, ⟨u1, u2, u3, u4, u5, u6, u7, u8, u9⟩, hI, hS⟩ := id h1
  rw [RD_of _ b1, u2, u3]
  cases n with
  | zero => exact h1.ans (v := -1) rfl rfl
  | succ k =>
    have nz : ¬ nI (k + 1) = 0 := nI_ne0 (by omega) (by omega)
    rw [if_neg nz, if_neg nz]
    simp only [LT]
    rw [nI_pred, gI_sIs, IX_nI _ (by omega) (by omega)]
    obtain ⟨a, zi, a1, a2, a3⟩ := u6 k (by omega)
    have oa := (u7 k (by omega) a a1).2
    have hax : a ≠ x := kd_ne a2 b1 (by omega)
    have ha1 : gQ (sI c 13 (nI k)) 12 k = some a := a1
    have hc := h1.cut (k := k) (by omega)
    have hg : (wp G x 0 (sI c 13 (nI k))).2 a = some (3, zi) := by rw [wp_ne hax]; exact a2
    obtain ⟨z', q1, q2⟩ := x4_be_v (y := z) a3
    have hn : a ≠ x + 13 := fun e => by rw [e, u8] at oa; omega
    have hw : (wp (wp G x 0 (sI c 13 (nI k))) (x + 13) 3 z').2 x = some (0, sI c 13 (nI k)) := by rw [wp_ne (by omega)]; exact wp_at _ _ _ _
    rw [ha1, BD_some, RD_of _ hc.g3, RD_of _ hg, NE_of _ hn, q1, BD_some, RD_of _ hw, gI_sIs]
    have em : sI s 24 (nI k) = sB (sI s 24 (nI k)) 14 (RF d) := hc.em.symm
    have ev := m_undo_v s (k := k) (by omega) (f := U k) (u4 k (by omega)) d
    rw [← em] at ev
    refine ⟨_, _, _, rfl, ev, ?_, ?_⟩
    · exact ((KPn_wp b1 (by omega) (by omega)).trans (KPn_wp hc.g3 (by omega) (by omega))).kp (by omega)
    · rw [em] at hc
      have hkh : KH d (mixD (U k) d) := KH_mix _ _
      have := hc.live hkh (u5 k (by omega)) (ZS_mix q2)
      exact this.rel
theorem op_drawn (h : RR x G m c b e z d ow n U) (w sd : Int32) : ANS x G (x1_drawn G x w sd) (m_drawn m w sd) := by
  have hd := h.di
  have hD := hd.day
  unfold x1_drawn m_drawn
  simp only [LT, x1_isIn_v, m_isIn_v, BD_some, JN1]
  have h1 := h.t0 0
  generalize sI m 0 0 = s at h1 ⊢
  rw [show (60 : Int32) = nI 60 from rfl, show (1 : Int32) = nI 1 from rfl]
  rcases inn_cases w 1 60 (by omega) (by omega) with ⟨hp, k, hk1, hk, rfl⟩ | hp
  · rw [hp, if_neg (by decide), if_neg (by decide), RD_of _ h.hx, RD_of _ h.g3, h.hz.1, h1.h14, RF_a (by omega)]
    by_cases a : d 24 = 400
    · obtain ⟨z', q1, q2⟩ := x4_draws_v h.he h.hz h.gd sd (n := k) hk
      rw [a, if_pos (show (400 : Int32) ≤ nI 400 by decide), if_pos (show nI 400 = (400 : Int32) from rfl), RD_of _ h.hx, h.hb, BD_some, RD_of _ h.g3, RD_of _ h.g2, q1, BD2_some]
      rw [a, Nat.sub_self, Nat.min_zero] at q1 q2
      refine ⟨_, _, _, ?_, rfl, (KPn_wp h1.g3 (by omega) (by omega)).kp (by omega), (h1.now (KH.refl d) h.gd q2 h1.ms rfl rfl h1.h14 rfl rfl rfl rfl).rel⟩
      rw [a, Nat.sub_self, Nat.min_zero]; rfl
    · have na : ¬ nI (d 24) = 400 := fun e => a ((nI_eq (b := 400) (by omega) (by omega)).mp e)
      have nb : ¬ (400 : Int32) ≤ nI (d 24) := nI_ge (b := 400) (by omega) (by omega)
      rw [if_neg na, if_neg nb]
      obtain ⟨G1, c1, ow1, s1, k1, k2, k3, k4⟩ := keep_v h1
      obtain ⟨z', q1, q2⟩ := x4_draws_v k4.he k4.hz h.gd sd (n := k) hk
      obtain ⟨i1, i2, i3⟩ := ddN_ok h.gd sd (min k (400 - d 24)) (by omega)
      rw [k1, k2]
      simp only [BD_some]
      rw [MG_of _ k3.1, RD_of _ k4.hx, k4.hb, BD_some, RD_of _ k4.g3, RD_of _ k4.g2, q1, BD2_some, m_drawDays_v s1 h.gd sd hk, BD2_some]
      refine ⟨_, _, _, rfl, rfl, (k3.trans (KPn_wp k4.g3 (by omega) (by omega))).kp (by omega), ?_⟩
      clear i3 q1
      generalize ddN d sd (min k (400 - d 24)) = D at i1 i2 q2 ⊢
      obtain ⟨D1, D2⟩ := D
      exact (k4.now (m' := sB (sI s1 35 D2) 14 (RF D1)) i2 i1 q2 k4.ms rfl rfl (gA_sBs _ _ _) rfl rfl rfl rfl).rel
  · rw [hp]
    exact h1.ans (v := M1) rfl rfl
/-- somebody's act is proved -/
def c_cau (d : Nat → Nat) (p : Int32) (i : Nat) : Bool := decide (nI (d (38 + i)) = p) && prv d i
def cau (d : Nat → Nat) (p : Int32) : Bool := (List.range (d 25)).any (c_cau d p)
theorem x1_isCaught_v (hb : gP c 6 = some b) (he : HS e d) (hz : ZS z d) (hd : DI d) (p : Int32) : x1_isCaught c b e z p = some (bI (cau d p)) := by
  have hA := hd.acts
  have z8 := hz.2.1
  have z2 := hz.2.2.2.2.1
  have step : ∀ i, i < d 25 → c_cau d p i = false → ∀ rec : Int32 → Option Int32, (if (gI z 8) ≤ nI i then some (0 : Int32) else IX (nI i) 12 (fun i3 => (if (gA z 2 i3) = p then PG (gP c 6) b (BD (x4_isProved z e (nI i)) (fun v6 => (if v6 = 0 then rec (nI i + (1 : Int32)) else some (1 : Int32)))) else rec (nI i + (1 : Int32))))) = rec (nI (i + 1)) := by
    intro i hi hc rec
    by_cases a1 : nI (d (38 + i)) = p
    · have a3 : prv d i = false := by unfold c_cau at hc; simpa [a1] using hc
      simp (disch := omega) only [Nat.zero_add, LT, BD_some, BD2_some, JN1, JN2, IX_nI, nI_add, pk_mul, pk_sub, leT, leF, ltT, ltF, eqT, eqF, M1_lit, bI_true, bI_false, BZ_n0, BZ_n1, BZ_b, ↓reduceIte, l_0, l_1, l_2, l_3, l_4, l_5, l_6, l_7, l_8, l_9, l_10, l_11, l_12, l_13, l_14, l_15, l_16, l_17, l_18, l_19, l_20, l_21, l_22, l_23, l_24, l_25, l_26, l_27, l_28, l_29, l_30, l_31, l_32, l_33, l_34, l_35, l_36, l_37, l_38, l_39, l_40, l_41, l_42, l_43, l_44, l_45, l_46, l_47, l_48, l_49, l_50, l_51, l_52, l_53, l_54, l_55, l_56, l_57, l_58, l_59, l_60, l_61, l_62, l_63, l_64, l_72, l_74, l_86, l_97, l_99, l_100, l_122, l_140, l_158, l_160, l_164, l_200, l_240, l_255, l_400, l_406, l_900, l_940, l_980, l_999, l_1120, l_1000, l_100000, z8, z2, a1, PG_of _ hb, x4_isProved_v he hz hd, a3]
    · simp (disch := omega) only [Nat.zero_add, LT, BD_some, BD2_some, JN1, JN2, IX_nI, nI_add, pk_mul, pk_sub, leT, leF, ltT, ltF, eqT, eqF, M1_lit, bI_true, bI_false, BZ_n0, BZ_n1, BZ_b, ↓reduceIte, l_0, l_1, l_2, l_3, l_4, l_5, l_6, l_7, l_8, l_9, l_10, l_11, l_12, l_13, l_14, l_15, l_16, l_17, l_18, l_19, l_20, l_21, l_22, l_23, l_24, l_25, l_26, l_27, l_28, l_29, l_30, l_31, l_32, l_33, l_34, l_35, l_36, l_37, l_38, l_39, l_40, l_41, l_42, l_43, l_44, l_45, l_46, l_47, l_48, l_49, l_50, l_51, l_52, l_53, l_54, l_55, l_56, l_57, l_58, l_59, l_60, l_61, l_62, l_63, l_64, l_72, l_74, l_86, l_97, l_99, l_100, l_122, l_140, l_158, l_160, l_164, l_200, l_240, l_255, l_400, l_406, l_900, l_940, l_980, l_999, l_1120, l_1000, l_100000, z8, z2, a1]
  unfold x1_isCaught cau
  rcases least_cases (c_cau d p) (d 25) with ⟨k, hk, k1, k2⟩ | hn
  · have ea : (List.range (d 25)).any (c_cau d p) = true := List.any_eq_true.mpr ⟨k, List.mem_range.mpr hk, k1⟩
    rw [ea]
    refine LP1_run (fun i => nI i) 0 k (by omega) rfl (fun i _ hi rec => step i (by omega) (k2 i (by omega)) rec) (fun rec => ?_)
    unfold c_cau at k1
    simp only [Bool.and_eq_true, decide_eq_true_eq] at k1
    obtain ⟨a1, a3⟩ := k1
    simp (disch := omega) only [Nat.zero_add, LT, BD_some, BD2_some, JN1, JN2, IX_nI, nI_add, pk_mul, pk_sub, leT, leF, ltT, ltF, eqT, eqF, M1_lit, bI_true, bI_false, BZ_n0, BZ_n1, BZ_b, ↓reduceIte, l_0, l_1, l_2, l_3, l_4, l_5, l_6, l_7, l_8, l_9, l_10, l_11, l_12, l_13, l_14, l_15, l_16, l_17, l_18, l_19, l_20, l_21, l_22, l_23, l_24, l_25, l_26, l_27, l_28, l_29, l_30, l_31, l_32, l_33, l_34, l_35, l_36, l_37, l_38, l_39, l_40, l_41, l_42, l_43, l_44, l_45, l_46, l_47, l_48, l_49, l_50, l_51, l_52, l_53, l_54, l_55, l_56, l_57, l_58, l_59, l_60, l_61, l_62, l_63, l_64, l_72, l_74, l_86, l_97, l_99, l_100, l_122, l_140, l_158, l_160, l_164, l_200, l_240, l_255, l_400, l_406, l_900, l_940, l_980, l_999, l_1120, l_1000, l_100000, z8, z2, a1, PG_of _ hb, x4_isProved_v he hz hd, a3]
  · have ea : (List.range (d 25)).any (c_cau d p) = false := by
      rw [List.any_eq_false]
      intro i hi; rw [hn i (List.mem_range.mp hi)]; simp
    rw [ea]
    refine LP1_run (fun i => nI i) 0 (d 25) (by omega) rfl (fun i _ hi rec => step i (by omega) (hn i (by omega)) rec) (fun rec => ?_)
    simp (disch := omega) only [Nat.zero_add, LT, BD_some, BD2_some, JN1, JN2, IX_nI, nI_add, pk_mul, pk_sub, leT, leF, ltT, ltF, eqT, eqF, M1_lit, bI_true, bI_false, BZ_n0, BZ_n1, BZ_b, ↓reduceIte, l_0, l_1, l_2, l_3, l_4, l_5, l_6, l_7, l_8, l_9, l_10, l_11, l_12, l_13, l_14, l_15, l_16, l_17, l_18, l_19, l_20, l_21, l_22, l_23, l_24, l_25, l_26, l_27, l_28, l_29, l_30, l_31, l_32, l_33, l_34, l_35, l_36, l_37, l_38, l_39, l_40, l_41, l_42, l_43, l_44, l_45, l_46, l_47, l_48, l_49, l_50, l_51, l_52, l_53, l_54, l_55, l_56, l_57, l_58, l_59, l_60, l_61, l_62, l_63, l_64, l_72, l_74, l_86, l_97, l_99, l_100, l_122, l_140, l_158, l_160, l_164, l_200, l_240, l_255, l_400, l_406, l_900, l_940, l_980, l_999, l_1120, l_1000, l_100000, z8]
theorem m_isProvedOf_v {s : Rec} (h : gA s 14 = RF d) (hd : DI d) (p : Int32) : m_isProvedOf s p = some (bI (cau d p)) := by
  have hA := hd.acts
  have step : ∀ i, i < d 25 → c_cau d p i = false → ∀ rec : Int32 → Option Int32, (if (gA s 14 25) ≤ nI i then some (0 : Int32) else IX ((38 : Int32) + nI i) 406 (fun i3 => (if (gA s 14 i3) = p then BD (m_isProved s (nI i)) (fun v5 => (if v5 = 0 then rec (nI i + (1 : Int32)) else some (1 : Int32))) else rec (nI i + (1 : Int32))))) = rec (nI (i + 1)) := by
    intro i hi hc rec
    by_cases a1 : nI (d (38 + i)) = p
    · have a3 : prv d i = false := by unfold c_cau at hc; simpa [a1] using hc
      simp (disch := omega) only [Nat.zero_add, LT, BD_some, BD2_some, JN1, JN2, IX_nI, nI_add, pk_mul, pk_sub, leT, leF, ltT, ltF, eqT, eqF, M1_lit, bI_true, bI_false, BZ_n0, BZ_n1, BZ_b, ↓reduceIte, l_0, l_1, l_2, l_3, l_4, l_5, l_6, l_7, l_8, l_9, l_10, l_11, l_12, l_13, l_14, l_15, l_16, l_17, l_18, l_19, l_20, l_21, l_22, l_23, l_24, l_25, l_26, l_27, l_28, l_29, l_30, l_31, l_32, l_33, l_34, l_35, l_36, l_37, l_38, l_39, l_40, l_41, l_42, l_43, l_44, l_45, l_46, l_47, l_48, l_49, l_50, l_51, l_52, l_53, l_54, l_55, l_56, l_57, l_58, l_59, l_60, l_61, l_62, l_63, l_64, l_72, l_74, l_86, l_97, l_99, l_100, l_122, l_140, l_158, l_160, l_164, l_200, l_240, l_255, l_400, l_406, l_900, l_940, l_980, l_999, l_1120, l_1000, l_100000, h, RF_a, a1, m_isProved_v h hd, a3]
    · simp (disch := omega) only [Nat.zero_add, LT, BD_some, BD2_some, JN1, JN2, IX_nI, nI_add, pk_mul, pk_sub, leT, leF, ltT, ltF, eqT, eqF, M1_lit, bI_true, bI_false, BZ_n0, BZ_n1, BZ_b, ↓reduceIte, l_0, l_1, l_2, l_3, l_4, l_5, l_6, l_7, l_8, l_9, l_10, l_11, l_12, l_13, l_14, l_15, l_16, l_17, l_18, l_19, l_20, l_21, l_22, l_23, l_24, l_25, l_26, l_27, l_28, l_29, l_30, l_31, l_32, l_33, l_34, l_35, l_36, l_37, l_38, l_39, l_40, l_41, l_42, l_43, l_44, l_45, l_46, l_47, l_48, l_49, l_50, l_51, l_52, l_53, l_54, l_55, l_56, l_57, l_58, l_59, l_60, l_61, l_62, l_63, l_64, l_72, l_74, l_86, l_97, l_99, l_100, l_122, l_140, l_158, l_160, l_164, l_200, l_240, l_255, l_400, l_406, l_900, l_940, l_980, l_999, l_1120, l_1000, l_100000, h, RF_a, a1]
  unfold m_isProvedOf cau
  rcases least_cases (c_cau d p) (d 25) with ⟨k, hk, k1, k2⟩ | hn
  · have ea : (List.range (d 25)).any (c_cau d p) = true := List.any_eq_true.mpr ⟨k, List.mem_range.mpr hk, k1⟩
    rw [ea]
    refine LP1_run (fun i => nI i) 0 k (by omega) rfl (fun i _ hi rec => step i (by omega) (k2 i (by omega)) rec) (fun rec => ?_)
    unfold c_cau at k1
    simp only [Bool.and_eq_true, decide_eq_true_eq] at k1
    obtain ⟨a1, a3⟩ := k1
    simp (disch := omega) only [Nat.zero_add, LT, BD_some, BD2_some, JN1, JN2, IX_nI, nI_add, pk_mul, pk_sub, leT, leF, ltT, ltF, eqT, eqF, M1_lit, bI_true, bI_false, BZ_n0, BZ_n1, BZ_b, ↓reduceIte, l_0, l_1, l_2, l_3, l_4, l_5, l_6, l_7, l_8, l_9, l_10, l_11, l_12, l_13, l_14, l_15, l_16, l_17, l_18, l_19, l_20, l_21, l_22, l_23, l_24, l_25, l_26, l_27, l_28, l_29, l_30, l_31, l_32, l_33, l_34, l_35, l_36, l_37, l_38, l_39, l_40, l_41, l_42, l_43, l_44, l_45, l_46, l_47, l_48, l_49, l_50, l_51, l_52, l_53, l_54, l_55, l_56, l_57, l_58, l_59, l_60, l_61, l_62, l_63, l_64, l_72, l_74, l_86, l_97, l_99, l_100, l_122, l_140, l_158, l_160, l_164, l_200, l_240, l_255, l_400, l_406, l_900, l_940, l_980, l_999, l_1120, l_1000, l_100000, h, RF_a, a1, m_isProved_v h hd, a3]
  · have ea : (List.range (d 25)).any (c_cau d p) = false := by
      rw [List.any_eq_false]
      intro i hi; rw [hn i (List.mem_range.mp hi)]; simp
    rw [ea]
    refine LP1_run (fun i => nI i) 0 (d 25) (by omega) rfl (fun i _ hi rec => step i (by omega) (hn i (by omega)) rec) (fun rec => ?_)
    simp (disch := omega) only [Nat.zero_add, LT, BD_some, BD2_some, JN1, JN2, IX_nI, nI_add, pk_mul, pk_sub, leT, leF, ltT, ltF, eqT, eqF, M1_lit, bI_true, bI_false, BZ_n0, BZ_n1, BZ_b, ↓reduceIte, l_0, l_1, l_2, l_3, l_4, l_5, l_6, l_7, l_8, l_9, l_10, l_11, l_12, l_13, l_14, l_15, l_16, l_17, l_18, l_19, l_20, l_21, l_22, l_23, l_24, l_25, l_26, l_27, l_28, l_29, l_30, l_31, l_32, l_33, l_34, l_35, l_36, l_37, l_38, l_39, l_40, l_41, l_42, l_43, l_44, l_45, l_46, l_47, l_48, l_49, l_50, l_51, l_52, l_53, l_54, l_55, l_56, l_57, l_58, l_59, l_60, l_61, l_62, l_63, l_64, l_72, l_74, l_86, l_97, l_99, l_100, l_122, l_140, l_158, l_160, l_164, l_200, l_240, l_255, l_400, l_406, l_900, l_940, l_980, l_999, l_1120, l_1000, l_100000, h, RF_a]
/-- in how many of the first i draws somebody is caught -/
noncomputable def odC (d : Nat → Nat) (p sd : Int32) (i : Nat) : Bool := cau (ddN d (sd + nI i) (min 20 (400 - d 24))).1 p
theorem op_odds (h : RR x G m c b e z d ow n U) {y : Rec} (p w sd : Int32) : ∃ v y' m', x1_odds c b e z y p w sd = some (v, y') ∧ m_odds m p w sd = some (v, m') ∧ RR x G m' c b e z d ow n U := by
  have hd := h.di
  have hQ := hd.Q
  have hD := hd.day
  unfold x1_odds m_odds
  rw [LT]
  have h1 := h.t0 0
  generalize sI m 0 0 = s at h1 ⊢
  rw [x1_isPerson_v h.hb h.he, m_isPerson_v h1.h14, x1_isIn_v, m_isIn_v, show (30 : Int32) = nI 30 from rfl]
  rcases inn_count p (d 2) (by omega) with ⟨hp, -⟩ | hp
  · rw [hp]
    simp only [BD_some]
    rw [if_neg (show ¬ bI true = (0 : Int32) by decide), if_neg (show ¬ bI true = (0 : Int32) by decide)]
    rw [show inn w 1 (nI 30) = inn w (nI 1) (nI 30) from rfl]
    rcases inn_cases w 1 30 (by omega) (by omega) with ⟨hw, k, hk1, hk, rfl⟩ | hw
    · rw [hw, if_neg (show ¬ bI true = (0 : Int32) by decide), if_neg (show ¬ bI true = (0 : Int32) by decide)]
      have la := m_layAside_v s d
      rw [h1.em] at la
      rw [la, BD_some]
      have ex : ∃ y', LP3 (fun (rec8 : Int32 → Int32 → Rec → Option (Int32 × Rec)) (v5 : Int32) (v6 : Int32) (s7 : Rec) => (if nI k ≤ v6 then some (v5, s7) else BD (x4_be s7 z) (fun s10 => PG (gP c 6) b (BD2 (x4_draws s10 e (20 : Int32) (sd + v6)) (fun v14 s13 => BD (x1_isCaught c b e s13 p) (fun v16 => (if v16 = 0 then rec8 v5 (v6 + (1 : Int32)) s13 else rec8 (v5 + (1 : Int32)) (v6 + (1 : Int32)) s13))))))) FU (0 : Int32) (0 : Int32) y = some (nI (cntN (odC d p sd) k), y') := by
        refine LP3_inv (fun i a1 a2 _ => a1 = nI (cntN (odC d p sd) i) ∧ a2 = nI i) (fun o => ∃ y', o = some (nI (cntN (odC d p sd) k), y')) k (by omega) ⟨rfl, rfl⟩ (fun i a1 a2 a3 rec hi hI => Or.inl ?_) (fun a1 a2 a3 rec hI => ?_)
        · obtain ⟨rfl, rfl⟩ := hI
          obtain ⟨y0, q1, q2⟩ := x4_be_v (y := a3) h.hz
          obtain ⟨y1, q3, q4⟩ := x4_draws_v h.he q2 h.gd (sd + nI i) (n := 20) (by omega)
          obtain ⟨i1, i2, i3⟩ := ddN_ok h.gd (sd + nI i) (min 20 (400 - d 24)) (by omega)
          have q5 := x1_isCaught_v h.hb (h.he.keep i2) q4 i1.1 p
          have q6 : cau (ddN d (sd + nI i) (min 20 (400 - d 24))).1 p = odC d p sd i := rfl
          rw [q6] at q5
          cases a : odC d p sd i
          · rw [a] at q5
            refine ⟨_, _, y1, ⟨rfl, rfl⟩, ?_⟩
            rw [cntN_f a]
            simp (disch := omega) only [Nat.zero_add, LT, BD_some, BD2_some, JN1, JN2, IX_nI, nI_add, pk_mul, pk_sub, leT, leF, ltT, ltF, eqT, eqF, M1_lit, bI_true, bI_false, BZ_n0, BZ_n1, BZ_b, ↓reduceIte, l_0, l_1, l_2, l_3, l_4, l_5, l_6, l_7, l_8, l_9, l_10, l_11, l_12, l_13, l_14, l_15, l_16, l_17, l_18, l_19, l_20, l_21, l_22, l_23, l_24, l_25, l_26, l_27, l_28, l_29, l_30, l_31, l_32, l_33, l_34, l_35, l_36, l_37, l_38, l_39, l_40, l_41, l_42, l_43, l_44, l_45, l_46, l_47, l_48, l_49, l_50, l_51, l_52, l_53, l_54, l_55, l_56, l_57, l_58, l_59, l_60, l_61, l_62, l_63, l_64, l_72, l_74, l_86, l_97, l_99, l_100, l_122, l_140, l_158, l_160, l_164, l_200, l_240, l_255, l_400, l_406, l_900, l_940, l_980, l_999, l_1120, l_1000, l_100000, q1, PG_of _ h.hb, q3, q5]
          · rw [a] at q5
            refine ⟨_, _, y1, ⟨rfl, rfl⟩, ?_⟩
            rw [cntN_t a]
            simp (disch := omega) only [Nat.zero_add, LT, BD_some, BD2_some, JN1, JN2, IX_nI, nI_add, pk_mul, pk_sub, leT, leF, ltT, ltF, eqT, eqF, M1_lit, bI_true, bI_false, BZ_n0, BZ_n1, BZ_b, ↓reduceIte, l_0, l_1, l_2, l_3, l_4, l_5, l_6, l_7, l_8, l_9, l_10, l_11, l_12, l_13, l_14, l_15, l_16, l_17, l_18, l_19, l_20, l_21, l_22, l_23, l_24, l_25, l_26, l_27, l_28, l_29, l_30, l_31, l_32, l_33, l_34, l_35, l_36, l_37, l_38, l_39, l_40, l_41, l_42, l_43, l_44, l_45, l_46, l_47, l_48, l_49, l_50, l_51, l_52, l_53, l_54, l_55, l_56, l_57, l_58, l_59, l_60, l_61, l_62, l_63, l_64, l_72, l_74, l_86, l_97, l_99, l_100, l_122, l_140, l_158, l_160, l_164, l_200, l_240, l_255, l_400, l_406, l_900, l_940, l_980, l_999, l_1120, l_1000, l_100000, q1, PG_of _ h.hb, q3, q5]
        · obtain ⟨rfl, rfl⟩ := hI
          exact ⟨a3, if_pos (nI_le (Nat.le_refl _) (by omega))⟩
      have em : ∃ v, LP3 (fun (rec11 : Int32 → Int32 → Rec → Option (Int32 × Rec)) (v8 : Int32) (v9 : Int32) (s10 : Rec) => (if nI k ≤ v9 then some (v8, s10) else BD2 (m_drawDays s10 (20 : Int32) (sd + v9)) (fun v13 s14 => BD (m_isProvedOf s14 p) (fun v16 => (if v16 = 0 then BD (m_takeBack s14) (fun s18 => rec11 v8 (v9 + (1 : Int32)) s18) else BD (m_takeBack s14) (fun s20 => rec11 (v8 + (1 : Int32)) (v9 + (1 : Int32)) s20)))))) FU (0 : Int32) (0 : Int32) (sB (sB s 18 (va_cpy (RF d) (gA s 18) 24 0 140)) 14 (RF d)) = some (nI (cntN (odC d p sd) k), sB (sI (sB s 18 (va_cpy (RF d) (gA s 18) 24 0 140)) 35 v) 14 (RF d)) := by
        generalize hS : sB s 18 (va_cpy (RF d) (gA s 18) 24 0 140) = S
        have h18 : ∀ j, j < 140 → gA S 18 j = RF d (24 + j) := fun j hj => by
          rw [← hS, gA_sBs, pk_cpy_in (by omega) (by omega)]; congr 1
        refine LP3_inv (fun i a1 a2 a3 => a1 = nI (cntN (odC d p sd) i) ∧ a2 = nI i ∧ ∃ v, a3 = sB (sI S 35 v) 14 (RF d)) (fun o => ∃ v, o = some (nI (cntN (odC d p sd) k), sB (sI S 35 v) 14 (RF d))) k (by omega) ⟨rfl, rfl, gI S 35, by rw [sI_id]⟩ (fun i a1 a2 a3 rec hi hI => Or.inl ?_) (fun a1 a2 a3 rec hI => ?_)
        · obtain ⟨rfl, rfl, v, rfl⟩ := hI
          have q1 := m_drawDays_v (sI S 35 v) h.gd (sd + nI i) (n := 20) (by omega)
          obtain ⟨i1, i2, i3⟩ := ddN_ok h.gd (sd + nI i) (min 20 (400 - d 24)) (by omega)
          have q5 : ∀ r, m_isProvedOf (sB r 14 (RF (ddN d (sd + nI i) (min 20 (400 - d 24))).1)) p = some (bI (odC d p sd i)) := fun r => m_isProvedOf_v (gA_sBs _ _ _) i1.1 p
          have q7 : ∀ w, m_takeBack (sB (sI S 35 w) 14 (RF (ddN d (sd + nI i) (min 20 (400 - d 24))).1)) = some (sB (sI S 35 w) 14 (RF d)) := fun w => by
            rw [m_takeBack_v (sI S 35 w) _ (e := d) h18, mix_KH i2.symm]
          cases a : odC d p sd i
          · refine ⟨_, _, sB (sI S 35 (ddN d (sd + nI i) (min 20 (400 - d 24))).2) 14 (RF d), ⟨rfl, rfl, _, rfl⟩, ?_⟩
            rw [cntN_f a]
            simp (disch := omega) only [Nat.zero_add, LT, BD_some, BD2_some, JN1, JN2, IX_nI, nI_add, pk_mul, pk_sub, leT, leF, ltT, ltF, eqT, eqF, M1_lit, bI_true, bI_false, BZ_n0, BZ_n1, BZ_b, ↓reduceIte, l_0, l_1, l_2, l_3, l_4, l_5, l_6, l_7, l_8, l_9, l_10, l_11, l_12, l_13, l_14, l_15, l_16, l_17, l_18, l_19, l_20, l_21, l_22, l_23, l_24, l_25, l_26, l_27, l_28, l_29, l_30, l_31, l_32, l_33, l_34, l_35, l_36, l_37, l_38, l_39, l_40, l_41, l_42, l_43, l_44, l_45, l_46, l_47, l_48, l_49, l_50, l_51, l_52, l_53, l_54, l_55, l_56, l_57, l_58, l_59, l_60, l_61, l_62, l_63, l_64, l_72, l_74, l_86, l_97, l_99, l_100, l_122, l_140, l_158, l_160, l_164, l_200, l_240, l_255, l_400, l_406, l_900, l_940, l_980, l_999, l_1120, l_1000, l_100000, q1, q5, a, sI_sI, q7]
          · refine ⟨_, _, sB (sI S 35 (ddN d (sd + nI i) (min 20 (400 - d 24))).2) 14 (RF d), ⟨rfl, rfl, _, rfl⟩, ?_⟩
            rw [cntN_t a]
            simp (disch := omega) only [Nat.zero_add, LT, BD_some, BD2_some, JN1, JN2, IX_nI, nI_add, pk_mul, pk_sub, leT, leF, ltT, ltF, eqT, eqF, M1_lit, bI_true, bI_false, BZ_n0, BZ_n1, BZ_b, ↓reduceIte, l_0, l_1, l_2, l_3, l_4, l_5, l_6, l_7, l_8, l_9, l_10, l_11, l_12, l_13, l_14, l_15, l_16, l_17, l_18, l_19, l_20, l_21, l_22, l_23, l_24, l_25, l_26, l_27, l_28, l_29, l_30, l_31, l_32, l_33, l_34, l_35, l_36, l_37, l_38, l_39, l_40, l_41, l_42, l_43, l_44, l_45, l_46, l_47, l_48, l_49, l_50, l_51, l_52, l_53, l_54, l_55, l_56, l_57, l_58, l_59, l_60, l_61, l_62, l_63, l_64, l_72, l_74, l_86, l_97, l_99, l_100, l_122, l_140, l_158, l_160, l_164, l_200, l_240, l_255, l_400, l_406, l_900, l_940, l_980, l_999, l_1120, l_1000, l_100000, q1, q5, a, sI_sI, q7]
        · obtain ⟨rfl, rfl, v, rfl⟩ := hI
          exact ⟨v, if_pos (nI_le (Nat.le_refl _) (by omega))⟩
      obtain ⟨y', ey⟩ := ex
      obtain ⟨v, ev⟩ := em
      refine ⟨_, y', _, ey, ev, ?_⟩
      refine h1.ro h1.ms ⟨rfl, rfl, ?_, rfl, rfl, rfl, rfl⟩
      rw [gA_sBs, h1.h14]
    · rw [hw]
      exact ⟨M1, y, s, rfl, rfl, h1⟩
  · rw [hp]
    exact ⟨M1, y, s, rfl, rfl, h1⟩
end OPS
