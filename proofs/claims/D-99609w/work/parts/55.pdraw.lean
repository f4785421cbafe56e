/-! PURE: days, draws -/
def KH (d d' : Nat → Nat) : Prop := (∀ k, k < 24 → d' k = d k) ∧ (∀ k, 164 ≤ k → d' k = d k)
def GD (d : Nat → Nat) : Prop := DI d ∧ DT d
theorem KH.refl (d : Nat → Nat) : KH d d := ⟨fun _ _ => rfl, fun _ _ => rfl⟩
theorem KH.trans {a b c : Nat → Nat} (h : KH a b) (h2 : KH b c) : KH a c := ⟨fun k hk => (h2.1 k hk).trans (h.1 k hk), fun k hk => (h2.2 k hk).trans (h.2 k hk)⟩
theorem KH_up {d : Nat → Nat} {k v : Nat} (h : 24 ≤ k) (h2 : k < 164) : KH d (va_up d k v) := ⟨fun j hj => up_n _ _ (by omega), fun j hj => up_n _ _ (by omega)⟩
theorem KH_oneD {d : Nat → Nat} (h : d 1 ≤ 6) : KH d (oneD d) := ⟨fun k hk => oneD_k _ h (by omega) (by omega), fun k hk => oneD_k _ h (by omega) (by omega)⟩
theorem KH_doD {d : Nat → Nat} (hd : DI d) (hA : d 25 < 12) (w t l : Nat) : KH d (doD d w t l) := by
  have hN := hd.N
  have hA' : doA d w t l 25 < 12 := by rw [doA_k hA (by omega)]; exact hA
  refine ⟨fun k hk => ?_, fun k hk => ?_⟩
  · unfold doD; rw [up_n _ _ (by omega), doN_k hA' _ hN (by omega), doA_k hA (by omega)]
  · unfold doD; rw [up_n _ _ (by omega), doN_k hA' _ hN (by omega), doA_k hA (by omega)]
theorem doD_24 {d : Nat → Nat} (hd : DI d) (hA : d 25 < 12) (w t l : Nat) : doD d w t l 24 = d 24 := by
  have hN := hd.N
  have hA' : doA d w t l 25 < 12 := by rw [doA_k hA (by omega)]; exact hA
  unfold doD; rw [up_n _ _ (by omega), doN_k hA' _ hN (by omega), doA_k hA (by omega)]
theorem HS.keep {e : Rec} {d d' : Nat → Nat} (h : HS e d) (k : KH d d') : HS e d' := HS_ext h k.1
theorem GD_dust {d : Nat → Nat} (g : GD d) {p v : Nat} (hp : p < 6) (hv : v ≤ 99) : GD (va_up d (32 + p) v) := by
  have hd := g.1
  have k : ∀ k, k ≠ 32 + p → va_up d (32 + p) v k = d k := fun k hk => up_n _ _ hk
  refine ⟨⟨DH_ext hd.1 (fun j hj => k j (by omega)), ?_, ?_, fun q hq => ?_, fun q hq => ?_, fun i hi => ?_, fun q i hq hi => ?_, fun q hq => ?_⟩, DT_ext g.2 (k _ (by omega)) (fun j h1 h2 => k j (by omega)) hd.acts⟩
  · rw [k _ (by omega)]; exact hd.day
  · rw [k _ (by omega)]; exact hd.acts
  · have := hd.N
    rw [k _ (by omega)] at hq; rw [k _ (by omega), k _ (by omega)]; exact hd.pl hq
  · by_cases e : q = p
    · subst e; rw [up_s]; exact hv
    · rw [k _ (by omega)]; exact hd.dust hq
  · rw [k _ (by omega)]; exact hd.since hi
  · rw [k _ (by omega)]; exact hd.leaf hq hi
  · rw [k _ (by omega)]; exact hd.late hq
theorem GD_place {d : Nat → Nat} (g : GD d) {p v : Nat} (hp : p < 6) (hv : v < d 0) : GD (va_up d (26 + p) v) := by
  have hd := g.1
  have k : ∀ k, k ≠ 26 + p → va_up d (26 + p) v k = d k := fun k hk => up_n _ _ hk
  refine ⟨⟨DH_ext hd.1 (fun j hj => k j (by omega)), ?_, ?_, fun q hq => ?_, fun q hq => ?_, fun i hi => ?_, fun q i hq hi => ?_, fun q hq => ?_⟩, DT_ext g.2 (k _ (by omega)) (fun j h1 h2 => k j (by omega)) hd.acts⟩
  · rw [k _ (by omega)]; exact hd.day
  · rw [k _ (by omega)]; exact hd.acts
  · have := hd.N
    rw [k 1 (by omega)] at hq; rw [k 0 (by omega)]
    by_cases e : q = p
    · subst e; rw [up_s]; exact hv
    · rw [k _ (by omega)]; exact hd.pl hq
  · rw [k _ (by omega)]; exact hd.dust hq
  · rw [k _ (by omega)]; exact hd.since hi
  · rw [k _ (by omega)]; exact hd.leaf hq hi
  · rw [k _ (by omega)]; exact hd.late hq
/-- some days -/
def itD (d : Nat → Nat) : Nat → (Nat → Nat)
  | 0 => d
  | n + 1 => oneD (itD d n)
theorem itD_ok {d : Nat → Nat} (g : GD d) : ∀ n, d 24 + n ≤ 400 → GD (itD d n) ∧ KH d (itD d n) ∧ itD d n 24 = d 24 + n := by
  intro n
  induction n with
  | zero => intro _; exact ⟨g, KH.refl d, rfl⟩
  | succ n ih =>
    intro h
    obtain ⟨a, b, c⟩ := ih (by omega)
    refine ⟨⟨oneD_DI a.1 (by omega), oneD_DT a.1 a.2⟩, b.trans (KH_oneD a.1.N), ?_⟩
    show oneD (itD d n) 24 = _
    unfold oneD; rw [up_s]; omega
theorem m_passDays_v (s : Rec) {d : Nat → Nat} (g : GD d) {n : Nat} (hn : n ≤ 60) : m_passDays (sB s 14 (RF d)) (nI n) = some (nI (min n (400 - d 24)), sB s 14 (RF (itD d (min n (400 - d 24))))) := by
  have h2 := g.1.day
  unfold m_passDays
  have e : m_least (nI n) ((400 : Int32) - (gA (sB s 14 (RF d)) 14 24)) = some (nI (min n (400 - d 24))) := by
    rw [gA_sBs, RF_a (by omega), show (400 : Int32) = nI 400 from rfl, pk_sub h2, m_least_v _ _ (by omega) (by omega)]
  rw [e, BD_some]
  refine LP2_run (fun i => nI i) (fun i => sB s 14 (RF (itD d i))) 0 (min n (400 - d 24)) (by omega) rfl rfl (fun i _ hi rec => ?_) (fun rec => ?_)
  · have h3 := itD_ok g i (by omega)
    simp (disch := omega) only [Nat.zero_add, LT, BD_some, BD2_some, JN1, JN2, IX_nI, nI_add, pk_mul, pk_sub, leT, leF, ltT, ltF, eqT, eqF, M1_lit, bI_true, bI_false, BZ_n0, BZ_n1, BZ_b, ↓reduceIte, l_0, l_1, l_2, l_3, l_4, l_5, l_6, l_7, l_8, l_9, l_10, l_11, l_12, l_13, l_14, l_15, l_16, l_17, l_18, l_19, l_20, l_21, l_22, l_23, l_24, l_25, l_26, l_27, l_28, l_29, l_30, l_31, l_32, l_33, l_34, l_35, l_36, l_37, l_38, l_39, l_40, l_41, l_42, l_43, l_44, l_45, l_46, l_47, l_48, l_49, l_50, l_51, l_52, l_53, l_54, l_55, l_56, l_57, l_58, l_59, l_60, l_61, l_62, l_63, l_64, l_72, l_74, l_86, l_97, l_99, l_100, l_122, l_140, l_158, l_160, l_164, l_200, l_240, l_255, l_400, l_406, l_900, l_940, l_980, l_999, l_1120, l_1000, l_100000, m_oneDay_v s h3.1.1]
    rfl
  · simp (disch := omega) only [Nat.zero_add, LT, BD_some, BD2_some, JN1, JN2, IX_nI, nI_add, pk_mul, pk_sub, leT, leF, ltT, ltF, eqT, eqF, M1_lit, bI_true, bI_false, BZ_n0, BZ_n1, BZ_b, ↓reduceIte, l_0, l_1, l_2, l_3, l_4, l_5, l_6, l_7, l_8, l_9, l_10, l_11, l_12, l_13, l_14, l_15, l_16, l_17, l_18, l_19, l_20, l_21, l_22, l_23, l_24, l_25, l_26, l_27, l_28, l_29, l_30, l_31, l_32, l_33, l_34, l_35, l_36, l_37, l_38, l_39, l_40, l_41, l_42, l_43, l_44, l_45, l_46, l_47, l_48, l_49, l_50, l_51, l_52, l_53, l_54, l_55, l_56, l_57, l_58, l_59, l_60, l_61, l_62, l_63, l_64, l_72, l_74, l_86, l_97, l_99, l_100, l_122, l_140, l_158, l_160, l_164, l_200, l_240, l_255, l_400, l_406, l_900, l_940, l_980, l_999, l_1120, l_1000, l_100000]
theorem x4_days_v {e z : Rec} {d : Nat → Nat} (he : HS e d) (hz : ZS z d) (g : GD d) {n : Nat} (hn : n ≤ 60) : ∃ z', x4_days z e (nI n) = some (nI (min n (400 - d 24)), z') ∧ ZS z' (itD d (min n (400 - d 24))) ∧ gI z' 9 = gI z 9 := by
  have h2 := g.1.day
  unfold x4_days
  refine LP2_inv (fun i v y => v = nI i ∧ ZS y (itD d i) ∧ gI y 9 = gI z 9) (fun o => ∃ z', o = some (nI (min n (400 - d 24)), z') ∧ ZS z' (itD d (min n (400 - d 24))) ∧ gI z' 9 = gI z 9) (min n (400 - d 24)) (by omega) ⟨rfl, hz, rfl⟩ (fun i v y rec hi hI => Or.inl ?_) (fun v y rec hI => ?_)
  · obtain ⟨rfl, hy, hy9⟩ := hI
    obtain ⟨h3, h4, h5⟩ := itD_ok g i (by omega)
    obtain ⟨z', k1, k2, k3⟩ := x4_goOn_v (he.keep h4) hy h3.1
    have y7 := hy.1
    rw [h5] at y7
    refine ⟨nI (i + 1), z', ⟨rfl, k2, k3.trans hy9⟩, ?_⟩
    simp (disch := omega) only [Nat.zero_add, LT, BD_some, BD2_some, JN1, JN2, IX_nI, nI_add, pk_mul, pk_sub, leT, leF, ltT, ltF, eqT, eqF, M1_lit, bI_true, bI_false, BZ_n0, BZ_n1, BZ_b, ↓reduceIte, l_0, l_1, l_2, l_3, l_4, l_5, l_6, l_7, l_8, l_9, l_10, l_11, l_12, l_13, l_14, l_15, l_16, l_17, l_18, l_19, l_20, l_21, l_22, l_23, l_24, l_25, l_26, l_27, l_28, l_29, l_30, l_31, l_32, l_33, l_34, l_35, l_36, l_37, l_38, l_39, l_40, l_41, l_42, l_43, l_44, l_45, l_46, l_47, l_48, l_49, l_50, l_51, l_52, l_53, l_54, l_55, l_56, l_57, l_58, l_59, l_60, l_61, l_62, l_63, l_64, l_72, l_74, l_86, l_97, l_99, l_100, l_122, l_140, l_158, l_160, l_164, l_200, l_240, l_255, l_400, l_406, l_900, l_940, l_980, l_999, l_1120, l_1000, l_100000, y7, k1]
  · obtain ⟨rfl, hy, hy9⟩ := hI
    obtain ⟨h3, h4, h5⟩ := itD_ok g (min n (400 - d 24)) (by omega)
    have y7 := hy.1
    rw [h5] at y7
    refine ⟨y, ?_, hy, hy9⟩
    by_cases c : n ≤ min n (400 - d 24)
    · simp (disch := omega) only [Nat.zero_add, LT, BD_some, BD2_some, JN1, JN2, IX_nI, nI_add, pk_mul, pk_sub, leT, leF, ltT, ltF, eqT, eqF, M1_lit, bI_true, bI_false, BZ_n0, BZ_n1, BZ_b, ↓reduceIte, l_0, l_1, l_2, l_3, l_4, l_5, l_6, l_7, l_8, l_9, l_10, l_11, l_12, l_13, l_14, l_15, l_16, l_17, l_18, l_19, l_20, l_21, l_22, l_23, l_24, l_25, l_26, l_27, l_28, l_29, l_30, l_31, l_32, l_33, l_34, l_35, l_36, l_37, l_38, l_39, l_40, l_41, l_42, l_43, l_44, l_45, l_46, l_47, l_48, l_49, l_50, l_51, l_52, l_53, l_54, l_55, l_56, l_57, l_58, l_59, l_60, l_61, l_62, l_63, l_64, l_72, l_74, l_86, l_97, l_99, l_100, l_122, l_140, l_158, l_160, l_164, l_200, l_240, l_255, l_400, l_406, l_900, l_940, l_980, l_999, l_1120, l_1000, l_100000, y7]
    · simp (disch := omega) only [Nat.zero_add, LT, BD_some, BD2_some, JN1, JN2, IX_nI, nI_add, pk_mul, pk_sub, leT, leF, ltT, ltF, eqT, eqF, M1_lit, bI_true, bI_false, BZ_n0, BZ_n1, BZ_b, ↓reduceIte, l_0, l_1, l_2, l_3, l_4, l_5, l_6, l_7, l_8, l_9, l_10, l_11, l_12, l_13, l_14, l_15, l_16, l_17, l_18, l_19, l_20, l_21, l_22, l_23, l_24, l_25, l_26, l_27, l_28, l_29, l_30, l_31, l_32, l_33, l_34, l_35, l_36, l_37, l_38, l_39, l_40, l_41, l_42, l_43, l_44, l_45, l_46, l_47, l_48, l_49, l_50, l_51, l_52, l_53, l_54, l_55, l_56, l_57, l_58, l_59, l_60, l_61, l_62, l_63, l_64, l_72, l_74, l_86, l_97, l_99, l_100, l_122, l_140, l_158, l_160, l_164, l_200, l_240, l_255, l_400, l_406, l_900, l_940, l_980, l_999, l_1120, l_1000, l_100000, y7]
/-- what is drawn -/
theorem sd_ex : ∃ f : Int32 → Int32, ∀ x : Int32, f x = x * 1103515245 + 12345 := ⟨fun x => x * 1103515245 + 12345, fun _ => rfl⟩
noncomputable def sdN : Int32 → Int32 := Classical.choose sd_ex
theorem sd_def (x : Int32) : x * 1103515245 + 12345 = sdN x := (Classical.choose_spec sd_ex x).symm
noncomputable def drN (x : Int32) (n : Nat) : Nat := ((sdN x).toBitVec.toNat / 256) % n
theorem drN_lt (x : Int32) {n : Nat} (h : 0 < n) : drN x n < n := Nat.mod_lt _ h
theorem ushr_8 (x : Int32) : ushr x 8 = nI (x.toBitVec.toNat / 256) := by
  apply Int32.toBitVec.inj
  apply BitVec.eq_of_toNat_eq
  have h : x.toBitVec.toNat < 2 ^ 32 := x.toBitVec.isLt
  rw [pk_tn (by omega)]
  exact pk_ushr x 8 8 (by decide)
theorem draw_v (x : Int32) {n : Nat} (h0 : 0 < n) (hn : n < 2 ^ 31) : (ushr (sdN x) 8) - (ushr (sdN x) 8) / nI n * nI n = nI (drN x n) := by
  have h : (sdN x).toBitVec.toNat < 2 ^ 32 := (sdN x).toBitVec.isLt
  rw [ushr_8, pk_rem (by omega) h0 hn]; rfl
theorem sI_sI (r : Rec) (k : Nat) (v w : Int32) : sI (sI r k v) k w = sI r k w := by
  obtain ⟨a, b⟩ := r
  show (va_up (va_up a k v) k w, b) = (va_up a k w, b)
  rw [bx_uu]
theorem m_draw_v (s : Rec) (f : Nat → Int32) (x : Int32) {n : Nat} (h0 : 0 < n) (hn : n < 2 ^ 31) : m_draw (sB (sI s 35 x) 14 f) (nI n) = some (nI (drN x n), sB (sI s 35 (sdN x)) 14 f) := by
  unfold m_draw
  simp only [LT, gI_sB, gI_sIs, sI_B, sI_sI, sd_def]
  rw [NZ_of _ (nI_ne0 h0 hn), draw_v x h0 hn]
theorem x4_draw_v (s : Rec) {n : Nat} (h0 : 0 < n) (hn : n < 2 ^ 31) : x4_draw s (nI n) = some (nI (drN (gI s 9) n), sI s 9 (sdN (gI s 9))) := by
  unfold x4_draw
  simp only [LT, gI_sIs, sd_def]
  rw [NZ_of _ (nI_ne0 h0 hn), draw_v (gI s 9) h0 hn]
noncomputable def drawP (d : Nat → Nat) (sd : Int32) (w : Nat) : (Nat → Nat) × Int32 :=
  if drN sd 6 = 0 then
    (if 0 < d 3 ∧ 0 < d 0 then (if d 25 = 12 then (d, sdN (sdN (sdN sd))) else (doD d w (drN (sdN sd) (d 3)) (drN (sdN (sdN sd)) (d 0)), sdN (sdN (sdN sd)))) else (d, sdN sd))
  else if drN sd 6 = 1 then (if 0 < d 1 then (va_up d (32 + drN (sdN sd) (d 1)) 0, sdN (sdN sd)) else (d, sdN sd))
  else if drN sd 6 = 2 then (if 0 < d 1 then (va_up d (26 + drN (sdN sd) (d 1)) (drN (sdN (sdN sd)) (d 0)), sdN (sdN (sdN sd))) else (d, sdN sd))
  else (d, sdN sd)
theorem GD_doD {d : Nat → Nat} (g : GD d) (hA : d 25 < 12) (w t l : Nat) : GD (doD d w t l) := ⟨doD_DI g.1 g.2 hA w t l, doD_DT g.1 g.2 hA w t l⟩
theorem drawP_ok {d : Nat → Nat} (g : GD d) (sd : Int32) (w : Nat) : GD (drawP d sd w).1 ∧ KH d (drawP d sd w).1 ∧ (drawP d sd w).1 24 = d 24 := by
  have hA := g.1.acts
  have hN := g.1.N
  unfold drawP
  split
  · split
    · split
      · exact ⟨g, KH.refl d, rfl⟩
      · exact ⟨GD_doD g (by omega) _ _ _, KH_doD g.1 (by omega) _ _ _, doD_24 g.1 (by omega) _ _ _⟩
    · exact ⟨g, KH.refl d, rfl⟩
  · split
    · split
      · rename_i h
        have h3 := drN_lt (sdN sd) h
        exact ⟨GD_dust g (by omega) (by omega), KH_up (by omega) (by omega), up_n _ _ (by omega)⟩
      · exact ⟨g, KH.refl d, rfl⟩
    · split
      · split
        · rename_i h
          have h3 := drN_lt (sdN sd) h
          have h4 := g.1.pl h
          exact ⟨GD_place g (by omega) (drN_lt _ (by omega)), KH_up (by omega) (by omega), up_n _ _ (by omega)⟩
        · exact ⟨g, KH.refl d, rfl⟩
      · exact ⟨g, KH.refl d, rfl⟩
theorem m_live0 (s : Rec) {d : Nat → Nat} (g : GD d) (hA : d 25 < 12) {w t l : Nat} (hl : l < 5) : m_live (sB s 14 (RF d)) (nI 0) (nI w) (nI t) (nI l) = some (sB s 14 (RF (doD d w t l))) := by
  unfold m_live
  simp (disch := omega) only [Nat.zero_add, LT, BD_some, BD2_some, JN1, JN2, IX_nI, nI_add, pk_mul, pk_sub, leT, leF, ltT, ltF, eqT, eqF, M1_lit, bI_true, bI_false, BZ_n0, BZ_n1, BZ_b, ↓reduceIte, l_0, l_1, l_2, l_3, l_4, l_5, l_6, l_7, l_8, l_9, l_10, l_11, l_12, l_13, l_14, l_15, l_16, l_17, l_18, l_19, l_20, l_21, l_22, l_23, l_24, l_25, l_26, l_27, l_28, l_29, l_30, l_31, l_32, l_33, l_34, l_35, l_36, l_37, l_38, l_39, l_40, l_41, l_42, l_43, l_44, l_45, l_46, l_47, l_48, l_49, l_50, l_51, l_52, l_53, l_54, l_55, l_56, l_57, l_58, l_59, l_60, l_61, l_62, l_63, l_64, l_72, l_74, l_86, l_97, l_99, l_100, l_122, l_140, l_158, l_160, l_164, l_200, l_240, l_255, l_400, l_406, l_900, l_940, l_980, l_999, l_1120, l_1000, l_100000, m_doDeed_v s g.1 g.2 hA hl]
theorem m_live1 (s : Rec) {d : Nat → Nat} {p : Nat} (hp : p < 6) (y z : Int32) : m_live (sB s 14 (RF d)) (nI 1) (nI p) y z = some (sB s 14 (RF (va_up d (32 + p) 0))) := by
  unfold m_live
  simp (disch := omega) only [Nat.zero_add, LT, BD_some, BD2_some, JN1, JN2, IX_nI, nI_add, pk_mul, pk_sub, leT, leF, ltT, ltF, eqT, eqF, M1_lit, bI_true, bI_false, BZ_n0, BZ_n1, BZ_b, ↓reduceIte, l_0, l_1, l_2, l_3, l_4, l_5, l_6, l_7, l_8, l_9, l_10, l_11, l_12, l_13, l_14, l_15, l_16, l_17, l_18, l_19, l_20, l_21, l_22, l_23, l_24, l_25, l_26, l_27, l_28, l_29, l_30, l_31, l_32, l_33, l_34, l_35, l_36, l_37, l_38, l_39, l_40, l_41, l_42, l_43, l_44, l_45, l_46, l_47, l_48, l_49, l_50, l_51, l_52, l_53, l_54, l_55, l_56, l_57, l_58, l_59, l_60, l_61, l_62, l_63, l_64, l_72, l_74, l_86, l_97, l_99, l_100, l_122, l_140, l_158, l_160, l_164, l_200, l_240, l_255, l_400, l_406, l_900, l_940, l_980, l_999, l_1120, l_1000, l_100000, sAB_a]
theorem m_live2 (s : Rec) {d : Nat → Nat} {p l : Nat} (hp : p < 6) (z : Int32) : m_live (sB s 14 (RF d)) (nI 2) (nI p) (nI l) z = some (sB s 14 (RF (va_up d (26 + p) l))) := by
  unfold m_live
  simp (disch := omega) only [Nat.zero_add, LT, BD_some, BD2_some, JN1, JN2, IX_nI, nI_add, pk_mul, pk_sub, leT, leF, ltT, ltF, eqT, eqF, M1_lit, bI_true, bI_false, BZ_n0, BZ_n1, BZ_b, ↓reduceIte, l_0, l_1, l_2, l_3, l_4, l_5, l_6, l_7, l_8, l_9, l_10, l_11, l_12, l_13, l_14, l_15, l_16, l_17, l_18, l_19, l_20, l_21, l_22, l_23, l_24, l_25, l_26, l_27, l_28, l_29, l_30, l_31, l_32, l_33, l_34, l_35, l_36, l_37, l_38, l_39, l_40, l_41, l_42, l_43, l_44, l_45, l_46, l_47, l_48, l_49, l_50, l_51, l_52, l_53, l_54, l_55, l_56, l_57, l_58, l_59, l_60, l_61, l_62, l_63, l_64, l_72, l_74, l_86, l_97, l_99, l_100, l_122, l_140, l_158, l_160, l_164, l_200, l_240, l_255, l_400, l_406, l_900, l_940, l_980, l_999, l_1120, l_1000, l_100000, sAB_a]
theorem m_why0 (s : Rec) {d : Nat → Nat} (hd : DI d) (x y : Int32) : m_why (sB s 14 (RF d)) (nI 0) x y = some (bI (decide (d 25 = 12))) := by
  have := hd.acts
  unfold m_why
  by_cases h : d 25 = 12
  · simp (disch := omega) only [Nat.zero_add, LT, BD_some, BD2_some, JN1, JN2, IX_nI, nI_add, pk_mul, pk_sub, leT, leF, ltT, ltF, eqT, eqF, M1_lit, bI_true, bI_false, BZ_n0, BZ_n1, BZ_b, ↓reduceIte, l_0, l_1, l_2, l_3, l_4, l_5, l_6, l_7, l_8, l_9, l_10, l_11, l_12, l_13, l_14, l_15, l_16, l_17, l_18, l_19, l_20, l_21, l_22, l_23, l_24, l_25, l_26, l_27, l_28, l_29, l_30, l_31, l_32, l_33, l_34, l_35, l_36, l_37, l_38, l_39, l_40, l_41, l_42, l_43, l_44, l_45, l_46, l_47, l_48, l_49, l_50, l_51, l_52, l_53, l_54, l_55, l_56, l_57, l_58, l_59, l_60, l_61, l_62, l_63, l_64, l_72, l_74, l_86, l_97, l_99, l_100, l_122, l_140, l_158, l_160, l_164, l_200, l_240, l_255, l_400, l_406, l_900, l_940, l_980, l_999, l_1120, l_1000, l_100000, gA_sBs, RF_a, h, decide_true]
  · have e : decide (d 25 = 12) = false := by simpa using h
    simp (disch := omega) only [Nat.zero_add, LT, BD_some, BD2_some, JN1, JN2, IX_nI, nI_add, pk_mul, pk_sub, leT, leF, ltT, ltF, eqT, eqF, M1_lit, bI_true, bI_false, BZ_n0, BZ_n1, BZ_b, ↓reduceIte, l_0, l_1, l_2, l_3, l_4, l_5, l_6, l_7, l_8, l_9, l_10, l_11, l_12, l_13, l_14, l_15, l_16, l_17, l_18, l_19, l_20, l_21, l_22, l_23, l_24, l_25, l_26, l_27, l_28, l_29, l_30, l_31, l_32, l_33, l_34, l_35, l_36, l_37, l_38, l_39, l_40, l_41, l_42, l_43, l_44, l_45, l_46, l_47, l_48, l_49, l_50, l_51, l_52, l_53, l_54, l_55, l_56, l_57, l_58, l_59, l_60, l_61, l_62, l_63, l_64, l_72, l_74, l_86, l_97, l_99, l_100, l_122, l_140, l_158, l_160, l_164, l_200, l_240, l_255, l_400, l_406, l_900, l_940, l_980, l_999, l_1120, l_1000, l_100000, gA_sBs, RF_a, e]
theorem m_why1 (s : Rec) {d : Nat → Nat} (hd : DI d) {p : Nat} (hp : p < 6) (y : Int32) : m_why (sB s 14 (RF d)) (nI 1) (nI p) y = some (bI (decide (d (32 + p) = 0))) := by
  have := hd.dust hp
  unfold m_why
  by_cases h : d (32 + p) = 0
  · simp (disch := omega) only [Nat.zero_add, LT, BD_some, BD2_some, JN1, JN2, IX_nI, nI_add, pk_mul, pk_sub, leT, leF, ltT, ltF, eqT, eqF, M1_lit, bI_true, bI_false, BZ_n0, BZ_n1, BZ_b, ↓reduceIte, l_0, l_1, l_2, l_3, l_4, l_5, l_6, l_7, l_8, l_9, l_10, l_11, l_12, l_13, l_14, l_15, l_16, l_17, l_18, l_19, l_20, l_21, l_22, l_23, l_24, l_25, l_26, l_27, l_28, l_29, l_30, l_31, l_32, l_33, l_34, l_35, l_36, l_37, l_38, l_39, l_40, l_41, l_42, l_43, l_44, l_45, l_46, l_47, l_48, l_49, l_50, l_51, l_52, l_53, l_54, l_55, l_56, l_57, l_58, l_59, l_60, l_61, l_62, l_63, l_64, l_72, l_74, l_86, l_97, l_99, l_100, l_122, l_140, l_158, l_160, l_164, l_200, l_240, l_255, l_400, l_406, l_900, l_940, l_980, l_999, l_1120, l_1000, l_100000, gA_sBs, RF_a, h, decide_true]
  · have e : decide (d (32 + p) = 0) = false := by simpa using h
    simp (disch := omega) only [Nat.zero_add, LT, BD_some, BD2_some, JN1, JN2, IX_nI, nI_add, pk_mul, pk_sub, leT, leF, ltT, ltF, eqT, eqF, M1_lit, bI_true, bI_false, BZ_n0, BZ_n1, BZ_b, ↓reduceIte, l_0, l_1, l_2, l_3, l_4, l_5, l_6, l_7, l_8, l_9, l_10, l_11, l_12, l_13, l_14, l_15, l_16, l_17, l_18, l_19, l_20, l_21, l_22, l_23, l_24, l_25, l_26, l_27, l_28, l_29, l_30, l_31, l_32, l_33, l_34, l_35, l_36, l_37, l_38, l_39, l_40, l_41, l_42, l_43, l_44, l_45, l_46, l_47, l_48, l_49, l_50, l_51, l_52, l_53, l_54, l_55, l_56, l_57, l_58, l_59, l_60, l_61, l_62, l_63, l_64, l_72, l_74, l_86, l_97, l_99, l_100, l_122, l_140, l_158, l_160, l_164, l_200, l_240, l_255, l_400, l_406, l_900, l_940, l_980, l_999, l_1120, l_1000, l_100000, gA_sBs, RF_a, e]
theorem m_why2 (s : Rec) {d : Nat → Nat} (hd : DI d) {p l : Nat} (hp : p < d 1) (hl : l < 5) : m_why (sB s 14 (RF d)) (nI 2) (nI p) (nI l) = some (bI (decide (d (26 + p) = l))) := by
  have h1 := hd.pl hp
  have h2 := hd.P
  have h3 := hd.N
  unfold m_why
  by_cases h : d (26 + p) = l
  · simp (disch := omega) only [Nat.zero_add, LT, BD_some, BD2_some, JN1, JN2, IX_nI, nI_add, pk_mul, pk_sub, leT, leF, ltT, ltF, eqT, eqF, M1_lit, bI_true, bI_false, BZ_n0, BZ_n1, BZ_b, ↓reduceIte, l_0, l_1, l_2, l_3, l_4, l_5, l_6, l_7, l_8, l_9, l_10, l_11, l_12, l_13, l_14, l_15, l_16, l_17, l_18, l_19, l_20, l_21, l_22, l_23, l_24, l_25, l_26, l_27, l_28, l_29, l_30, l_31, l_32, l_33, l_34, l_35, l_36, l_37, l_38, l_39, l_40, l_41, l_42, l_43, l_44, l_45, l_46, l_47, l_48, l_49, l_50, l_51, l_52, l_53, l_54, l_55, l_56, l_57, l_58, l_59, l_60, l_61, l_62, l_63, l_64, l_72, l_74, l_86, l_97, l_99, l_100, l_122, l_140, l_158, l_160, l_164, l_200, l_240, l_255, l_400, l_406, l_900, l_940, l_980, l_999, l_1120, l_1000, l_100000, gA_sBs, RF_a, h, decide_true]
  · have e : decide (d (26 + p) = l) = false := by simpa using h
    simp (disch := omega) only [Nat.zero_add, LT, BD_some, BD2_some, JN1, JN2, IX_nI, nI_add, pk_mul, pk_sub, leT, leF, ltT, ltF, eqT, eqF, M1_lit, bI_true, bI_false, BZ_n0, BZ_n1, BZ_b, ↓reduceIte, l_0, l_1, l_2, l_3, l_4, l_5, l_6, l_7, l_8, l_9, l_10, l_11, l_12, l_13, l_14, l_15, l_16, l_17, l_18, l_19, l_20, l_21, l_22, l_23, l_24, l_25, l_26, l_27, l_28, l_29, l_30, l_31, l_32, l_33, l_34, l_35, l_36, l_37, l_38, l_39, l_40, l_41, l_42, l_43, l_44, l_45, l_46, l_47, l_48, l_49, l_50, l_51, l_52, l_53, l_54, l_55, l_56, l_57, l_58, l_59, l_60, l_61, l_62, l_63, l_64, l_72, l_74, l_86, l_97, l_99, l_100, l_122, l_140, l_158, l_160, l_164, l_200, l_240, l_255, l_400, l_406, l_900, l_940, l_980, l_999, l_1120, l_1000, l_100000, gA_sBs, RF_a, e]
theorem x4_whyDo_v {z : Rec} {d : Nat → Nat} (hz : ZS z d) (hd : DI d) : x4_whyDo z = some (bI (decide (d 25 = 12))) := by
  have := hd.acts
  have z8 := hz.2.1
  unfold x4_whyDo
  by_cases h : d 25 = 12
  · simp (disch := omega) only [Nat.zero_add, LT, BD_some, BD2_some, JN1, JN2, IX_nI, nI_add, pk_mul, pk_sub, leT, leF, ltT, ltF, eqT, eqF, M1_lit, bI_true, bI_false, BZ_n0, BZ_n1, BZ_b, ↓reduceIte, l_0, l_1, l_2, l_3, l_4, l_5, l_6, l_7, l_8, l_9, l_10, l_11, l_12, l_13, l_14, l_15, l_16, l_17, l_18, l_19, l_20, l_21, l_22, l_23, l_24, l_25, l_26, l_27, l_28, l_29, l_30, l_31, l_32, l_33, l_34, l_35, l_36, l_37, l_38, l_39, l_40, l_41, l_42, l_43, l_44, l_45, l_46, l_47, l_48, l_49, l_50, l_51, l_52, l_53, l_54, l_55, l_56, l_57, l_58, l_59, l_60, l_61, l_62, l_63, l_64, l_72, l_74, l_86, l_97, l_99, l_100, l_122, l_140, l_158, l_160, l_164, l_200, l_240, l_255, l_400, l_406, l_900, l_940, l_980, l_999, l_1120, l_1000, l_100000, z8, h, decide_true]
  · have e : decide (d 25 = 12) = false := by simpa using h
    simp (disch := omega) only [Nat.zero_add, LT, BD_some, BD2_some, JN1, JN2, IX_nI, nI_add, pk_mul, pk_sub, leT, leF, ltT, ltF, eqT, eqF, M1_lit, bI_true, bI_false, BZ_n0, BZ_n1, BZ_b, ↓reduceIte, l_0, l_1, l_2, l_3, l_4, l_5, l_6, l_7, l_8, l_9, l_10, l_11, l_12, l_13, l_14, l_15, l_16, l_17, l_18, l_19, l_20, l_21, l_22, l_23, l_24, l_25, l_26, l_27, l_28, l_29, l_30, l_31, l_32, l_33, l_34, l_35, l_36, l_37, l_38, l_39, l_40, l_41, l_42, l_43, l_44, l_45, l_46, l_47, l_48, l_49, l_50, l_51, l_52, l_53, l_54, l_55, l_56, l_57, l_58, l_59, l_60, l_61, l_62, l_63, l_64, l_72, l_74, l_86, l_97, l_99, l_100, l_122, l_140, l_158, l_160, l_164, l_200, l_240, l_255, l_400, l_406, l_900, l_940, l_980, l_999, l_1120, l_1000, l_100000, z8, e]
theorem x4_whySponge_v {z : Rec} {d : Nat → Nat} (hz : ZS z d) (hd : DI d) {p : Nat} (hp : p < 6) : x4_whySponge z (nI p) = some (bI (decide (d (32 + p) = 0))) := by
  have := hd.dust hp
  have z1 := hz.2.2.2.1 p hp
  unfold x4_whySponge
  by_cases h : d (32 + p) = 0
  · simp (disch := omega) only [Nat.zero_add, LT, BD_some, BD2_some, JN1, JN2, IX_nI, nI_add, pk_mul, pk_sub, leT, leF, ltT, ltF, eqT, eqF, M1_lit, bI_true, bI_false, BZ_n0, BZ_n1, BZ_b, ↓reduceIte, l_0, l_1, l_2, l_3, l_4, l_5, l_6, l_7, l_8, l_9, l_10, l_11, l_12, l_13, l_14, l_15, l_16, l_17, l_18, l_19, l_20, l_21, l_22, l_23, l_24, l_25, l_26, l_27, l_28, l_29, l_30, l_31, l_32, l_33, l_34, l_35, l_36, l_37, l_38, l_39, l_40, l_41, l_42, l_43, l_44, l_45, l_46, l_47, l_48, l_49, l_50, l_51, l_52, l_53, l_54, l_55, l_56, l_57, l_58, l_59, l_60, l_61, l_62, l_63, l_64, l_72, l_74, l_86, l_97, l_99, l_100, l_122, l_140, l_158, l_160, l_164, l_200, l_240, l_255, l_400, l_406, l_900, l_940, l_980, l_999, l_1120, l_1000, l_100000, z1, h, decide_true]
  · have e : decide (d (32 + p) = 0) = false := by simpa using h
    simp (disch := omega) only [Nat.zero_add, LT, BD_some, BD2_some, JN1, JN2, IX_nI, nI_add, pk_mul, pk_sub, leT, leF, ltT, ltF, eqT, eqF, M1_lit, bI_true, bI_false, BZ_n0, BZ_n1, BZ_b, ↓reduceIte, l_0, l_1, l_2, l_3, l_4, l_5, l_6, l_7, l_8, l_9, l_10, l_11, l_12, l_13, l_14, l_15, l_16, l_17, l_18, l_19, l_20, l_21, l_22, l_23, l_24, l_25, l_26, l_27, l_28, l_29, l_30, l_31, l_32, l_33, l_34, l_35, l_36, l_37, l_38, l_39, l_40, l_41, l_42, l_43, l_44, l_45, l_46, l_47, l_48, l_49, l_50, l_51, l_52, l_53, l_54, l_55, l_56, l_57, l_58, l_59, l_60, l_61, l_62, l_63, l_64, l_72, l_74, l_86, l_97, l_99, l_100, l_122, l_140, l_158, l_160, l_164, l_200, l_240, l_255, l_400, l_406, l_900, l_940, l_980, l_999, l_1120, l_1000, l_100000, z1, e]
theorem x4_whyCarry_v {z : Rec} {d : Nat → Nat} (hz : ZS z d) (hd : DI d) {p l : Nat} (hp : p < d 1) (hl : l < 5) : x4_whyCarry z (nI p) (nI l) = some (bI (decide (d (26 + p) = l))) := by
  have h1 := hd.pl hp
  have h2 := hd.P
  have h3 := hd.N
  have z0 := hz.2.2.1 p (by omega)
  unfold x4_whyCarry
  by_cases h : d (26 + p) = l
  · simp (disch := omega) only [Nat.zero_add, LT, BD_some, BD2_some, JN1, JN2, IX_nI, nI_add, pk_mul, pk_sub, leT, leF, ltT, ltF, eqT, eqF, M1_lit, bI_true, bI_false, BZ_n0, BZ_n1, BZ_b, ↓reduceIte, l_0, l_1, l_2, l_3, l_4, l_5, l_6, l_7, l_8, l_9, l_10, l_11, l_12, l_13, l_14, l_15, l_16, l_17, l_18, l_19, l_20, l_21, l_22, l_23, l_24, l_25, l_26, l_27, l_28, l_29, l_30, l_31, l_32, l_33, l_34, l_35, l_36, l_37, l_38, l_39, l_40, l_41, l_42, l_43, l_44, l_45, l_46, l_47, l_48, l_49, l_50, l_51, l_52, l_53, l_54, l_55, l_56, l_57, l_58, l_59, l_60, l_61, l_62, l_63, l_64, l_72, l_74, l_86, l_97, l_99, l_100, l_122, l_140, l_158, l_160, l_164, l_200, l_240, l_255, l_400, l_406, l_900, l_940, l_980, l_999, l_1120, l_1000, l_100000, z0, h, decide_true]
  · have e : decide (d (26 + p) = l) = false := by simpa using h
    simp (disch := omega) only [Nat.zero_add, LT, BD_some, BD2_some, JN1, JN2, IX_nI, nI_add, pk_mul, pk_sub, leT, leF, ltT, ltF, eqT, eqF, M1_lit, bI_true, bI_false, BZ_n0, BZ_n1, BZ_b, ↓reduceIte, l_0, l_1, l_2, l_3, l_4, l_5, l_6, l_7, l_8, l_9, l_10, l_11, l_12, l_13, l_14, l_15, l_16, l_17, l_18, l_19, l_20, l_21, l_22, l_23, l_24, l_25, l_26, l_27, l_28, l_29, l_30, l_31, l_32, l_33, l_34, l_35, l_36, l_37, l_38, l_39, l_40, l_41, l_42, l_43, l_44, l_45, l_46, l_47, l_48, l_49, l_50, l_51, l_52, l_53, l_54, l_55, l_56, l_57, l_58, l_59, l_60, l_61, l_62, l_63, l_64, l_72, l_74, l_86, l_97, l_99, l_100, l_122, l_140, l_158, l_160, l_164, l_200, l_240, l_255, l_400, l_406, l_900, l_940, l_980, l_999, l_1120, l_1000, l_100000, z0, e]
theorem m_drawsFor_v (s : Rec) {d : Nat → Nat} (g : GD d) (sd : Int32) (w : Nat) : m_drawsFor (sB (sI s 35 sd) 14 (RF d)) (nI w) = some (sB (sI s 35 (drawP d sd w).2) 14 (RF (drawP d sd w).1)) := by
  have hA := g.1.acts
  have hN := g.1.N
  have hP := g.1.P
  have hD := g.1.D
  have h6 := drN_lt sd (n := 6) (by omega)
  unfold m_drawsFor
  rw [show (6 : Int32) = nI 6 from rfl, m_draw_v s (RF d) sd (by omega) (by omega), BD2_some]
  unfold drawP
  by_cases k0 : drN sd 6 = 0
  · rw [if_pos k0]
    by_cases c : 0 < d 3 ∧ 0 < d 0
    · rw [if_pos c]
      have hl := drN_lt (sdN (sdN sd)) c.2
      by_cases a : d 25 = 12
      · rw [if_pos a]
        simp (disch := omega) only [Nat.zero_add, LT, BD_some, BD2_some, JN1, JN2, IX_nI, nI_add, pk_mul, pk_sub, leT, leF, ltT, ltF, eqT, eqF, M1_lit, bI_true, bI_false, BZ_n0, BZ_n1, BZ_b, ↓reduceIte, l_0, l_1, l_2, l_3, l_4, l_5, l_6, l_7, l_8, l_9, l_10, l_11, l_12, l_13, l_14, l_15, l_16, l_17, l_18, l_19, l_20, l_21, l_22, l_23, l_24, l_25, l_26, l_27, l_28, l_29, l_30, l_31, l_32, l_33, l_34, l_35, l_36, l_37, l_38, l_39, l_40, l_41, l_42, l_43, l_44, l_45, l_46, l_47, l_48, l_49, l_50, l_51, l_52, l_53, l_54, l_55, l_56, l_57, l_58, l_59, l_60, l_61, l_62, l_63, l_64, l_72, l_74, l_86, l_97, l_99, l_100, l_122, l_140, l_158, l_160, l_164, l_200, l_240, l_255, l_400, l_406, l_900, l_940, l_980, l_999, l_1120, l_1000, l_100000, k0, gA_sBs, RF_a, m_draw_v, m_why0 _ g.1, a, decide_true]
      · rw [if_neg a]
        have e : decide (d 25 = 12) = false := by simpa using a
        simp (disch := omega) only [Nat.zero_add, LT, BD_some, BD2_some, JN1, JN2, IX_nI, nI_add, pk_mul, pk_sub, leT, leF, ltT, ltF, eqT, eqF, M1_lit, bI_true, bI_false, BZ_n0, BZ_n1, BZ_b, ↓reduceIte, l_0, l_1, l_2, l_3, l_4, l_5, l_6, l_7, l_8, l_9, l_10, l_11, l_12, l_13, l_14, l_15, l_16, l_17, l_18, l_19, l_20, l_21, l_22, l_23, l_24, l_25, l_26, l_27, l_28, l_29, l_30, l_31, l_32, l_33, l_34, l_35, l_36, l_37, l_38, l_39, l_40, l_41, l_42, l_43, l_44, l_45, l_46, l_47, l_48, l_49, l_50, l_51, l_52, l_53, l_54, l_55, l_56, l_57, l_58, l_59, l_60, l_61, l_62, l_63, l_64, l_72, l_74, l_86, l_97, l_99, l_100, l_122, l_140, l_158, l_160, l_164, l_200, l_240, l_255, l_400, l_406, l_900, l_940, l_980, l_999, l_1120, l_1000, l_100000, k0, gA_sBs, RF_a, m_draw_v, m_why0 _ g.1, e, m_live0 _ g]
    · rw [if_neg c]
      by_cases c3 : d 3 = 0
      · simp (disch := omega) only [Nat.zero_add, LT, BD_some, BD2_some, JN1, JN2, IX_nI, nI_add, pk_mul, pk_sub, leT, leF, ltT, ltF, eqT, eqF, M1_lit, bI_true, bI_false, BZ_n0, BZ_n1, BZ_b, ↓reduceIte, l_0, l_1, l_2, l_3, l_4, l_5, l_6, l_7, l_8, l_9, l_10, l_11, l_12, l_13, l_14, l_15, l_16, l_17, l_18, l_19, l_20, l_21, l_22, l_23, l_24, l_25, l_26, l_27, l_28, l_29, l_30, l_31, l_32, l_33, l_34, l_35, l_36, l_37, l_38, l_39, l_40, l_41, l_42, l_43, l_44, l_45, l_46, l_47, l_48, l_49, l_50, l_51, l_52, l_53, l_54, l_55, l_56, l_57, l_58, l_59, l_60, l_61, l_62, l_63, l_64, l_72, l_74, l_86, l_97, l_99, l_100, l_122, l_140, l_158, l_160, l_164, l_200, l_240, l_255, l_400, l_406, l_900, l_940, l_980, l_999, l_1120, l_1000, l_100000, k0, gA_sBs, RF_a, c3]
      · have c0 : d 0 = 0 := by omega
        simp (disch := omega) only [Nat.zero_add, LT, BD_some, BD2_some, JN1, JN2, IX_nI, nI_add, pk_mul, pk_sub, leT, leF, ltT, ltF, eqT, eqF, M1_lit, bI_true, bI_false, BZ_n0, BZ_n1, BZ_b, ↓reduceIte, l_0, l_1, l_2, l_3, l_4, l_5, l_6, l_7, l_8, l_9, l_10, l_11, l_12, l_13, l_14, l_15, l_16, l_17, l_18, l_19, l_20, l_21, l_22, l_23, l_24, l_25, l_26, l_27, l_28, l_29, l_30, l_31, l_32, l_33, l_34, l_35, l_36, l_37, l_38, l_39, l_40, l_41, l_42, l_43, l_44, l_45, l_46, l_47, l_48, l_49, l_50, l_51, l_52, l_53, l_54, l_55, l_56, l_57, l_58, l_59, l_60, l_61, l_62, l_63, l_64, l_72, l_74, l_86, l_97, l_99, l_100, l_122, l_140, l_158, l_160, l_164, l_200, l_240, l_255, l_400, l_406, l_900, l_940, l_980, l_999, l_1120, l_1000, l_100000, k0, gA_sBs, RF_a, c0]
  · rw [if_neg k0]
    by_cases k1 : drN sd 6 = 1
    · rw [if_pos k1]
      by_cases c : 0 < d 1
      · rw [if_pos c]
        have hp := drN_lt (sdN sd) c
        simp (disch := omega) only [Nat.zero_add, LT, BD_some, BD2_some, JN1, JN2, IX_nI, nI_add, pk_mul, pk_sub, leT, leF, ltT, ltF, eqT, eqF, M1_lit, bI_true, bI_false, BZ_n0, BZ_n1, BZ_b, ↓reduceIte, l_0, l_1, l_2, l_3, l_4, l_5, l_6, l_7, l_8, l_9, l_10, l_11, l_12, l_13, l_14, l_15, l_16, l_17, l_18, l_19, l_20, l_21, l_22, l_23, l_24, l_25, l_26, l_27, l_28, l_29, l_30, l_31, l_32, l_33, l_34, l_35, l_36, l_37, l_38, l_39, l_40, l_41, l_42, l_43, l_44, l_45, l_46, l_47, l_48, l_49, l_50, l_51, l_52, l_53, l_54, l_55, l_56, l_57, l_58, l_59, l_60, l_61, l_62, l_63, l_64, l_72, l_74, l_86, l_97, l_99, l_100, l_122, l_140, l_158, l_160, l_164, l_200, l_240, l_255, l_400, l_406, l_900, l_940, l_980, l_999, l_1120, l_1000, l_100000, k1, gA_sBs, RF_a, m_draw_v, m_live1]
      · rw [if_neg c]
        have c1 : d 1 = 0 := by omega
        simp (disch := omega) only [Nat.zero_add, LT, BD_some, BD2_some, JN1, JN2, IX_nI, nI_add, pk_mul, pk_sub, leT, leF, ltT, ltF, eqT, eqF, M1_lit, bI_true, bI_false, BZ_n0, BZ_n1, BZ_b, ↓reduceIte, l_0, l_1, l_2, l_3, l_4, l_5, l_6, l_7, l_8, l_9, l_10, l_11, l_12, l_13, l_14, l_15, l_16, l_17, l_18, l_19, l_20, l_21, l_22, l_23, l_24, l_25, l_26, l_27, l_28, l_29, l_30, l_31, l_32, l_33, l_34, l_35, l_36, l_37, l_38, l_39, l_40, l_41, l_42, l_43, l_44, l_45, l_46, l_47, l_48, l_49, l_50, l_51, l_52, l_53, l_54, l_55, l_56, l_57, l_58, l_59, l_60, l_61, l_62, l_63, l_64, l_72, l_74, l_86, l_97, l_99, l_100, l_122, l_140, l_158, l_160, l_164, l_200, l_240, l_255, l_400, l_406, l_900, l_940, l_980, l_999, l_1120, l_1000, l_100000, k1, gA_sBs, RF_a, c1]
    · rw [if_neg k1]
      by_cases k2 : drN sd 6 = 2
      · rw [if_pos k2]
        by_cases c : 0 < d 1
        · rw [if_pos c]
          have hp := drN_lt (sdN sd) c
          have hl := g.1.pl c
          simp (disch := omega) only [Nat.zero_add, LT, BD_some, BD2_some, JN1, JN2, IX_nI, nI_add, pk_mul, pk_sub, leT, leF, ltT, ltF, eqT, eqF, M1_lit, bI_true, bI_false, BZ_n0, BZ_n1, BZ_b, ↓reduceIte, l_0, l_1, l_2, l_3, l_4, l_5, l_6, l_7, l_8, l_9, l_10, l_11, l_12, l_13, l_14, l_15, l_16, l_17, l_18, l_19, l_20, l_21, l_22, l_23, l_24, l_25, l_26, l_27, l_28, l_29, l_30, l_31, l_32, l_33, l_34, l_35, l_36, l_37, l_38, l_39, l_40, l_41, l_42, l_43, l_44, l_45, l_46, l_47, l_48, l_49, l_50, l_51, l_52, l_53, l_54, l_55, l_56, l_57, l_58, l_59, l_60, l_61, l_62, l_63, l_64, l_72, l_74, l_86, l_97, l_99, l_100, l_122, l_140, l_158, l_160, l_164, l_200, l_240, l_255, l_400, l_406, l_900, l_940, l_980, l_999, l_1120, l_1000, l_100000, k2, gA_sBs, RF_a, m_draw_v, m_live2]
        · rw [if_neg c]
          have c1 : d 1 = 0 := by omega
          simp (disch := omega) only [Nat.zero_add, LT, BD_some, BD2_some, JN1, JN2, IX_nI, nI_add, pk_mul, pk_sub, leT, leF, ltT, ltF, eqT, eqF, M1_lit, bI_true, bI_false, BZ_n0, BZ_n1, BZ_b, ↓reduceIte, l_0, l_1, l_2, l_3, l_4, l_5, l_6, l_7, l_8, l_9, l_10, l_11, l_12, l_13, l_14, l_15, l_16, l_17, l_18, l_19, l_20, l_21, l_22, l_23, l_24, l_25, l_26, l_27, l_28, l_29, l_30, l_31, l_32, l_33, l_34, l_35, l_36, l_37, l_38, l_39, l_40, l_41, l_42, l_43, l_44, l_45, l_46, l_47, l_48, l_49, l_50, l_51, l_52, l_53, l_54, l_55, l_56, l_57, l_58, l_59, l_60, l_61, l_62, l_63, l_64, l_72, l_74, l_86, l_97, l_99, l_100, l_122, l_140, l_158, l_160, l_164, l_200, l_240, l_255, l_400, l_406, l_900, l_940, l_980, l_999, l_1120, l_1000, l_100000, k2, gA_sBs, RF_a, c1]
      · rw [if_neg k2]
        simp (disch := omega) only [Nat.zero_add, LT, BD_some, BD2_some, JN1, JN2, IX_nI, nI_add, pk_mul, pk_sub, leT, leF, ltT, ltF, eqT, eqF, M1_lit, bI_true, bI_false, BZ_n0, BZ_n1, BZ_b, ↓reduceIte, l_0, l_1, l_2, l_3, l_4, l_5, l_6, l_7, l_8, l_9, l_10, l_11, l_12, l_13, l_14, l_15, l_16, l_17, l_18, l_19, l_20, l_21, l_22, l_23, l_24, l_25, l_26, l_27, l_28, l_29, l_30, l_31, l_32, l_33, l_34, l_35, l_36, l_37, l_38, l_39, l_40, l_41, l_42, l_43, l_44, l_45, l_46, l_47, l_48, l_49, l_50, l_51, l_52, l_53, l_54, l_55, l_56, l_57, l_58, l_59, l_60, l_61, l_62, l_63, l_64, l_72, l_74, l_86, l_97, l_99, l_100, l_122, l_140, l_158, l_160, l_164, l_200, l_240, l_255, l_400, l_406, l_900, l_940, l_980, l_999, l_1120, l_1000, l_100000]
theorem x4_drawPerson_v {e z : Rec} {d : Nat → Nat} (he : HS e d) (hz : ZS z d) (g : GD d) {sd : Int32} (h9 : gI z 9 = sd) (w : Nat) : ∃ z', x4_drawPerson z e (nI w) = some z' ∧ ZS z' (drawP d sd w).1 ∧ gI z' 9 = (drawP d sd w).2 := by
  have hA := g.1.acts
  have hN := g.1.N
  have hP := g.1.P
  have hD := g.1.D
  have h6 := drN_lt sd (n := 6) (by omega)
  obtain ⟨e7, e8, -, e10, -⟩ := id he
  unfold x4_drawPerson
  rw [show (6 : Int32) = nI 6 from rfl, x4_draw_v z (by omega) (by omega), BD2_some, h9]
  unfold drawP
  have hz1 : ZS (sI z 9 (sdN sd)) d := ZS_seed hz _
  have hz2 : ZS (sI (sI z 9 (sdN sd)) 9 (sdN (sdN sd))) d := ZS_seed hz1 _
  have hz3 : ZS (sI (sI (sI z 9 (sdN sd)) 9 (sdN (sdN sd))) 9 (sdN (sdN (sdN sd)))) d := ZS_seed hz2 _
  by_cases k0 : drN sd 6 = 0
  · rw [if_pos k0]
    by_cases c : 0 < d 3 ∧ 0 < d 0
    · rw [if_pos c]
      have hl := drN_lt (sdN (sdN sd)) c.2
      by_cases a : d 25 = 12
      · rw [if_pos a]
        refine ⟨_, ?_, hz3, gI_sIs _ _ _⟩
        simp (disch := omega) only [Nat.zero_add, LT, BD_some, BD2_some, JN1, JN2, IX_nI, nI_add, pk_mul, pk_sub, leT, leF, ltT, ltF, eqT, eqF, M1_lit, bI_true, bI_false, BZ_n0, BZ_n1, BZ_b, ↓reduceIte, l_0, l_1, l_2, l_3, l_4, l_5, l_6, l_7, l_8, l_9, l_10, l_11, l_12, l_13, l_14, l_15, l_16, l_17, l_18, l_19, l_20, l_21, l_22, l_23, l_24, l_25, l_26, l_27, l_28, l_29, l_30, l_31, l_32, l_33, l_34, l_35, l_36, l_37, l_38, l_39, l_40, l_41, l_42, l_43, l_44, l_45, l_46, l_47, l_48, l_49, l_50, l_51, l_52, l_53, l_54, l_55, l_56, l_57, l_58, l_59, l_60, l_61, l_62, l_63, l_64, l_72, l_74, l_86, l_97, l_99, l_100, l_122, l_140, l_158, l_160, l_164, l_200, l_240, l_255, l_400, l_406, l_900, l_940, l_980, l_999, l_1120, l_1000, l_100000, k0, e7, e8, e10, x4_draw_v, gI_sIs, x4_whyDo_v hz3 g.1, a, decide_true]
      · rw [if_neg a]
        have e' : decide (d 25 = 12) = false := by simpa using a
        obtain ⟨z', q1, q2, q3⟩ := x4_does_v he hz3 g.1 g.2 (by omega) (w := w) (t := drN (sdN sd) (d 3)) (l := drN (sdN (sdN sd)) (d 0)) (by omega)
        refine ⟨z', ?_, q2, by rw [q3, gI_sIs]⟩
        simp (disch := omega) only [Nat.zero_add, LT, BD_some, BD2_some, JN1, JN2, IX_nI, nI_add, pk_mul, pk_sub, leT, leF, ltT, ltF, eqT, eqF, M1_lit, bI_true, bI_false, BZ_n0, BZ_n1, BZ_b, ↓reduceIte, l_0, l_1, l_2, l_3, l_4, l_5, l_6, l_7, l_8, l_9, l_10, l_11, l_12, l_13, l_14, l_15, l_16, l_17, l_18, l_19, l_20, l_21, l_22, l_23, l_24, l_25, l_26, l_27, l_28, l_29, l_30, l_31, l_32, l_33, l_34, l_35, l_36, l_37, l_38, l_39, l_40, l_41, l_42, l_43, l_44, l_45, l_46, l_47, l_48, l_49, l_50, l_51, l_52, l_53, l_54, l_55, l_56, l_57, l_58, l_59, l_60, l_61, l_62, l_63, l_64, l_72, l_74, l_86, l_97, l_99, l_100, l_122, l_140, l_158, l_160, l_164, l_200, l_240, l_255, l_400, l_406, l_900, l_940, l_980, l_999, l_1120, l_1000, l_100000, k0, e7, e8, e10, x4_draw_v, gI_sIs, x4_whyDo_v hz3 g.1, e', q1]
    · rw [if_neg c]
      refine ⟨_, ?_, hz1, gI_sIs _ _ _⟩
      by_cases c3 : d 3 = 0
      · simp (disch := omega) only [Nat.zero_add, LT, BD_some, BD2_some, JN1, JN2, IX_nI, nI_add, pk_mul, pk_sub, leT, leF, ltT, ltF, eqT, eqF, M1_lit, bI_true, bI_false, BZ_n0, BZ_n1, BZ_b, ↓reduceIte, l_0, l_1, l_2, l_3, l_4, l_5, l_6, l_7, l_8, l_9, l_10, l_11, l_12, l_13, l_14, l_15, l_16, l_17, l_18, l_19, l_20, l_21, l_22, l_23, l_24, l_25, l_26, l_27, l_28, l_29, l_30, l_31, l_32, l_33, l_34, l_35, l_36, l_37, l_38, l_39, l_40, l_41, l_42, l_43, l_44, l_45, l_46, l_47, l_48, l_49, l_50, l_51, l_52, l_53, l_54, l_55, l_56, l_57, l_58, l_59, l_60, l_61, l_62, l_63, l_64, l_72, l_74, l_86, l_97, l_99, l_100, l_122, l_140, l_158, l_160, l_164, l_200, l_240, l_255, l_400, l_406, l_900, l_940, l_980, l_999, l_1120, l_1000, l_100000, k0, e10, c3]
      · have c0 : d 0 = 0 := by omega
        simp (disch := omega) only [Nat.zero_add, LT, BD_some, BD2_some, JN1, JN2, IX_nI, nI_add, pk_mul, pk_sub, leT, leF, ltT, ltF, eqT, eqF, M1_lit, bI_true, bI_false, BZ_n0, BZ_n1, BZ_b, ↓reduceIte, l_0, l_1, l_2, l_3, l_4, l_5, l_6, l_7, l_8, l_9, l_10, l_11, l_12, l_13, l_14, l_15, l_16, l_17, l_18, l_19, l_20, l_21, l_22, l_23, l_24, l_25, l_26, l_27, l_28, l_29, l_30, l_31, l_32, l_33, l_34, l_35, l_36, l_37, l_38, l_39, l_40, l_41, l_42, l_43, l_44, l_45, l_46, l_47, l_48, l_49, l_50, l_51, l_52, l_53, l_54, l_55, l_56, l_57, l_58, l_59, l_60, l_61, l_62, l_63, l_64, l_72, l_74, l_86, l_97, l_99, l_100, l_122, l_140, l_158, l_160, l_164, l_200, l_240, l_255, l_400, l_406, l_900, l_940, l_980, l_999, l_1120, l_1000, l_100000, k0, e7, e10, c0]
  · rw [if_neg k0]
    by_cases k1 : drN sd 6 = 1
    · rw [if_pos k1]
      by_cases c : 0 < d 1
      · rw [if_pos c]
        have hp := drN_lt (sdN sd) c
        refine ⟨sA (sI (sI z 9 (sdN sd)) 9 (sdN (sdN sd))) 1 (drN (sdN sd) (d 1)) (nI 0), ?_, ZS_A1 hz2 (by omega), by rw [gI_sA, gI_sIs]⟩
        simp (disch := omega) only [Nat.zero_add, LT, BD_some, BD2_some, JN1, JN2, IX_nI, nI_add, pk_mul, pk_sub, leT, leF, ltT, ltF, eqT, eqF, M1_lit, bI_true, bI_false, BZ_n0, BZ_n1, BZ_b, ↓reduceIte, l_0, l_1, l_2, l_3, l_4, l_5, l_6, l_7, l_8, l_9, l_10, l_11, l_12, l_13, l_14, l_15, l_16, l_17, l_18, l_19, l_20, l_21, l_22, l_23, l_24, l_25, l_26, l_27, l_28, l_29, l_30, l_31, l_32, l_33, l_34, l_35, l_36, l_37, l_38, l_39, l_40, l_41, l_42, l_43, l_44, l_45, l_46, l_47, l_48, l_49, l_50, l_51, l_52, l_53, l_54, l_55, l_56, l_57, l_58, l_59, l_60, l_61, l_62, l_63, l_64, l_72, l_74, l_86, l_97, l_99, l_100, l_122, l_140, l_158, l_160, l_164, l_200, l_240, l_255, l_400, l_406, l_900, l_940, l_980, l_999, l_1120, l_1000, l_100000, k1, e8, x4_draw_v, gI_sIs]
      · rw [if_neg c]
        have c1 : d 1 = 0 := by omega
        refine ⟨_, ?_, hz1, gI_sIs _ _ _⟩
        simp (disch := omega) only [Nat.zero_add, LT, BD_some, BD2_some, JN1, JN2, IX_nI, nI_add, pk_mul, pk_sub, leT, leF, ltT, ltF, eqT, eqF, M1_lit, bI_true, bI_false, BZ_n0, BZ_n1, BZ_b, ↓reduceIte, l_0, l_1, l_2, l_3, l_4, l_5, l_6, l_7, l_8, l_9, l_10, l_11, l_12, l_13, l_14, l_15, l_16, l_17, l_18, l_19, l_20, l_21, l_22, l_23, l_24, l_25, l_26, l_27, l_28, l_29, l_30, l_31, l_32, l_33, l_34, l_35, l_36, l_37, l_38, l_39, l_40, l_41, l_42, l_43, l_44, l_45, l_46, l_47, l_48, l_49, l_50, l_51, l_52, l_53, l_54, l_55, l_56, l_57, l_58, l_59, l_60, l_61, l_62, l_63, l_64, l_72, l_74, l_86, l_97, l_99, l_100, l_122, l_140, l_158, l_160, l_164, l_200, l_240, l_255, l_400, l_406, l_900, l_940, l_980, l_999, l_1120, l_1000, l_100000, k1, e8, c1]
    · rw [if_neg k1]
      by_cases k2 : drN sd 6 = 2
      · rw [if_pos k2]
        by_cases c : 0 < d 1
        · rw [if_pos c]
          have hp := drN_lt (sdN sd) c
          have hl := g.1.pl c
          refine ⟨sA (sI (sI (sI z 9 (sdN sd)) 9 (sdN (sdN sd))) 9 (sdN (sdN (sdN sd)))) 0 (drN (sdN sd) (d 1)) (nI (drN (sdN (sdN sd)) (d 0))), ?_, ZS_A0 hz3 (by omega), by rw [gI_sA, gI_sIs]⟩
          simp (disch := omega) only [Nat.zero_add, LT, BD_some, BD2_some, JN1, JN2, IX_nI, nI_add, pk_mul, pk_sub, leT, leF, ltT, ltF, eqT, eqF, M1_lit, bI_true, bI_false, BZ_n0, BZ_n1, BZ_b, ↓reduceIte, l_0, l_1, l_2, l_3, l_4, l_5, l_6, l_7, l_8, l_9, l_10, l_11, l_12, l_13, l_14, l_15, l_16, l_17, l_18, l_19, l_20, l_21, l_22, l_23, l_24, l_25, l_26, l_27, l_28, l_29, l_30, l_31, l_32, l_33, l_34, l_35, l_36, l_37, l_38, l_39, l_40, l_41, l_42, l_43, l_44, l_45, l_46, l_47, l_48, l_49, l_50, l_51, l_52, l_53, l_54, l_55, l_56, l_57, l_58, l_59, l_60, l_61, l_62, l_63, l_64, l_72, l_74, l_86, l_97, l_99, l_100, l_122, l_140, l_158, l_160, l_164, l_200, l_240, l_255, l_400, l_406, l_900, l_940, l_980, l_999, l_1120, l_1000, l_100000, k2, e7, e8, x4_draw_v, gI_sIs]
        · rw [if_neg c]
          have c1 : d 1 = 0 := by omega
          refine ⟨_, ?_, hz1, gI_sIs _ _ _⟩
          simp (disch := omega) only [Nat.zero_add, LT, BD_some, BD2_some, JN1, JN2, IX_nI, nI_add, pk_mul, pk_sub, leT, leF, ltT, ltF, eqT, eqF, M1_lit, bI_true, bI_false, BZ_n0, BZ_n1, BZ_b, ↓reduceIte, l_0, l_1, l_2, l_3, l_4, l_5, l_6, l_7, l_8, l_9, l_10, l_11, l_12, l_13, l_14, l_15, l_16, l_17, l_18, l_19, l_20, l_21, l_22, l_23, l_24, l_25, l_26, l_27, l_28, l_29, l_30, l_31, l_32, l_33, l_34, l_35, l_36, l_37, l_38, l_39, l_40, l_41, l_42, l_43, l_44, l_45, l_46, l_47, l_48, l_49, l_50, l_51, l_52, l_53, l_54, l_55, l_56, l_57, l_58, l_59, l_60, l_61, l_62, l_63, l_64, l_72, l_74, l_86, l_97, l_99, l_100, l_122, l_140, l_158, l_160, l_164, l_200, l_240, l_255, l_400, l_406, l_900, l_940, l_980, l_999, l_1120, l_1000, l_100000, k2, e8, c1]
      · rw [if_neg k2]
        refine ⟨_, ?_, hz1, gI_sIs _ _ _⟩
        simp (disch := omega) only [Nat.zero_add, LT, BD_some, BD2_some, JN1, JN2, IX_nI, nI_add, pk_mul, pk_sub, leT, leF, ltT, ltF, eqT, eqF, M1_lit, bI_true, bI_false, BZ_n0, BZ_n1, BZ_b, ↓reduceIte, l_0, l_1, l_2, l_3, l_4, l_5, l_6, l_7, l_8, l_9, l_10, l_11, l_12, l_13, l_14, l_15, l_16, l_17, l_18, l_19, l_20, l_21, l_22, l_23, l_24, l_25, l_26, l_27, l_28, l_29, l_30, l_31, l_32, l_33, l_34, l_35, l_36, l_37, l_38, l_39, l_40, l_41, l_42, l_43, l_44, l_45, l_46, l_47, l_48, l_49, l_50, l_51, l_52, l_53, l_54, l_55, l_56, l_57, l_58, l_59, l_60, l_61, l_62, l_63, l_64, l_72, l_74, l_86, l_97, l_99, l_100, l_122, l_140, l_158, l_160, l_164, l_200, l_240, l_255, l_400, l_406, l_900, l_940, l_980, l_999, l_1120, l_1000, l_100000]
noncomputable def drwN (d : Nat → Nat) (sd : Int32) : Nat → (Nat → Nat) × Int32
  | 0 => (d, sd)
  | n + 1 => drawP (drwN d sd n).1 (drwN d sd n).2 n
theorem drwN_ok {d : Nat → Nat} (g : GD d) (sd : Int32) : ∀ n, GD (drwN d sd n).1 ∧ KH d (drwN d sd n).1 ∧ (drwN d sd n).1 24 = d 24 := by
  intro n
  induction n with
  | zero => exact ⟨g, KH.refl d, rfl⟩
  | succ n ih =>
    obtain ⟨a, b, c⟩ := ih
    obtain ⟨a', b', c'⟩ := drawP_ok a (drwN d sd n).2 n
    exact ⟨a', b.trans b', c'.trans c⟩
noncomputable def ddN (d : Nat → Nat) (sd : Int32) : Nat → (Nat → Nat) × Int32
  | 0 => (d, sd)
  | n + 1 => (oneD (drwN (ddN d sd n).1 (ddN d sd n).2 (d 2)).1, (drwN (ddN d sd n).1 (ddN d sd n).2 (d 2)).2)
theorem ddN_ok {d : Nat → Nat} (g : GD d) (sd : Int32) : ∀ n, d 24 + n ≤ 400 → GD (ddN d sd n).1 ∧ KH d (ddN d sd n).1 ∧ (ddN d sd n).1 24 = d 24 + n := by
  intro n
  induction n with
  | zero => intro _; exact ⟨g, KH.refl d, rfl⟩
  | succ n ih =>
    intro h
    obtain ⟨a, b, c⟩ := ih (by omega)
    obtain ⟨a', b', c'⟩ := drwN_ok a (ddN d sd n).2 (d 2)
    refine ⟨⟨oneD_DI a'.1 (by omega), oneD_DT a'.1 a'.2⟩, (b.trans b').trans (KH_oneD a'.1.N), ?_⟩
    show oneD (drwN (ddN d sd n).1 (ddN d sd n).2 (d 2)).1 24 = _
    unfold oneD; rw [up_s]; omega
theorem m_drawDays_v (s : Rec) {d : Nat → Nat} (g : GD d) (sd : Int32) {n : Nat} (hn : n ≤ 60) : m_drawDays (sB s 14 (RF d)) (nI n) sd = some (nI (min n (400 - d 24)), sB (sI s 35 (ddN d sd (min n (400 - d 24))).2) 14 (RF (ddN d sd (min n (400 - d 24))).1)) := by
  have h2 := g.1.day
  unfold m_drawDays
  rw [LT, sI_B]
  have e : m_least (nI n) ((400 : Int32) - (gA (sB (sI s 35 sd) 14 (RF d)) 14 24)) = some (nI (min n (400 - d 24))) := by
    rw [gA_sBs, RF_a (by omega), show (400 : Int32) = nI 400 from rfl, pk_sub h2, m_least_v _ _ (by omega) (by omega)]
  rw [e, BD_some]
  refine LP2_run (fun i => nI i) (fun i => sB (sI s 35 (ddN d sd i).2) 14 (RF (ddN d sd i).1)) 0 (min n (400 - d 24)) (by omega) rfl rfl (fun i _ hi rec => ?_) (fun rec => ?_)
  · obtain ⟨a, b, c⟩ := ddN_ok g sd i (by omega)
    (obtain ⟨F, hFU⟩ : ∃ F, FU = F := ⟨_, rfl⟩; rw [hFU]; simp (disch := omega) only [Nat.zero_add, LT, BD_some, BD2_some, JN1, JN2, IX_nI, nI_add, pk_mul, pk_sub, leT, leF, ltT, ltF, eqT, eqF, M1_lit, bI_true, bI_false, BZ_n0, BZ_n1, BZ_b, ↓reduceIte, l_0, l_1, l_2, l_3, l_4, l_5, l_6, l_7, l_8, l_9, l_10, l_11, l_12, l_13, l_14, l_15, l_16, l_17, l_18, l_19, l_20, l_21, l_22, l_23, l_24, l_25, l_26, l_27, l_28, l_29, l_30, l_31, l_32, l_33, l_34, l_35, l_36, l_37, l_38, l_39, l_40, l_41, l_42, l_43, l_44, l_45, l_46, l_47, l_48, l_49, l_50, l_51, l_52, l_53, l_54, l_55, l_56, l_57, l_58, l_59, l_60, l_61, l_62, l_63, l_64, l_72, l_74, l_86, l_97, l_99, l_100, l_122, l_140, l_158, l_160, l_164, l_200, l_240, l_255, l_400, l_406, l_900, l_940, l_980, l_999, l_1120, l_1000, l_100000]; rw [← hFU])
    have hQ := a.1.Q
    have e2 : (ddN d sd i).1 2 = d 2 := b.1 2 (by omega)
    refine LP2_run (fun j => nI j) (fun j => sB (sI s 35 (drwN (ddN d sd i).1 (ddN d sd i).2 j).2) 14 (RF (drwN (ddN d sd i).1 (ddN d sd i).2 j).1)) 0 (d 2) (by omega) rfl rfl (fun j _ hj rec2 => ?_) (fun rec2 => ?_)
    · obtain ⟨a', b', c'⟩ := drwN_ok a (ddN d sd i).2 j
      have e3 : (drwN (ddN d sd i).1 (ddN d sd i).2 j).1 2 = d 2 := (b'.1 2 (by omega)).trans e2
      simp (disch := omega) only [Nat.zero_add, LT, BD_some, BD2_some, JN1, JN2, IX_nI, nI_add, pk_mul, pk_sub, leT, leF, ltT, ltF, eqT, eqF, M1_lit, bI_true, bI_false, BZ_n0, BZ_n1, BZ_b, ↓reduceIte, l_0, l_1, l_2, l_3, l_4, l_5, l_6, l_7, l_8, l_9, l_10, l_11, l_12, l_13, l_14, l_15, l_16, l_17, l_18, l_19, l_20, l_21, l_22, l_23, l_24, l_25, l_26, l_27, l_28, l_29, l_30, l_31, l_32, l_33, l_34, l_35, l_36, l_37, l_38, l_39, l_40, l_41, l_42, l_43, l_44, l_45, l_46, l_47, l_48, l_49, l_50, l_51, l_52, l_53, l_54, l_55, l_56, l_57, l_58, l_59, l_60, l_61, l_62, l_63, l_64, l_72, l_74, l_86, l_97, l_99, l_100, l_122, l_140, l_158, l_160, l_164, l_200, l_240, l_255, l_400, l_406, l_900, l_940, l_980, l_999, l_1120, l_1000, l_100000, gA_sBs, RF_a, e3, m_drawsFor_v s a']
      rfl
    · obtain ⟨a', b', c'⟩ := drwN_ok a (ddN d sd i).2 (d 2)
      have e3 : (drwN (ddN d sd i).1 (ddN d sd i).2 (d 2)).1 2 = d 2 := (b'.1 2 (by omega)).trans e2
      simp (disch := omega) only [Nat.zero_add, LT, BD_some, BD2_some, JN1, JN2, IX_nI, nI_add, pk_mul, pk_sub, leT, leF, ltT, ltF, eqT, eqF, M1_lit, bI_true, bI_false, BZ_n0, BZ_n1, BZ_b, ↓reduceIte, l_0, l_1, l_2, l_3, l_4, l_5, l_6, l_7, l_8, l_9, l_10, l_11, l_12, l_13, l_14, l_15, l_16, l_17, l_18, l_19, l_20, l_21, l_22, l_23, l_24, l_25, l_26, l_27, l_28, l_29, l_30, l_31, l_32, l_33, l_34, l_35, l_36, l_37, l_38, l_39, l_40, l_41, l_42, l_43, l_44, l_45, l_46, l_47, l_48, l_49, l_50, l_51, l_52, l_53, l_54, l_55, l_56, l_57, l_58, l_59, l_60, l_61, l_62, l_63, l_64, l_72, l_74, l_86, l_97, l_99, l_100, l_122, l_140, l_158, l_160, l_164, l_200, l_240, l_255, l_400, l_406, l_900, l_940, l_980, l_999, l_1120, l_1000, l_100000, gA_sBs, RF_a, e3, m_oneDay_v _ a'.1]
      rfl
  · simp (disch := omega) only [Nat.zero_add, LT, BD_some, BD2_some, JN1, JN2, IX_nI, nI_add, pk_mul, pk_sub, leT, leF, ltT, ltF, eqT, eqF, M1_lit, bI_true, bI_false, BZ_n0, BZ_n1, BZ_b, ↓reduceIte, l_0, l_1, l_2, l_3, l_4, l_5, l_6, l_7, l_8, l_9, l_10, l_11, l_12, l_13, l_14, l_15, l_16, l_17, l_18, l_19, l_20, l_21, l_22, l_23, l_24, l_25, l_26, l_27, l_28, l_29, l_30, l_31, l_32, l_33, l_34, l_35, l_36, l_37, l_38, l_39, l_40, l_41, l_42, l_43, l_44, l_45, l_46, l_47, l_48, l_49, l_50, l_51, l_52, l_53, l_54, l_55, l_56, l_57, l_58, l_59, l_60, l_61, l_62, l_63, l_64, l_72, l_74, l_86, l_97, l_99, l_100, l_122, l_140, l_158, l_160, l_164, l_200, l_240, l_255, l_400, l_406, l_900, l_940, l_980, l_999, l_1120, l_1000, l_100000]
theorem x4_draws_v {e z : Rec} {d : Nat → Nat} (he : HS e d) (hz : ZS z d) (g : GD d) (sd : Int32) {n : Nat} (hn : n ≤ 60) : ∃ z', x4_draws z e (nI n) sd = some (nI (min n (400 - d 24)), z') ∧ ZS z' (ddN d sd (min n (400 - d 24))).1 := by
  have h2 := g.1.day
  unfold x4_draws
  rw [LT]
  refine LP2_inv (fun i v y => v = nI i ∧ ZS y (ddN d sd i).1 ∧ gI y 9 = (ddN d sd i).2) (fun o => ∃ z', o = some (nI (min n (400 - d 24)), z') ∧ ZS z' (ddN d sd (min n (400 - d 24))).1) (min n (400 - d 24)) (by omega) ⟨rfl, ZS_seed hz _, gI_sIs _ _ _⟩ (fun i v y rec hi hI => Or.inl ?_) (fun v y rec hI => ?_)
  · obtain ⟨rfl, hy, hy9⟩ := hI
    obtain ⟨a, b, c⟩ := ddN_ok g sd i (by omega)
    have y7 := hy.1
    rw [c] at y7
    have hQ := a.1.Q
    have e2 : (ddN d sd i).1 2 = d 2 := b.1 2 (by omega)
    have e9 : gI e 9 = nI (d 2) := he.2.2.1
    (obtain ⟨F, hFU⟩ : ∃ F, FU = F := ⟨_, rfl⟩; rw [hFU]; simp (disch := omega) only [Nat.zero_add, LT, BD_some, BD2_some, JN1, JN2, IX_nI, nI_add, pk_mul, pk_sub, leT, leF, ltT, ltF, eqT, eqF, M1_lit, bI_true, bI_false, BZ_n0, BZ_n1, BZ_b, ↓reduceIte, l_0, l_1, l_2, l_3, l_4, l_5, l_6, l_7, l_8, l_9, l_10, l_11, l_12, l_13, l_14, l_15, l_16, l_17, l_18, l_19, l_20, l_21, l_22, l_23, l_24, l_25, l_26, l_27, l_28, l_29, l_30, l_31, l_32, l_33, l_34, l_35, l_36, l_37, l_38, l_39, l_40, l_41, l_42, l_43, l_44, l_45, l_46, l_47, l_48, l_49, l_50, l_51, l_52, l_53, l_54, l_55, l_56, l_57, l_58, l_59, l_60, l_61, l_62, l_63, l_64, l_72, l_74, l_86, l_97, l_99, l_100, l_122, l_140, l_158, l_160, l_164, l_200, l_240, l_255, l_400, l_406, l_900, l_940, l_980, l_999, l_1120, l_1000, l_100000, y7]; rw [← hFU])
    refine LP2_inv (fun j v x => v = nI j ∧ ZS x (drwN (ddN d sd i).1 (ddN d sd i).2 j).1 ∧ gI x 9 = (drwN (ddN d sd i).1 (ddN d sd i).2 j).2) (fun o => ∃ (b1 : Int32) (b2 : Rec), (b1 = nI (i + 1) ∧ ZS b2 (ddN d sd (i + 1)).1 ∧ gI b2 9 = (ddN d sd (i + 1)).2) ∧ o = rec b1 b2) (d 2) (by omega) ⟨rfl, hy, hy9⟩ (fun j v x rec2 hj hJ => Or.inl ?_) (fun v x rec2 hJ => ?_)
    · obtain ⟨rfl, hx, hx9⟩ := hJ
      obtain ⟨a', b', c'⟩ := drwN_ok a (ddN d sd i).2 j
      obtain ⟨z', k1, k2, k3⟩ := x4_drawPerson_v (he.keep (b.trans b')) hx a' hx9 j
      refine ⟨nI (j + 1), z', ⟨rfl, k2, k3⟩, ?_⟩
      simp (disch := omega) only [Nat.zero_add, LT, BD_some, BD2_some, JN1, JN2, IX_nI, nI_add, pk_mul, pk_sub, leT, leF, ltT, ltF, eqT, eqF, M1_lit, bI_true, bI_false, BZ_n0, BZ_n1, BZ_b, ↓reduceIte, l_0, l_1, l_2, l_3, l_4, l_5, l_6, l_7, l_8, l_9, l_10, l_11, l_12, l_13, l_14, l_15, l_16, l_17, l_18, l_19, l_20, l_21, l_22, l_23, l_24, l_25, l_26, l_27, l_28, l_29, l_30, l_31, l_32, l_33, l_34, l_35, l_36, l_37, l_38, l_39, l_40, l_41, l_42, l_43, l_44, l_45, l_46, l_47, l_48, l_49, l_50, l_51, l_52, l_53, l_54, l_55, l_56, l_57, l_58, l_59, l_60, l_61, l_62, l_63, l_64, l_72, l_74, l_86, l_97, l_99, l_100, l_122, l_140, l_158, l_160, l_164, l_200, l_240, l_255, l_400, l_406, l_900, l_940, l_980, l_999, l_1120, l_1000, l_100000, e9, k1]
    · obtain ⟨rfl, hx, hx9⟩ := hJ
      obtain ⟨a', b', c'⟩ := drwN_ok a (ddN d sd i).2 (d 2)
      obtain ⟨z', k1, k2, k3⟩ := x4_goOn_v (he.keep (b.trans b')) hx a'.1
      refine ⟨nI (i + 1), z', ⟨rfl, k2, k3.trans hx9⟩, ?_⟩
      simp (disch := omega) only [Nat.zero_add, LT, BD_some, BD2_some, JN1, JN2, IX_nI, nI_add, pk_mul, pk_sub, leT, leF, ltT, ltF, eqT, eqF, M1_lit, bI_true, bI_false, BZ_n0, BZ_n1, BZ_b, ↓reduceIte, l_0, l_1, l_2, l_3, l_4, l_5, l_6, l_7, l_8, l_9, l_10, l_11, l_12, l_13, l_14, l_15, l_16, l_17, l_18, l_19, l_20, l_21, l_22, l_23, l_24, l_25, l_26, l_27, l_28, l_29, l_30, l_31, l_32, l_33, l_34, l_35, l_36, l_37, l_38, l_39, l_40, l_41, l_42, l_43, l_44, l_45, l_46, l_47, l_48, l_49, l_50, l_51, l_52, l_53, l_54, l_55, l_56, l_57, l_58, l_59, l_60, l_61, l_62, l_63, l_64, l_72, l_74, l_86, l_97, l_99, l_100, l_122, l_140, l_158, l_160, l_164, l_200, l_240, l_255, l_400, l_406, l_900, l_940, l_980, l_999, l_1120, l_1000, l_100000, e9, k1]
  · obtain ⟨rfl, hy, hy9⟩ := hI
    obtain ⟨a, b, c⟩ := ddN_ok g sd (min n (400 - d 24)) (by omega)
    have y7 := hy.1
    rw [c] at y7
    refine ⟨y, ?_, hy⟩
    by_cases c' : n ≤ min n (400 - d 24)
    · simp (disch := omega) only [Nat.zero_add, LT, BD_some, BD2_some, JN1, JN2, IX_nI, nI_add, pk_mul, pk_sub, leT, leF, ltT, ltF, eqT, eqF, M1_lit, bI_true, bI_false, BZ_n0, BZ_n1, BZ_b, ↓reduceIte, l_0, l_1, l_2, l_3, l_4, l_5, l_6, l_7, l_8, l_9, l_10, l_11, l_12, l_13, l_14, l_15, l_16, l_17, l_18, l_19, l_20, l_21, l_22, l_23, l_24, l_25, l_26, l_27, l_28, l_29, l_30, l_31, l_32, l_33, l_34, l_35, l_36, l_37, l_38, l_39, l_40, l_41, l_42, l_43, l_44, l_45, l_46, l_47, l_48, l_49, l_50, l_51, l_52, l_53, l_54, l_55, l_56, l_57, l_58, l_59, l_60, l_61, l_62, l_63, l_64, l_72, l_74, l_86, l_97, l_99, l_100, l_122, l_140, l_158, l_160, l_164, l_200, l_240, l_255, l_400, l_406, l_900, l_940, l_980, l_999, l_1120, l_1000, l_100000, y7]
    · simp (disch := omega) only [Nat.zero_add, LT, BD_some, BD2_some, JN1, JN2, IX_nI, nI_add, pk_mul, pk_sub, leT, leF, ltT, ltF, eqT, eqF, M1_lit, bI_true, bI_false, BZ_n0, BZ_n1, BZ_b, ↓reduceIte, l_0, l_1, l_2, l_3, l_4, l_5, l_6, l_7, l_8, l_9, l_10, l_11, l_12, l_13, l_14, l_15, l_16, l_17, l_18, l_19, l_20, l_21, l_22, l_23, l_24, l_25, l_26, l_27, l_28, l_29, l_30, l_31, l_32, l_33, l_34, l_35, l_36, l_37, l_38, l_39, l_40, l_41, l_42, l_43, l_44, l_45, l_46, l_47, l_48, l_49, l_50, l_51, l_52, l_53, l_54, l_55, l_56, l_57, l_58, l_59, l_60, l_61, l_62, l_63, l_64, l_72, l_74, l_86, l_97, l_99, l_100, l_122, l_140, l_158, l_160, l_164, l_200, l_240, l_255, l_400, l_406, l_900, l_940, l_980, l_999, l_1120, l_1000, l_100000, y7]
