/-! PURE: a house is read: the whole -/
theorem tape_ex {c m : Rec} (h : ∀ i, i < 940 → TB (gA m 1 i) (gA c 0 i)) : ∃ T, TPE T c m := by
  refine ⟨fun i => if hi : i < 940 then Classical.choose (h i hi) else 0, fun i hi => ?_⟩
  have := Classical.choose_spec (h i hi)
  dsimp only
  rw [dif_pos hi]
  exact this
/-- the model's record as it is when reading begins -/
def mBg (m : Rec) (j k : Nat) : Rec := sI (sI (sI (sI (sI (sI m 0 0) 2 0) 3 (nI k)) 4 (mo j)) 10 0) 5 0
theorem begin_v {m c1 : Rec} {T : Nat → Nat} {k : Nat} (j : Nat) (hT : TPE T c1 m) (hk : k ≤ 940) (k2 : gI m 2 = nI k) (c2 : gI c1 2 = nI k) : ∃ c' m' p a kk v l, x5_begin j c1 = some c' ∧ m_begin m (mo j) = some m' ∧ FR2 c1 c' ∧ FRn (mBg m j k) m' ∧ TPE T c' m' ∧ LX j T k c' m' p a kk v l := by
  have hr := rb_in j
  have tp1 : TPE T (sI c1 (rb j + 1) 0) (mBg m j k) := hT
  obtain ⟨c', m', p', a, kk, v, l, f1, f2, f3, f4, f5, -⟩ := lex_v (j := j) (N := k) (c := sI c1 (rb j + 1) 0) (m := mBg m j k) (p := 0) tp1 hk (by rw [gI_sIn _ _ (by omega)]; exact c2) rfl rfl (gI_sIs _ _ _) rfl (by omega) rfl
  have F : FR2 c1 c' := by
    have g := f3.fr2
    exact ⟨g.1, g.2.1, fun q hq => (g.2.2 q hq).trans (gI_sIn _ _ (by omega))⟩
  refine ⟨c', m', p', a, kk, v, l, ?_, ?_, F, f4, f3.fr2.tpe f4.fm2 tp1, f5⟩
  · unfold x5_begin
    rw [LT, f1, BD_some]
  · unfold m_begin m_take
    rw [LT, LT, BD2_some, LT, LT, LT, LT, gI_sIn _ _ (by omega), k2]
    show BD (m_go (mBg m j k)) _ = _
    rw [f2, BD_some]
/-- the model's end: the row told becomes what is -/
theorem mE_v (v : Int32) (s : Rec) {h d : Nat → Nat} (h15 : ∀ k, k < 24 → gA s 15 k = nI (h k)) (h14 : gA s 14 = RF d) : mE v s = some (v, sI (sB (sM s 19 (va_cpy (gL s 20) (gL s 19) 0 0 20)) 14 (RF (startD (va_cpy h d 0 0 24)))) 24 0) := by
  unfold mE
  refine LP2_run (fun i => nI i) (fun i => sB s 14 (va_cpy (gA s 15) (gA s 14) 0 0 i)) 0 24 (by omega) rfl (by rw [cpy_0, sB_id]) (fun i _ hi rec => ?_) (fun rec => ?_)
  · have e := cpy_s (gA s 15) (gA s 14) 0 0 i
    rw [Nat.zero_add] at e
    simp (disch := omega) only [Nat.zero_add, LT, BD_some, BD2_some, JN1, JN2, IX_nI, nI_add, pk_mul, pk_sub, leT, leF, ltT, ltF, eqT, eqF, M1_lit, bI_true, bI_false, BZ_n0, BZ_n1, BZ_b, ↓reduceIte, l_0, l_1, l_2, l_3, l_4, l_5, l_6, l_7, l_8, l_9, l_10, l_11, l_12, l_13, l_14, l_15, l_16, l_17, l_18, l_19, l_20, l_21, l_22, l_23, l_24, l_25, l_26, l_27, l_28, l_29, l_30, l_31, l_32, l_33, l_34, l_35, l_36, l_37, l_38, l_39, l_40, l_41, l_42, l_43, l_44, l_45, l_46, l_47, l_48, l_49, l_50, l_51, l_52, l_53, l_54, l_55, l_56, l_57, l_58, l_59, l_60, l_61, l_62, l_63, l_64, l_72, l_74, l_86, l_97, l_99, l_100, l_122, l_140, l_158, l_160, l_164, l_200, l_240, l_255, l_400, l_406, l_900, l_940, l_980, l_999, l_1120, l_1000, l_100000, gA_sBn, sA_sB, e]
  · refine (if_pos (show (24 : Int32) ≤ nI (0 + 24) by decide)).trans ?_
    rw [Nat.zero_add, h14, RF_cpy (e := h) (fun k hk => by rw [Nat.zero_add, h15 k hk, RF_a (by omega)])]
    have h19 : gL (sB s 14 (RF (va_cpy h d 0 0 24))) 19 = gL s 19 := rfl
    have h20 : gL (sB s 14 (RF (va_cpy h d 0 0 24))) 20 = gL s 20 := rfl
    have e0 : sI (sB (sM s 19 (va_cpy (gL s 20) (gL s 19) 0 0 20)) 14 (RF (startD (va_cpy h d 0 0 24)))) 24 0 = sI (sB (sM (sB s 14 (RF (va_cpy h d 0 0 24))) 19 (va_cpy (gL s 20) (gL s 19) 0 0 20)) 14 (RF (startD (va_cpy h d 0 0 24)))) 24 0 := by
      have : sB (sM (sB s 14 (RF (va_cpy h d 0 0 24))) 19 (va_cpy (gL s 20) (gL s 19) 0 0 20)) 14 (RF (startD (va_cpy h d 0 0 24))) = sB (sB (sM s 19 (va_cpy (gL s 20) (gL s 19) 0 0 20)) 14 (RF (va_cpy h d 0 0 24))) 14 (RF (startD (va_cpy h d 0 0 24))) := rfl
      rw [this, sB_sB]
    have es : ∀ S, sB (sM (sB s 14 (RF (va_cpy h d 0 0 24))) 19 S) 14 (RF (va_cpy h d 0 0 24)) = sM (sB s 14 (RF (va_cpy h d 0 0 24))) 19 S := fun S => by
      have : sB (sM (sB s 14 (RF (va_cpy h d 0 0 24))) 19 S) 14 (RF (va_cpy h d 0 0 24)) = sM (sB (sB s 14 (RF (va_cpy h d 0 0 24))) 14 (RF (va_cpy h d 0 0 24))) 19 S := rfl
      rw [this, sB_sB]
    rw [e0]
    generalize sB s 14 (RF (va_cpy h d 0 0 24)) = S at h19 h20 es ⊢
    rw [← h19, ← h20]
    refine LP2_run (fun i => nI i) (fun i => sM S 19 (va_cpy (gL S 20) (gL S 19) 0 0 i)) 0 20 (by omega) rfl (by rw [cpy_0, sM_id]) (fun i _ hi rec => ?_) (fun rec => ?_)
    · have e := cpy_s (gL S 20) (gL S 19) 0 0 i
      rw [Nat.zero_add] at e
      simp (disch := omega) only [Nat.zero_add, LT, BD_some, BD2_some, JN1, JN2, IX_nI, nI_add, pk_mul, pk_sub, leT, leF, ltT, ltF, eqT, eqF, M1_lit, bI_true, bI_false, BZ_n0, BZ_n1, BZ_b, ↓reduceIte, l_0, l_1, l_2, l_3, l_4, l_5, l_6, l_7, l_8, l_9, l_10, l_11, l_12, l_13, l_14, l_15, l_16, l_17, l_18, l_19, l_20, l_21, l_22, l_23, l_24, l_25, l_26, l_27, l_28, l_29, l_30, l_31, l_32, l_33, l_34, l_35, l_36, l_37, l_38, l_39, l_40, l_41, l_42, l_43, l_44, l_45, l_46, l_47, l_48, l_49, l_50, l_51, l_52, l_53, l_54, l_55, l_56, l_57, l_58, l_59, l_60, l_61, l_62, l_63, l_64, l_72, l_74, l_86, l_97, l_99, l_100, l_122, l_140, l_158, l_160, l_164, l_200, l_240, l_255, l_400, l_406, l_900, l_940, l_980, l_999, l_1120, l_1000, l_100000, gL_sMn, sL_sM, e]
    · refine (if_pos (show (20 : Int32) ≤ nI (0 + 20) by decide)).trans ?_
      rw [Nat.zero_add, ← es, m_startSo_v, BD_some, LT, sB_sB]
theorem GD_start {h d : Nat → Nat} (hd : DH h) (hp : ∀ p, p < h 1 → h (11 + p) < h 0) : GD (startD (va_cpy h d 0 0 24)) ∧ (∀ k, k < 24 → startD (va_cpy h d 0 0 24) k = h k) := by
  have k0 : ∀ k, k < 24 → startD (va_cpy h d 0 0 24) k = h k := fun k hk => by
    rw [startD_lo (by omega), pk_cpy_in (by omega) (by omega)]; congr 1; omega
  have k1 : ∀ k, 24 ≤ k → k < 406 → (k < 26 ∨ 32 ≤ k) → startD (va_cpy h d 0 0 24) k = 0 := fun k h1 h2 h3 => startD_0 h1 h2 h3
  have hN := hd.2.1
  refine ⟨⟨⟨DH_ext hd k0, ?_, ?_, fun q hq => ?_, fun q hq => ?_, fun i hi => ?_, fun q i hq hi => ?_, fun q hq => ?_⟩, fun q i hq hi => ?_, fun q i hq hi h3 => ?_, fun q i hq hi => ?_, fun q hq => ?_⟩, k0⟩
  · rw [k1 _ (by omega) (by omega) (by omega)]; omega
  · rw [k1 _ (by omega) (by omega) (by omega)]; omega
  · rw [k0 _ (by omega)] at hq
    rw [k0 0 (by omega), startD_pl (by omega), pk_cpy_in (by omega) (by omega)]
    have := hp q hq
    rw [show 0 + (11 + q - 0) = 11 + q by omega]; exact this
  · rw [k1 _ (by omega) (by omega) (by omega)]; omega
  · rw [k1 _ (by omega) (by omega) (by omega)]; omega
  · rw [k1 _ (by omega) (by omega) (by omega)]; omega
  · rw [k1 _ (by omega) (by omega) (by omega)]; omega
  · rw [k1 _ (by omega) (by omega) (by omega)]; omega
  · rw [k1 _ (by omega) (by omega) (by omega)]
  · rw [k1 25 (by omega) (by omega) (by omega)] at hi; omega
  · rw [k1 (158 + q) (by omega) (by omega) (by omega), k1 25 (by omega) (by omega) (by omega)]; rfl
section OPS
variable {x : Nat} {G : Wd} {m c : Rec} {b : Nat} {e z : Rec} {d : Nat → Nat} {ow : Nat → Nat} {n : Nat} {U : Nat → Nat → Nat}
/-- a new house is told -/
theorem RR.housed (h : RR x G m c b e z d ow n U) {G' : Wd} {c' m' e' z' : Rec} {b' : Nat} {d' : Nat → Nat}
    (hx : G'.2 x = some (0, c')) (hb' : G'.2 b' = some (2, e')) (hz' : G'.2 (x + 13) = some (3, z')) (hs : ∀ a kd r, a ≠ x → a ≠ x + 13 → G.2 a = some (kd, r) → G'.2 a = some (kd, r)) (hno : ∀ a, G'.1 ≤ a → G'.2 a = none)
    (p6 : gP c' 6 = some b') (p31 : gP c' 31 = none) (q12 : gQ c' 12 = gQ c 12) (q32 : gQ c' 32 = gQ c 32) (i13 : gI c' 13 = 0) (i24 : gI m' 24 = 0)
    (hH : HS e' d') (hNM : NM e' (gL m' 19) d') (hZ : ZS z' d') (hG : GD d') (a14 : gA m' 14 = RF d') (d164 : d' 164 = 0) (hM : MS c' m') (l21 : gL m' 21 = gL m 21) (a16 : gA m' 16 = gA m 16) (a22 : gA m' 22 = gA m 22) :
    RR x G' m' c' b' e' z' d' ow 0 U := by
  obtain ⟨⟨b1, b2, b3, b4, ⟨yt, b5⟩, b6⟩, ⟨s1, s2, s3, s4, s5⟩, -, ⟨u1, u2, u3, u4, u5, u6, u7, u8, u9⟩, hI, hS⟩ := h
  have L : ∀ {a kd : Nat} {r0 : Rec}, G.2 a = some (kd, r0) → kd ≠ 0 → kd ≠ 3 → G'.2 a = some (kd, r0) := fun {a kd r0} h1 h2 h3 => hs a kd r0 (kd_ne h1 b1 h2) (kd_ne h1 b4 h3) h1
  have L3 : ∀ {a : Nat} {r0 : Rec}, G.2 a = some (3, r0) → ow a ≠ 0 → G'.2 a = some (3, r0) := fun {a r0} h1 h2 => hs a 3 r0 (kd_ne h1 b1 (by omega)) (fun e => by rw [e, u8] at h2; exact h2 rfl) h1
  have hF : FX G G' := fun a kd r0 hk ha => L ha (by omega) (by omega)
  refine ⟨⟨hx, p6, hb', hz', ⟨yt, L3 b5 (by omega)⟩, hno⟩, ⟨hH, hNM, hZ, hG, a14⟩, hM, ⟨by omega, i13, i24, fun i hi => absurd hi (Nat.not_lt_zero i), fun i hi => absurd hi (Nat.not_lt_zero i), fun i hi => absurd hi (Nat.not_lt_zero i), fun i hi a ha => ?_, u8, u9⟩, fun j hj => ?_, Or.inl ⟨p31, d164⟩⟩
  · rw [q12] at ha
    obtain ⟨⟨zi, a1⟩, a2⟩ := u7 i hi a ha
    exact ⟨⟨zi, L3 a1 (by omega)⟩, a2⟩
  · exact IM1_ext hj (hI j hj) (by rw [q32]) (by rw [a22]) (fun _ _ => by rw [a16]) (fun _ _ => by rw [l21]) hF (fun a r0 _ h1 h2 => ⟨L h2 (by omega) (by omega), h1⟩) (fun a r0 h1 h2 => ⟨L3 h2 (by omega), h1⟩)
/-- single fields, when something was read -/
theorem MS_read {c m c' m' : Rec} {f : Int32} (h : MS c m) (cA : ∀ k, k < 40 → gA c' k = gA c k) (cI : ∀ k, k < 40 → k ≠ 1 → k ≠ 2 → k ≠ 11 → k ≠ 13 → gI c' k = gI c k) (c1 : gI c' 1 = 0) (c11 : gI c' 11 = f) (mA : ∀ k, (k = 1 ∨ (28 ≤ k ∧ k ≤ 37 ∧ k ≠ 36)) → gA m' k = gA m k) (mI : ∀ k, 25 ≤ k → k ≤ 39 → k ≠ 38 → gI m' k = gI m k) (m2 : gI m' 2 = 0) (m10 : gI m' 10 = f) : MS c' m' := by
  obtain ⟨w1, w2, w3, w4, w5, w6, w7, w8, w9⟩ := h
  unfold MS
  rw [cA 0 (by omega), cA 19 (by omega), cA 26 (by omega), cA 28 (by omega), cI 15 (by omega) (by omega) (by omega) (by omega) (by omega), cI 14 (by omega) (by omega) (by omega) (by omega) (by omega), cI 17 (by omega) (by omega) (by omega) (by omega) (by omega), cI 16 (by omega) (by omega) (by omega) (by omega) (by omega), cI 20 (by omega) (by omega) (by omega) (by omega) (by omega), cI 25 (by omega) (by omega) (by omega) (by omega) (by omega), cI 21 (by omega) (by omega) (by omega) (by omega) (by omega), cI 22 (by omega) (by omega) (by omega) (by omega) (by omega), cI 23 (by omega) (by omega) (by omega) (by omega) (by omega), cI 27 (by omega) (by omega) (by omega) (by omega) (by omega), cI 29 (by omega) (by omega) (by omega) (by omega) (by omega), mA 1 (by omega), mA 28 (by omega), mA 30 (by omega), mA 33 (by omega), mA 37 (by omega), mI 25 (by omega) (by omega) (by omega), mI 26 (by omega) (by omega) (by omega), mI 29 (by omega) (by omega) (by omega), mI 31 (by omega) (by omega) (by omega), mI 34 (by omega) (by omega) (by omega), mI 39 (by omega) (by omega) (by omega), c1, c11, m2, m10]
  exact ⟨w1, ⟨0, by omega, rfl, rfl⟩, rfl, w4, w5, w6, w7, w8, w9⟩
def h0D : Nat → Nat := fun k => if k = 4 then 6 else if k = 5 then 2 else 0
theorem HR_0 {c' m' : Rec} {b' : Nat} (p : gP c' 108 = some b') (i : gI c' 109 = 0) (h15 : ∀ k, k < 24 → gA m' 15 k = nI (h0D k)) (h23 : gA m' 23 0 = 0) (h23' : gA m' 23 1 = 0) : HR b' c' zH m' h0D false false := by
  refine ⟨p, ⟨rfl, rfl, rfl, rfl, rfl, rfl, rfl, fun l hl => ?_, fun l hl => ?_, fun l hl => ?_⟩, ⟨fun i hi => ?_, fun i hi => ?_, fun i hi => ?_, fun i hi => ?_⟩, ⟨?_, ?_, ?_, ?_, ⟨?_, ?_⟩, ⟨?_, ?_⟩, fun l hl => ?_, fun p hp => ?_, fun p hp => ?_, ?_⟩, fun p hp => ?_, h15, ⟨0, by omega, i, rfl, rfl⟩, h23, h23'⟩
  · show (0 : Int32) = nI (h0D (6 + l)); unfold h0D; rw [if_neg (by omega), if_neg (by omega)]; rfl
  · show (0 : Int32) = nI (h0D (11 + l)); unfold h0D; rw [if_neg (by omega), if_neg (by omega)]; rfl
  · show (0 : Int32) = nI (h0D (17 + l)); unfold h0D; rw [if_neg (by omega), if_neg (by omega)]; rfl
  · exact absurd hi (Nat.not_lt_zero i)
  · exact absurd hi (Nat.not_lt_zero i)
  · exact absurd hi (Nat.not_lt_zero i)
  · exact absurd hi (Nat.not_lt_zero i)
  · decide
  · decide
  · decide
  · decide
  · decide
  · decide
  · decide
  · decide
  · unfold h0D; rw [if_neg (by omega), if_neg (by omega)]; exact Nat.two_pow_pos _
  · exact absurd hp (Nat.not_lt_zero p)
  · unfold h0D; rw [if_neg (by omega), if_neg (by omega)]; omega
  · decide
  · exact absurd hp (Nat.not_lt_zero p)
theorem m_house_0 {m s2 : Rec} (hb : m_begin m 900 = some s2) : ∃ s9, m_house m = LP2 mB FU (0 : Int32) s9 ∧ FMh s2 s9 ∧ gA s9 1 = gA s2 1 ∧ (∀ k, gI s9 k = gI s2 k) ∧ (∀ k, gJ s9 k = gJ s2 k) ∧ (∀ k, k < 24 → gA s9 15 k = nI (h0D k)) ∧ gA s9 23 0 = 0 ∧ gA s9 23 1 = 0 := by
  refine ⟨sA (sA (sA (sA (sB s2 15 (fun q => if q < 24 then 0 else gA s2 15 q)) 23 0 0) 23 1 0) 15 4 6) 15 5 2, ?_, ?_, ?_, ?_, ?_, ?_, ?_, ?_⟩
  · rw [m_house_B, hb, BD_some]
    refine LP2_run (fun i => nI i) (fun i => sB s2 15 (fun q => if q < i then 0 else gA s2 15 q)) 0 24 (by omega) rfl ?_ (fun i _ hi rec => ?_) (fun rec => ?_)
    · have : (fun q => if q < 0 then 0 else gA s2 15 q) = gA s2 15 := by funext q; rw [if_neg (by omega)]
      rw [this, sB_id]
    · have e : va_up (fun q => if q < i then 0 else gA s2 15 q) i 0 = (fun q => if q < i + 1 then 0 else gA s2 15 q) := by
        funext q
        by_cases h : q = i
        · subst h; rw [up_s, if_pos (by omega)]
        · rw [up_n _ _ h]
          by_cases h2 : q < i
          · rw [if_pos h2, if_pos (by omega)]
          · rw [if_neg h2, if_neg (by omega)]
      show (if (24 : Int32) ≤ nI i then _ else _) = _
      rw [if_neg (show ¬ (24 : Int32) ≤ nI i from nI_ge (b := 24) (by omega) (by omega)), IX_nI _ (by omega) (by omega), LT, sA_sB, e, nI_1]
    · refine (if_pos (show (24 : Int32) ≤ nI (0 + 24) by decide)).trans ?_
      rw [Nat.zero_add, LT, LT, LT, LT]
  · refine ⟨fun k h1 h2 => ?_, fun k hk => rfl, fun k hk => rfl⟩
    rw [gA_sAn _ _ _ h1, gA_sAn _ _ _ h1, gA_sAn _ _ _ h2, gA_sAn _ _ _ h2, gA_sBn _ _ h1]
  · rfl
  · intro k; rfl
  · intro k; rfl
  · intro k hk
    unfold h0D
    by_cases h5 : k = 5
    · subst h5; rw [gA_sAs]; rfl
    · rw [gA_sAi _ _ _ h5]
      by_cases h4 : k = 4
      · subst h4; rw [gA_sAs]; rfl
      · rw [gA_sAi _ _ _ h4, gA_sAn _ _ _ (by omega), gA_sAn _ _ _ (by omega), gA_sBs, if_pos hk, if_neg h4, if_neg h5]; rfl
  · rw [gA_sAn _ _ _ (by omega), gA_sAn _ _ _ (by omega), gA_sAi _ _ _ (by omega), gA_sAs]
  · rw [gA_sAn _ _ _ (by omega), gA_sAn _ _ _ (by omega), gA_sAs]
theorem op_house (h : RR x G m c b e z d ow n U) : ANS x G (x1_house G x) (m_house m) := by
  obtain ⟨w1, ⟨k, hk, k1, k2⟩, -⟩ := id h.ms
  have hM := h.ms
  obtain ⟨b1, b2, b3, b4, ⟨yt, b5⟩, b6⟩ := id h.1
  obtain ⟨T, hT⟩ := tape_ex w1
  have ng : ∀ a kd r, G.2 a = some (kd, r) → a < G.1 := fun a kd r h1 => Nat.lt_of_not_le (fun hh => by rw [b6 a hh] at h1; cases h1)
  have tk : x1_taken c = some (sI (sI c 2 (nI k)) 1 0) := by unfold x1_taken; rw [LT, LT, k1]
  have lx := ng _ _ _ b1
  have l13 := ng _ _ _ b4
  generalize hc0 : sI (sI (sI c 2 (nI k)) 1 0) 11 0 = c0
  have c0A : ∀ q, gA c0 q = gA c q := fun q => by rw [← hc0]; rfl
  have c0P : ∀ q, gP c0 q = gP c q := fun q => by rw [← hc0]; rfl
  have c0Q : ∀ q, gQ c0 q = gQ c q := fun q => by rw [← hc0]; rfl
  have c0I : ∀ q, q ≠ 1 → q ≠ 2 → q ≠ 11 → gI c0 q = gI c q := fun q h1 h2 h3 => by rw [← hc0, gI_sIn _ _ h3, gI_sIn _ _ h1, gI_sIn _ _ h2]
  have c01 : gI c0 1 = 0 := by rw [← hc0]; rfl
  have c02 : gI c0 2 = nI k := by rw [← hc0]; rfl
  have c011 : gI c0 11 = 0 := by rw [← hc0]; rfl
  -- the world with a new house
  have hw7 : ∀ a, a ≠ x → (wp (wp G x 0 (sI (sI c 2 (nI k)) 1 0)) x 0 c0).2 a = G.2 a := fun a ha => by rw [wp_wp, wp_ne ha]
  generalize hW : wf (wn (wp (wp G x 0 (sI (sI c 2 (nI k)) 1 0)) x 0 c0) 102 r0) (wp (wp G x 0 (sI (sI c 2 (nI k)) 1 0)) x 0 c0).1 2 zH 7 = W
  have W1 : W.1 = G.1 + 8 := by rw [← hW]; rfl
  have Wx : W.2 x = some (0, c0) := by
    rw [← hW]
    show (wp (wn (wp (wp G x 0 (sI (sI c 2 (nI k)) 1 0)) x 0 c0) 102 r0) G.1 2 zH).2 x = _
    rw [wp_ne (by omega)]
    show (wp (wp (wp G x 0 (sI (sI c 2 (nI k)) 1 0)) x 0 c0) G.1 102 r0).2 x = _
    rw [wp_ne (by omega)]; exact wp_at _ _ _ _
  have Wb : W.2 G.1 = some (2, zH) := by rw [← hW]; exact wp_at _ _ _ _
  have Wo : ∀ a, a ≠ x → a ≠ G.1 → W.2 a = G.2 a := fun a h1 h2 => by
    rw [← hW]
    show (wp (wn (wp (wp G x 0 (sI (sI c 2 (nI k)) 1 0)) x 0 c0) 102 r0) G.1 2 zH).2 a = _
    rw [wp_ne h2]
    show (wp (wp (wp G x 0 (sI (sI c 2 (nI k)) 1 0)) x 0 c0) G.1 102 r0).2 a = _
    rw [wp_ne h2]; exact hw7 a h1
  have eW : x1_house G x = BX2 (x6_read c0 G.1 zH) (fun s16 s17 => LT (wp (wp W G.1 2 s16) x 0 s17) (fun w20 => RD w20 x 0 (fun s21 => LT (sI s21 11 (gI s21 40)) (fun s22 => LT (wp w20 x 0 s22) (fun w23 => some (((-1 : Int32) - (gI s22 41)), w23)))))) (fun v19 s16 s17 => LT (wp (wp W G.1 2 s16) x 0 s17) (fun w18 => LT (sP s17 6 (some G.1)) (fun s24 => LT (wp w18 x 0 s24) (fun w25 => RD w25 (x + 13) 3 (fun s27 => RD w25 G.1 2 (fun s28 => BD (x4_begin s27 s28) (fun s29 => LT (wp w25 (x + 13) 3 s29) (fun w30 => RD w30 x 0 (fun s31 => LT (sI s31 13 (0 : Int32)) (fun s32 => LT (wp w30 x 0 s32) (fun w33 => LT (sP s32 31 (none : Option Nat)) (fun s34 => LT (wp w33 x 0 s34) (fun w35 => some (v19, w35)))))))))))))) := by
    unfold x1_house
    rw [RD_of _ b1, tk, BD_some, LT, LT, hc0, LT, LT, LT, LT, hW, RD_of _ Wx]
    rfl
  rw [eW, x6_read_B, LT, LT]
  -- reading begins
  obtain ⟨c', m', p, a, kk, v, l, g1, g2, g3, g4, g5, g6⟩ := begin_v (m := m) (c1 := sI (sP c0 108 (some G.1)) 109 0) (T := T) 0 (TPE_ext hT (c0A 0) rfl) hk k2 c02
  obtain ⟨s9, n1, n2, n3, n4, n5, n6, n7, n8⟩ := m_house_0 g2
  rw [g1, BD_some, n1]
  have H0 : HR G.1 c' zH s9 h0D false false := HR_0 (g3.gP 108) ((g3.2.2 109 (by omega)).trans (gI_sIs _ _ _)) n6 n7 n8
  have X0 : LX 0 T k c' s9 p a kk v l := LX_ext g6 (fun _ _ => rfl) rfl (fun i _ _ => n4 i) (n5 12)
  have T0 : TPE T c' s9 := TPE_ext g5 rfl n3
  have FC : ∀ {c2 : Rec}, FRh c' c2 → (∀ q, gA c2 q = gA c q) ∧ (∀ q, q ≠ 108 → gP c2 q = gP c q) ∧ (∀ q, gQ c2 q = gQ c q) ∧ (∀ q, q < 40 → q ≠ 1 → q ≠ 2 → q ≠ 11 → gI c2 q = gI c q) ∧ gI c2 1 = 0 ∧ gI c2 11 = 0 := by
    intro c2 f
    refine ⟨fun q => ?_, fun q hq => ?_, fun q => ?_, fun q h1 h2 h3 h4 => ?_, ?_, ?_⟩
    · exact (congrFun f.1 q).trans ((g3.gA q).trans (c0A q))
    · have e1 : gP c2 q = gP c' q := congrArg (fun r : (Nat → Nat → Int64) × (Nat → Option Nat) × (Nat → Nat → Option Nat) => r.2.1 q) f.2.1
      rw [e1, g3.gP q, gP_sI, gP_sPn _ _ hq, c0P]
    · have e1 : gQ c2 q = gQ c' q := congrArg (fun r : (Nat → Nat → Int64) × (Nat → Option Nat) × (Nat → Nat → Option Nat) => r.2.2 q) f.2.1
      rw [e1, g3.gQ q, gQ_sI, gQ_sP, c0Q]
    · rw [f.2.2 q h1, g3.2.2 q (by omega), gI_sIn _ _ (by omega), gI_sP, c0I q h2 h3 h4]
    · rw [f.2.2 1 (by omega), g3.2.2 1 (by omega), gI_sIn _ _ (by omega), gI_sP, c01]
    · rw [f.2.2 11 (by omega), g3.2.2 11 (by omega), gI_sIn _ _ (by omega), gI_sP, c011]
  have FM : ∀ {m2 : Rec}, FMh s9 m2 → (∀ q, q ≠ 15 → q ≠ 23 → gA m2 q = gA m q) ∧ (∀ q, q ≠ 20 → gL m2 q = gL m q) ∧ (∀ q, 13 < q → gI m2 q = gI m q) ∧ gI m2 2 = 0 := by
    intro m2 f
    have f2 := n2.trans f
    refine ⟨fun q h1 h2 => ?_, fun q hq => ?_, fun q hq => ?_, ?_⟩
    · rw [f2.1 q h1 h2, g4.gA q]; rfl
    · rw [f2.2.1 q hq, g4.gL q]; rfl
    · rw [f2.2.2 q (by omega), g4.2.2 q (by omega)]
      unfold mBg
      rw [gI_sIn _ _ (by omega), gI_sIn _ _ (by omega), gI_sIn _ _ (by omega), gI_sIn _ _ (by omega), gI_sIn _ _ (by omega), gI_sIn _ _ (by omega)]
    · rw [f2.2.2 2 (by omega), g4.2.2 2 (by omega)]; rfl
  have KPw : ∀ {G' : Wd}, G'.1 = G.1 + 8 → (∀ a kd r, kd ≠ 0 → kd ≠ 3 → G.2 a = some (kd, r) → G'.2 a = some (kd, r)) → KP G G' := fun {G'} h1 h2 => ⟨by omega, by omega, fun a kd r hk ha => h2 a kd r (by omega) (by omega) ha⟩
  rcases loop_v T0 X0 H0 (0 : Int32) with ⟨v', c2, e2, m2, h2, u5, u6, r1, r2, r3, r4, r5, r6⟩ | ⟨c2, e2, m2, r1, r2, r3, r4, r5⟩
  · obtain ⟨fA, fP, fQ, fI, f1, f11⟩ := FC r4
    obtain ⟨gA', gL', gI', gI2⟩ := FM r5
    obtain ⟨t1, t2, t3, t4, t5, t6, -⟩ := id r3
    rw [r1, r2, BX2_r, mE_v v' m2 t6 (by rw [gA' 14 (by omega) (by omega)]; exact h.h14)]
    obtain ⟨y1, y2⟩ := GD_start (d := d) t4 t5
    have hz := ZS_start (z := z) (HS_ext t2 (fun q hq => (startD_lo (d := va_cpy h2 d 0 0 24) (k := q) (by omega)).symm.trans (y2 q hq)))
    obtain ⟨z', z1, z2⟩ := hz
    rw [LT, LT, LT, wp_wp]
    have p13 : (wp (wp W G.1 2 e2) x 0 (sP c2 6 (some G.1))).2 (x + 13) = some (3, z) := by rw [wp_ne (by omega), wp_ne (by omega), Wo _ (by omega) (by omega)]; exact b4
    have pb : (wp (wp W G.1 2 e2) x 0 (sP c2 6 (some G.1))).2 G.1 = some (2, e2) := by rw [wp_ne (by omega)]; exact wp_at _ _ _ _
    have px : (wp (wp (wp W G.1 2 e2) x 0 (sP c2 6 (some G.1))) (x + 13) 3 z').2 x = some (0, sP c2 6 (some G.1)) := by rw [wp_ne (by omega)]; exact wp_at _ _ _ _
    rw [RD_of _ p13, RD_of _ pb, z1, BD_some, LT, RD_of _ px, LT, LT, LT, LT, wp_wp]
    generalize hF : wp (wp (wp (wp W G.1 2 e2) x 0 (sP c2 6 (some G.1))) (x + 13) 3 z') x 0 (sP (sI (sP c2 6 (some G.1)) 13 0) 31 none) = F
    have Fx : F.2 x = some (0, sP (sI (sP c2 6 (some G.1)) 13 0) 31 none) := by rw [← hF]; exact wp_at _ _ _ _
    have F13 : F.2 (x + 13) = some (3, z') := by rw [← hF, wp_ne (by omega)]; exact wp_at _ _ _ _
    have Fb : F.2 G.1 = some (2, e2) := by rw [← hF, wp_ne (by omega), wp_ne (by omega)]; exact pb
    have Fo : ∀ a, a ≠ x → a ≠ x + 13 → a ≠ G.1 → F.2 a = G.2 a := fun a h1 h2 h3 => by rw [← hF, wp_ne h1, wp_ne h2, wp_ne h1, wp_ne h3, Wo a h1 h3]
    have F1 : F.1 = G.1 + 8 := by rw [← hF]; exact W1
    refine ⟨v', F, _, rfl, rfl, KPw F1 (fun a kd r k0 k3 ha => ?_), ?_⟩
    · rw [Fo a (kd_ne ha b1 k0) (kd_ne ha b4 k3) (by have := ng _ _ _ ha; omega)]; exact ha
    · refine (h.housed (m' := sI (sB (sM m2 19 (va_cpy (gL m2 20) (gL m2 19) 0 0 20)) 14 (RF (startD (va_cpy h2 d 0 0 24)))) 24 0) (d' := startD (va_cpy h2 d 0 0 24)) Fx Fb F13 (fun a kd r h1 h2 ha => ?_) (fun a ha => ?_) ?_ rfl ?_ ?_ ?_ rfl ?_ ?_ z2 y1 (gA_sBs _ _ _) ?_ ?_ ?_ ?_ ?_).rel
      · rw [Fo a h1 h2 (by have := ng _ _ _ ha; omega)]; exact ha
      · rw [F1] at ha
        rw [Fo a (by omega) (by omega) (by omega)]; exact b6 a (by omega)
      · rw [gP_sPn _ _ (by omega), gP_sI, gP_sPs]
      · exact fQ 12
      · exact fQ 32
      · rw [gI_sP, gI_sIs]
      · exact HS_ext t2 y2
      · exact NM_ext t3 t4 (fun q hq => y2 q (by omega)) (fun i hi => by
          show va_cpy (gL m2 20) (gL m2 19) 0 0 20 i = _
          rw [pk_cpy_in (by omega) (by omega)]; congr 1; omega)
      · exact startD_0 (by omega) (by omega) (by omega)
      · refine MS_read (f := 0) hM (fun q _ => fA q) (fun q h1 h2 h3 h4 h5 => ?_) f1 f11 (fun q hq => ?_) (fun q hq _ _ => ?_) gI2 r6
        · rw [gI_sP, gI_sIn _ _ h5, gI_sP]; exact fI q h1 h2 h3 h4
        · rw [gA_sI, gA_sBn _ _ (by omega)]; exact gA' q (by omega) (by omega)
        · rw [gI_sIn _ _ (by omega)]; exact gI' q (by omega)
      · exact (gL_sMn (j := 19) (k := 21) _ _ (by omega)).trans (gL' 21 (by omega))
      · rw [gA_sI, gA_sBn _ _ (by omega)]; exact gA' 16 (by omega) (by omega)
      · rw [gA_sI, gA_sBn _ _ (by omega)]; exact gA' 22 (by omega) (by omega)
  · obtain ⟨fA, fP, fQ, fI, f1, f11⟩ := FC r3
    obtain ⟨gA', gL', gI', gI2⟩ := FM r4
    obtain ⟨ee, aa, q1, q2, q3, q4, q5, q6, q7⟩ := r5
    rw [r1, r2, BX2_t, LT, RD_of _ (wp_at _ _ _ _), LT, LT, wp_wp, q4, gI_sIn _ _ (by omega), q5, q7]
    generalize hF : wp (wp W G.1 2 e2) x 0 (sI c2 11 (nI ee)) = F
    have Fx : F.2 x = some (0, sI c2 11 (nI ee)) := by rw [← hF]; exact wp_at _ _ _ _
    have Fo : ∀ a, a ≠ x → a ≠ G.1 → F.2 a = G.2 a := fun a h1 h3 => by rw [← hF, wp_ne h1, wp_ne h3, Wo a h1 h3]
    have F1 : F.1 = G.1 + 8 := by rw [← hF]; exact W1
    refine ⟨_, F, _, rfl, rfl, KPw F1 (fun a kd r k0 k3 ha => ?_), ?_⟩
    · rw [Fo a (kd_ne ha b1 k0) (by have := ng _ _ _ ha; omega)]; exact ha
    · refine (h.ext (c' := sI c2 11 (nI ee)) (m' := m2) Fx (fun a kd r h1 ha => ?_) (fun a ha => ?_) ⟨?_, ?_, ?_, ?_, ?_⟩ ?_ ⟨?_, ?_, ?_, ?_, ?_, ?_, ?_⟩).rel
      · rw [Fo a h1 (by have := ng _ _ _ ha; omega)]; exact ha
      · rw [F1] at ha
        rw [Fo a (by omega) (by omega)]; exact b6 a (by omega)
      · exact fP 6 (by omega)
      · exact fP 31 (by omega)
      · exact fQ 12
      · exact fQ 32
      · rw [gI_sIn _ _ (by omega)]; exact fI 13 (by omega) (by omega) (by omega) (by omega)
      · refine MS_read (f := nI ee) hM (fun q _ => fA q) (fun q h1 h2 h3 h4 h5 => ?_) ?_ (gI_sIs _ _ _) (fun q hq => gA' q (by omega) (by omega)) (fun q hq _ _ => gI' q (by omega)) gI2 q6
        · rw [gI_sIn _ _ h4]; exact fI q h1 h2 h3 h4
        · rw [gI_sIn _ _ (by omega)]; exact f1
      · exact gL' 19 (by omega)
      · exact gL' 21 (by omega)
      · exact gA' 14 (by omega) (by omega)
      · exact gA' 16 (by omega) (by omega)
      · exact gA' 17 (by omega) (by omega)
      · exact gA' 22 (by omega) (by omega)
      · exact gI' 24 (by omega)
end OPS
