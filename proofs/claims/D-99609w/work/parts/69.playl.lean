/-! PURE: steps left, as the component lays them -/
def FRL (c s : Rec) : Prop := s.1 = c.1 ∧ s.2.2 = c.2.2 ∧ ∀ k, k < 200 → gA s k = gA c k
theorem FRL.refl (c : Rec) : FRL c c := ⟨rfl, rfl, fun _ _ => rfl⟩
theorem FRL.gP {c s : Rec} (h : FRL c s) (k : Nat) : gP s k = gP c k := congrArg (fun r : (Nat → Int64) × (Nat → Nat → Int64) × (Nat → Option Nat) × (Nat → Nat → Option Nat) => r.2.2.1 k) h.2.1
theorem FRL.gQ {c s : Rec} (h : FRL c s) (k : Nat) : gQ s k = gQ c k := congrArg (fun r : (Nat → Int64) × (Nat → Nat → Int64) × (Nat → Option Nat) × (Nat → Nat → Option Nat) => r.2.2.2 k) h.2.1
theorem FRL.gI {c s : Rec} (h : FRL c s) (k : Nat) : gI s k = gI c k := congrFun h.1 k
theorem FRL_sA {c s : Rec} (h : FRL c s) {k : Nat} (hk : 200 ≤ k) (i : Nat) (v : Int32) : FRL c (sA s k i v) := ⟨h.1, h.2.1, fun j hj => by rw [gA_sAn _ _ _ (by omega)]; exact h.2.2 j hj⟩
def CTB (d : Nat → Nat) (s : Rec) (F : Nat → Nat) : Prop := ∀ q l, q < 2 ^ d 0 → l < d 0 → gA s (200 + q) l = nI (F (5 * q + l))
theorem CTB_up {d : Nat → Nat} (hP : d 0 ≤ 5) {s : Rec} {F : Nat → Nat} (h : CTB d s F) {q l : Nat} (hl : l < d 0) (v : Nat) : CTB d (sA s (200 + q) l (nI v)) (va_up F (5 * q + l) v) := by
  intro q' l' h1 h2
  by_cases e : q' = q
  · subst e
    by_cases e2 : l' = l
    · subst e2; rw [gA_sAs, up_s]
    · rw [gA_sAi _ _ _ e2, up_n _ _ (by omega)]; exact h q' l' h1 h2
  · rw [gA_sAn _ _ _ (by omega), up_n _ _ (by omega)]; exact h q' l' h1 h2
def stK (d : Nat → Nat) (q l k : Nat) (t : Bool × (Nat → Nat)) : Bool × (Nat → Nat) := if (d (6 + l)).testBit k = true then rlx (5 * q + l) (5 * (q ||| 2 ^ k) + k) t else t
def stL (d : Nat → Nat) (q l : Nat) (t : Bool × (Nat → Nat)) : Bool × (Nat → Nat) := itR (stK d q l) t (d 0)
def stS (d : Nat → Nat) (q : Nat) (t : Bool × (Nat → Nat)) : Bool × (Nat → Nat) := itR (stL d q) t (d 0)
def swp (d : Nat → Nat) (t : Bool × (Nat → Nat)) : Bool × (Nat → Nat) := itR (stS d) t (2 ^ d 0)
def DmC (d : Nat → Nat) (q : Nat) : Bool := decide (q / 5 < 2 ^ d 0) && decide (q % 5 < d 0)
def ZC (d : Nat → Nat) (T q : Nat) : Prop := ∃ w l, w < 2 ^ d 0 ∧ l < d 0 ∧ dif T w = 0 ∧ q = 5 * w + l
def EdC (d : Nat → Nat) (q r : Nat) : Prop := ∃ w, w < 2 ^ d 0 ∧ ∃ l, l < d 0 ∧ ∃ k, k < d 0 ∧ (d (6 + l)).testBit k = true ∧ q = 5 * w + l ∧ r = 5 * (w ||| 2 ^ k) + k
theorem DmC_t {d : Nat → Nat} (hP : d 0 ≤ 5) {q l : Nat} (hq : q < 2 ^ d 0) (hl : l < d 0) : DmC d (5 * q + l) = true ∧ 5 * q + l < 160 := by
  have := p5 hP
  unfold DmC
  rw [show (5 * q + l) / 5 = q by omega, show (5 * q + l) % 5 = l by omega]
  simp [hq, hl]; omega
theorem or_lt {d : Nat → Nat} {q k : Nat} (hq : q < 2 ^ d 0) (hk : k < d 0) : q ||| 2 ^ k < 2 ^ d 0 := Nat.or_lt_two_pow hq (Nat.pow_lt_pow_right (by omega) hk)
section LAY
variable {c : Rec} {b : Nat} {e : Rec} {d : Nat → Nat} {T : Nat}
theorem RL_stK (hP : d 0 ≤ 5) {q l k : Nat} (hq : q < 2 ^ d 0) (hl : l < d 0) (hk : k < d 0) (t : Bool × (Nat → Nat)) : RL (DmC d) (ZC d T) (EdC d) (fun a b => (d (6 + l)).testBit k = true ∧ a = 5 * q + l ∧ b = 5 * (q ||| 2 ^ k) + k) t (stK d q l k t) := by
  unfold stK
  obtain ⟨h1, h2⟩ := DmC_t hP hq hl
  obtain ⟨h3, h4⟩ := DmC_t hP (or_lt hq hk) hk
  by_cases a : (d (6 + l)).testBit k = true
  · rw [if_pos a]
    exact RL_mono (RL_rlx ⟨q, hq, l, hl, k, hk, a, rfl, rfl⟩ h2 h4 h1 h3 t) (fun _ _ h => h.2)
  · rw [if_neg a]
    exact RL_mono (RL_id t) (fun _ _ h => absurd h.1 a)
theorem RL_stL (hP : d 0 ≤ 5) {q l : Nat} (hq : q < 2 ^ d 0) (hl : l < d 0) (t : Bool × (Nat → Nat)) : ∀ m, m ≤ d 0 → RL (DmC d) (ZC d T) (EdC d) (fun a b => ∃ k, k < m ∧ (d (6 + l)).testBit k = true ∧ a = 5 * q + l ∧ b = 5 * (q ||| 2 ^ k) + k) t (itR (stK d q l) t m) := RL_it (fun k hk t => RL_stK hP hq hl hk t) t
theorem RL_stS (hP : d 0 ≤ 5) {q : Nat} (hq : q < 2 ^ d 0) (t : Bool × (Nat → Nat)) : ∀ m, m ≤ d 0 → RL (DmC d) (ZC d T) (EdC d) (fun a b => ∃ l, l < m ∧ ∃ k, k < d 0 ∧ (d (6 + l)).testBit k = true ∧ a = 5 * q + l ∧ b = 5 * (q ||| 2 ^ k) + k) t (itR (stL d q) t m) := RL_it (fun l hl t => RL_stL hP hq hl t (d 0) (Nat.le_refl _)) t
theorem RL_swp (hP : d 0 ≤ 5) (t : Bool × (Nat → Nat)) : ∀ m, m ≤ 2 ^ d 0 → RL (DmC d) (ZC d T) (EdC d) (fun a b => ∃ w, w < m ∧ ∃ l, l < d 0 ∧ ∃ k, k < d 0 ∧ (d (6 + l)).testBit k = true ∧ a = 5 * w + l ∧ b = 5 * (w ||| 2 ^ k) + k) t (itR (stS d) t m) := RL_it (fun q hq t => RL_stS hP hq t (d 0) (Nat.le_refl _)) t
theorem layK (hb : gP c 6 = some b) (he : HS e d) (hd : DI d) (K : Int32 → Rec → Option Rec) {q l : Nat} (hq : q < 2 ^ d 0) (hl : l < d 0) {t : Bool × (Nat → Nat)} (hR : RI (DmC d) (ZC d T) (EdC d) t.2) {s : Rec} (hs : FRL c s) (hC : CTB d s t.2) : ∃ s', FRL c s' ∧ CTB d s' (stL d q l t).2 ∧ LP3 (fun (rec25 : Int32 → Int32 → Rec → Option Rec) (v22 : Int32) (v23 : Int32) (s24 : Rec) => PG (gP s24 6) b ((if (gI e 7) ≤ v23 then K v22 s24 else PG (gP s24 6) b (IX (nI l) 5 (fun i28 => BD (x1_has (gA e 4 i28) v23) (fun v30 => (if v30 = 0 then rec25 v22 (v23 + (1 : Int32)) s24 else BD (x1_leftBy s24 (nI q) v23) (fun v32 => IX (nI q) 32 (fun i33 => (if (v32 + (1 : Int32)) < (gA s24 (200 + i33) i28) then BD (x1_leftBy s24 (nI q) v23) (fun v35 => LT (sA s24 (200 + i33) i28 (v35 + (1 : Int32))) (fun s36 => rec25 (1 : Int32) (v23 + (1 : Int32)) s36)) else rec25 v22 (v23 + (1 : Int32)) s24)))))))))) FU (bI t.1) (0 : Int32) s = K (bI (stL d q l t).1) s' := by
  have hP := hd.P
  have p5' := p5 hP
  have e7 := he.1
  have e4 := he.2.2.2.2.2.2.2.1 l (by omega)
  have hsg := hd.sg (l := l) (by omega)
  refine LP3_inv (fun k a1 a2 a3 => a1 = bI (itR (stK d q l) t k).1 ∧ a2 = nI k ∧ FRL c a3 ∧ CTB d a3 (itR (stK d q l) t k).2) (fun o => ∃ s', FRL c s' ∧ CTB d s' (stL d q l t).2 ∧ o = K (bI (stL d q l t).1) s') (d 0) (by omega) ⟨rfl, rfl, hs, hC⟩ (fun k a1 a2 a3 rec hk hI => Or.inl ?_) (fun a1 a2 a3 rec hI => ?_)
  · obtain ⟨rfl, rfl, i3, i4⟩ := hI
    have hbb : gP a3 6 = some b := (i3.gP 6).trans hb
    have hR2 := ((RL_stL hP hq hl t k (by omega)).1 hR).1
    have hs := itR_s (stK d q l) t k
    generalize itR (stK d q l) t k = u at i4 hR2 hs ⊢
    rw [hs]
    unfold stK
    cases a : (d (6 + l)).testBit k
    · rw [if_neg (by simp)]
      refine ⟨_, _, a3, ⟨rfl, rfl, i3, i4⟩, ?_⟩
      simp (disch := omega) only [Nat.zero_add, LT, BD_some, BD2_some, JN1, JN2, IX_nI, nI_add, pk_mul, pk_sub, leT, leF, ltT, ltF, eqT, eqF, M1_lit, bI_true, bI_false, BZ_n0, BZ_n1, BZ_b, ↓reduceIte, l_0, l_1, l_2, l_3, l_4, l_5, l_6, l_7, l_8, l_9, l_10, l_11, l_12, l_13, l_14, l_15, l_16, l_17, l_18, l_19, l_20, l_21, l_22, l_23, l_24, l_25, l_26, l_27, l_28, l_29, l_30, l_31, l_32, l_33, l_34, l_35, l_36, l_37, l_38, l_39, l_40, l_41, l_42, l_43, l_44, l_45, l_46, l_47, l_48, l_49, l_50, l_51, l_52, l_53, l_54, l_55, l_56, l_57, l_58, l_59, l_60, l_61, l_62, l_63, l_64, l_72, l_74, l_86, l_97, l_99, l_100, l_122, l_140, l_158, l_160, l_164, l_200, l_240, l_255, l_400, l_406, l_900, l_940, l_980, l_999, l_1120, l_1000, l_100000, PG_of _ hbb, e7, e4, x1_has_v, hs_nI, a]
    · rw [if_pos rfl]
      have ho := or_lt hq hk
      obtain ⟨h1, h2⟩ := DmC_t hP hq hl
      obtain ⟨h3, h4⟩ := DmC_t hP ho hk
      have l1 := hR2.le h2 h1
      have l2 := hR2.le h4 h3
      have k2 : 2 ^ k < 32 := Nat.lt_of_lt_of_le (Nat.pow_lt_pow_right (by omega) hk) p5'
      have eo : nI q ||| (nI 1 <<< (nI k &&& nI 31)) = nI (q ||| 2 ^ k) := by rw [shl1' k (by omega), nI_or (by omega) (by omega)]
      have lb : x1_leftBy a3 (nI q) (nI k) = some (nI (u.2 (5 * (q ||| 2 ^ k) + k))) := by
        unfold x1_leftBy
        rw [show nI q ||| ((1 : Int32) <<< (nI k &&& 31)) = nI (q ||| 2 ^ k) from eo, IX_nI _ (by omega) (by omega), IX_nI _ (by omega) (by omega), i4 _ _ ho hk]
      have cur := i4 _ _ hq hl
      unfold rlx
      by_cases g : u.2 (5 * (q ||| 2 ^ k) + k) + 1 < u.2 (5 * q + l)
      · rw [if_pos g]
        refine ⟨_, _, sA a3 (200 + q) l (nI (u.2 (5 * (q ||| 2 ^ k) + k) + 1)), ⟨rfl, rfl, FRL_sA i3 (by omega) _ _, CTB_up hP i4 hl _⟩, ?_⟩
        simp (disch := omega) only [Nat.zero_add, LT, BD_some, BD2_some, JN1, JN2, IX_nI, nI_add, pk_mul, pk_sub, leT, leF, ltT, ltF, eqT, eqF, M1_lit, bI_true, bI_false, BZ_n0, BZ_n1, BZ_b, ↓reduceIte, l_0, l_1, l_2, l_3, l_4, l_5, l_6, l_7, l_8, l_9, l_10, l_11, l_12, l_13, l_14, l_15, l_16, l_17, l_18, l_19, l_20, l_21, l_22, l_23, l_24, l_25, l_26, l_27, l_28, l_29, l_30, l_31, l_32, l_33, l_34, l_35, l_36, l_37, l_38, l_39, l_40, l_41, l_42, l_43, l_44, l_45, l_46, l_47, l_48, l_49, l_50, l_51, l_52, l_53, l_54, l_55, l_56, l_57, l_58, l_59, l_60, l_61, l_62, l_63, l_64, l_72, l_74, l_86, l_97, l_99, l_100, l_122, l_140, l_158, l_160, l_164, l_200, l_240, l_255, l_400, l_406, l_900, l_940, l_980, l_999, l_1120, l_1000, l_100000, PG_of _ hbb, e7, e4, x1_has_v, hs_nI, a, lb, cur]
      · rw [if_neg g]
        refine ⟨_, _, a3, ⟨rfl, rfl, i3, i4⟩, ?_⟩
        simp (disch := omega) only [Nat.zero_add, LT, BD_some, BD2_some, JN1, JN2, IX_nI, nI_add, pk_mul, pk_sub, leT, leF, ltT, ltF, eqT, eqF, M1_lit, bI_true, bI_false, BZ_n0, BZ_n1, BZ_b, ↓reduceIte, l_0, l_1, l_2, l_3, l_4, l_5, l_6, l_7, l_8, l_9, l_10, l_11, l_12, l_13, l_14, l_15, l_16, l_17, l_18, l_19, l_20, l_21, l_22, l_23, l_24, l_25, l_26, l_27, l_28, l_29, l_30, l_31, l_32, l_33, l_34, l_35, l_36, l_37, l_38, l_39, l_40, l_41, l_42, l_43, l_44, l_45, l_46, l_47, l_48, l_49, l_50, l_51, l_52, l_53, l_54, l_55, l_56, l_57, l_58, l_59, l_60, l_61, l_62, l_63, l_64, l_72, l_74, l_86, l_97, l_99, l_100, l_122, l_140, l_158, l_160, l_164, l_200, l_240, l_255, l_400, l_406, l_900, l_940, l_980, l_999, l_1120, l_1000, l_100000, PG_of _ hbb, e7, e4, x1_has_v, hs_nI, a, lb, cur]
  · obtain ⟨rfl, rfl, i3, i4⟩ := hI
    have hbb : gP a3 6 = some b := (i3.gP 6).trans hb
    refine ⟨a3, i3, i4, ?_⟩
    simp (disch := omega) only [Nat.zero_add, LT, BD_some, BD2_some, JN1, JN2, IX_nI, nI_add, pk_mul, pk_sub, leT, leF, ltT, ltF, eqT, eqF, M1_lit, bI_true, bI_false, BZ_n0, BZ_n1, BZ_b, ↓reduceIte, l_0, l_1, l_2, l_3, l_4, l_5, l_6, l_7, l_8, l_9, l_10, l_11, l_12, l_13, l_14, l_15, l_16, l_17, l_18, l_19, l_20, l_21, l_22, l_23, l_24, l_25, l_26, l_27, l_28, l_29, l_30, l_31, l_32, l_33, l_34, l_35, l_36, l_37, l_38, l_39, l_40, l_41, l_42, l_43, l_44, l_45, l_46, l_47, l_48, l_49, l_50, l_51, l_52, l_53, l_54, l_55, l_56, l_57, l_58, l_59, l_60, l_61, l_62, l_63, l_64, l_72, l_74, l_86, l_97, l_99, l_100, l_122, l_140, l_158, l_160, l_164, l_200, l_240, l_255, l_400, l_406, l_900, l_940, l_980, l_999, l_1120, l_1000, l_100000, PG_of _ hbb, e7]
    rfl
theorem layL (hb : gP c 6 = some b) (he : HS e d) (hd : DI d) (K : Int32 → Rec → Option Rec) {q : Nat} (hq : q < 2 ^ d 0) {t : Bool × (Nat → Nat)} (hR : RI (DmC d) (ZC d T) (EdC d) t.2) {s : Rec} (hs : FRL c s) (hC : CTB d s t.2) : ∃ s', FRL c s' ∧ CTB d s' (stS d q t).2 ∧ LP3 (fun (rec20 : Int32 → Int32 → Rec → Option Rec) (v17 : Int32) (v18 : Int32) (s19 : Rec) => PG (gP s19 6) b ((if (gI e 7) ≤ v18 then K v17 s19 else LP3 (fun (rec25 : Int32 → Int32 → Rec → Option Rec) (v22 : Int32) (v23 : Int32) (s24 : Rec) => PG (gP s24 6) b ((if (gI e 7) ≤ v23 then rec20 v22 (v18 + (1 : Int32)) s24 else PG (gP s24 6) b (IX v18 5 (fun i28 => BD (x1_has (gA e 4 i28) v23) (fun v30 => (if v30 = 0 then rec25 v22 (v23 + (1 : Int32)) s24 else BD (x1_leftBy s24 (nI q) v23) (fun v32 => IX (nI q) 32 (fun i33 => (if (v32 + (1 : Int32)) < (gA s24 (200 + i33) i28) then BD (x1_leftBy s24 (nI q) v23) (fun v35 => LT (sA s24 (200 + i33) i28 (v35 + (1 : Int32))) (fun s36 => rec25 (1 : Int32) (v23 + (1 : Int32)) s36)) else rec25 v22 (v23 + (1 : Int32)) s24)))))))))) FU v17 (0 : Int32) s19))) FU (bI t.1) (0 : Int32) s = K (bI (stS d q t).1) s' := by
  have hP := hd.P
  have e7 := he.1
  refine LP3_inv (fun l a1 a2 a3 => a1 = bI (itR (stL d q) t l).1 ∧ a2 = nI l ∧ FRL c a3 ∧ CTB d a3 (itR (stL d q) t l).2) (fun o => ∃ s', FRL c s' ∧ CTB d s' (stS d q t).2 ∧ o = K (bI (stS d q t).1) s') (d 0) (by omega) ⟨rfl, rfl, hs, hC⟩ (fun l a1 a2 a3 rec hl hI => Or.inl ?_) (fun a1 a2 a3 rec hI => ?_)
  · obtain ⟨rfl, rfl, i3, i4⟩ := hI
    have hbb : gP a3 6 = some b := (i3.gP 6).trans hb
    have hR2 := ((RL_stS hP hq t l (by omega)).1 hR).1
    obtain ⟨s', j1, j2, j3⟩ := layK hb he hd (fun v s => rec v (nI l + (1 : Int32)) s) hq hl hR2 i3 i4
    refine ⟨_, _, s', ⟨rfl, rfl, j1, j2⟩, ?_⟩
    rw [PG_of _ hbb, e7, if_neg (nI_ge (by omega) (by omega))]
    rw [e7] at j3
    refine j3.trans ?_
    rw [nI_1]; rfl
  · obtain ⟨rfl, rfl, i3, i4⟩ := hI
    have hbb : gP a3 6 = some b := (i3.gP 6).trans hb
    refine ⟨a3, i3, i4, ?_⟩
    rw [PG_of _ hbb, e7, if_pos (nI_le (Nat.le_refl _) (by omega))]
    rfl
theorem layS (hb : gP c 6 = some b) (he : HS e d) (hd : DI d) (K : Int32 → Rec → Option Rec) {t : Bool × (Nat → Nat)} (hR : RI (DmC d) (ZC d T) (EdC d) t.2) {s : Rec} (hs : FRL c s) (hC : CTB d s t.2) : ∃ s', FRL c s' ∧ CTB d s' (swp d t).2 ∧ LP3 (fun (rec13 : Int32 → Int32 → Rec → Option Rec) (v10 : Int32) (v11 : Int32) (s12 : Rec) => PG (gP s12 6) b (BD (x3_all e) (fun v16 => (if v16 < v11 then K v10 s12 else LP3 (fun (rec20 : Int32 → Int32 → Rec → Option Rec) (v17 : Int32) (v18 : Int32) (s19 : Rec) => PG (gP s19 6) b ((if (gI e 7) ≤ v18 then rec13 v17 (v11 + (1 : Int32)) s19 else LP3 (fun (rec25 : Int32 → Int32 → Rec → Option Rec) (v22 : Int32) (v23 : Int32) (s24 : Rec) => PG (gP s24 6) b ((if (gI e 7) ≤ v23 then rec20 v22 (v18 + (1 : Int32)) s24 else PG (gP s24 6) b (IX v18 5 (fun i28 => BD (x1_has (gA e 4 i28) v23) (fun v30 => (if v30 = 0 then rec25 v22 (v23 + (1 : Int32)) s24 else BD (x1_leftBy s24 v11 v23) (fun v32 => IX v11 32 (fun i33 => (if (v32 + (1 : Int32)) < (gA s24 (200 + i33) i28) then BD (x1_leftBy s24 v11 v23) (fun v35 => LT (sA s24 (200 + i33) i28 (v35 + (1 : Int32))) (fun s36 => rec25 (1 : Int32) (v23 + (1 : Int32)) s36)) else rec25 v22 (v23 + (1 : Int32)) s24)))))))))) FU v17 (0 : Int32) s19))) FU v10 (0 : Int32) s12)))) FU (bI t.1) (0 : Int32) s = K (bI (swp d t).1) s' := by
  have hP := hd.P
  have p5' := p5 hP
  have e7 := he.1
  have hal : allp d + 1 = 2 ^ d 0 := by
    have := Nat.pow_pos (n := d 0) (a := 2) (by omega)
    show 2 ^ d 0 - 1 + 1 = _; omega
  refine LP3_inv (fun q a1 a2 a3 => a1 = bI (itR (stS d) t q).1 ∧ a2 = nI q ∧ FRL c a3 ∧ CTB d a3 (itR (stS d) t q).2) (fun o => ∃ s', FRL c s' ∧ CTB d s' (swp d t).2 ∧ o = K (bI (swp d t).1) s') (2 ^ d 0) (by omega) ⟨rfl, rfl, hs, hC⟩ (fun q a1 a2 a3 rec hq hI => Or.inl ?_) (fun a1 a2 a3 rec hI => ?_)
  · obtain ⟨rfl, rfl, i3, i4⟩ := hI
    have hbb : gP a3 6 = some b := (i3.gP 6).trans hb
    have hR2 := ((RL_swp hP t q (by omega)).1 hR).1
    obtain ⟨s', j1, j2, j3⟩ := layL hb he hd (fun v s => rec v (nI q + (1 : Int32)) s) hq hR2 i3 i4
    refine ⟨_, _, s', ⟨rfl, rfl, j1, j2⟩, ?_⟩
    rw [PG_of _ hbb, x3_all_v he hd, BD_some, if_neg (nI_nlt (by omega) (by omega))]
    refine j3.trans ?_
    rw [nI_1]; rfl
  · obtain ⟨rfl, rfl, i3, i4⟩ := hI
    have hbb : gP a3 6 = some b := (i3.gP 6).trans hb
    refine ⟨a3, i3, i4, ?_⟩
    rw [PG_of _ hbb, x3_all_v he hd, BD_some, if_pos (nI_lt (by omega) (by omega))]
    rfl
/-- the table is whole: what holds of it -/
def FIX (d : Nat → Nat) (T : Nat) (F : Nat → Nat) : Prop := (∀ w l, w < 2 ^ d 0 → l < d 0 → F (5 * w + l) ≤ 100000) ∧ (∀ w l, w < 2 ^ d 0 → l < d 0 → dif T w = 0 → F (5 * w + l) = 0) ∧ (∀ w l k, w < 2 ^ d 0 → l < d 0 → k < d 0 → (d (6 + l)).testBit k = true → F (5 * w + l) ≤ F (5 * (w ||| 2 ^ k) + k) + 1) ∧ (∀ w l, w < 2 ^ d 0 → l < d 0 → F (5 * w + l) < 100000 → dif T w = 0 ∨ ∃ k, k < d 0 ∧ (d (6 + l)).testBit k = true ∧ F (5 * w + l) = F (5 * (w ||| 2 ^ k) + k) + 1)
theorem RI_FIX (hP : d 0 ≤ 5) {F : Nat → Nat} (hR : RI (DmC d) (ZC d T) (EdC d) F) (hE : ∀ q r, EdC d q r → F q ≤ F r + 1) : FIX d T F := by
  refine ⟨fun w l hw hl => ?_, fun w l hw hl h0 => hR.2.2 _ ⟨w, l, hw, hl, h0, rfl⟩, fun w l k hw hl hk hb => hE _ _ ⟨w, hw, l, hl, k, hk, hb, rfl, rfl⟩, fun w l hw hl hlt => ?_⟩
  · obtain ⟨h1, h2⟩ := DmC_t hP hw hl
    exact hR.le h2 h1
  · obtain ⟨h1, h2⟩ := DmC_t hP hw hl
    rcases hR.2.1 _ h2 h1 hlt with ⟨w', l', a1, a2, a3, a4⟩ | ⟨r, hE2, hr⟩
    · have e1 : w = w' := by omega
      subst e1; exact Or.inl a3
    · obtain ⟨w', a1, l', a2, k, a3, a4, a5, a6⟩ := id hE2
      have e1 : w = w' := by omega
      have e2 : l = l' := by omega
      subst e1; subst e2
      have := hE _ _ hE2
      rw [a6] at this hr
      exact Or.inr ⟨k, a3, a4, by omega⟩
theorem layW (hb : gP c 6 = some b) (he : HS e d) (hd : DI d) {F : Nat → Nat} (hR : RI (DmC d) (ZC d T) (EdC d) F) {s : Rec} (hs : FRL c s) (hC : CTB d s F) : ∃ s' F', LP2 (fun (rec9 : Int32 → Rec → Option Rec) (v7 : Int32) (s8 : Rec) => (if v7 = 0 then some s8 else LP3 (fun (rec13 : Int32 → Int32 → Rec → Option Rec) (v10 : Int32) (v11 : Int32) (s12 : Rec) => PG (gP s12 6) b (BD (x3_all e) (fun v16 => (if v16 < v11 then rec9 v10 s12 else LP3 (fun (rec20 : Int32 → Int32 → Rec → Option Rec) (v17 : Int32) (v18 : Int32) (s19 : Rec) => PG (gP s19 6) b ((if (gI e 7) ≤ v18 then rec13 v17 (v11 + (1 : Int32)) s19 else LP3 (fun (rec25 : Int32 → Int32 → Rec → Option Rec) (v22 : Int32) (v23 : Int32) (s24 : Rec) => PG (gP s24 6) b ((if (gI e 7) ≤ v23 then rec20 v22 (v18 + (1 : Int32)) s24 else PG (gP s24 6) b (IX v18 5 (fun i28 => BD (x1_has (gA e 4 i28) v23) (fun v30 => (if v30 = 0 then rec25 v22 (v23 + (1 : Int32)) s24 else BD (x1_leftBy s24 v11 v23) (fun v32 => IX v11 32 (fun i33 => (if (v32 + (1 : Int32)) < (gA s24 (200 + i33) i28) then BD (x1_leftBy s24 v11 v23) (fun v35 => LT (sA s24 (200 + i33) i28 (v35 + (1 : Int32))) (fun s36 => rec25 (1 : Int32) (v23 + (1 : Int32)) s36)) else rec25 v22 (v23 + (1 : Int32)) s24)))))))))) FU v17 (0 : Int32) s19))) FU v10 (0 : Int32) s12)))) FU (0 : Int32) (0 : Int32) s8)) FU (1 : Int32) s = some s' ∧ FRL c s' ∧ CTB d s' F' ∧ FIX d T F' := by
  have hP := hd.P
  refine LP2_inv (fun i a1 a2 => ∃ fl f, a1 = bI fl ∧ FRL c a2 ∧ CTB d a2 f ∧ RI (DmC d) (ZC d T) (EdC d) f ∧ (fl = true → muF (DmC d) f + i ≤ 25760) ∧ (fl = false → ∀ q r, EdC d q r → f q ≤ f r + 1)) (fun o => ∃ s' F', o = some s' ∧ FRL c s' ∧ CTB d s' F' ∧ FIX d T F') 25761 (by omega) ⟨true, F, rfl, hs, hC, hR, fun _ => by have := muF_le (DmC d) F; omega, fun h => by cases h⟩ (fun i a1 a2 rec hi hI => ?_) (fun a1 a2 rec hI => ?_)
  · obtain ⟨fl, f, rfl, i3, i4, i5, i6, i7⟩ := hI
    cases fl with
    | false => exact Or.inr ⟨a2, f, if_pos rfl, i3, i4, RI_FIX hP i5 (i7 rfl)⟩
    | true =>
      refine Or.inl ?_
      obtain ⟨s', j1, j2, j3⟩ := layS hb he hd (fun v s => rec v s) (t := (false, f)) i5 i3 i4
      have hRL : RL (DmC d) (ZC d T) (EdC d) (EdC d) (false, f) (swp d (false, f)) := RL_swp (T := T) hP (false, f) (2 ^ d 0) (Nat.le_refl _)
      have e0 : bI (false, f).1 = (0 : Int32) := rfl
      rw [e0] at j3
      generalize swp d (false, f) = W at hRL j2 j3
      obtain ⟨r1, r2, r3⟩ := hRL.1 i5
      refine ⟨_, s', ⟨W.1, W.2, rfl, j1, j2, r1, fun ht => ?_, fun hf => ?_⟩, (if_neg (show ¬ bI true = (0 : Int32) by decide)).trans j3⟩
      · have h1 := i6 rfl
        rcases r3 ht with h2 | h2
        · cases h2
        · have h3 : muF (DmC d) W.2 < muF (DmC d) f := h2
          omega
      · obtain ⟨-, h2, h3⟩ := hRL.2 hf
        have h2' : W.2 = f := h2
        rw [h2']
        exact h3
  · obtain ⟨fl, f, rfl, i3, i4, i5, i6, i7⟩ := hI
    cases fl with
    | false => exact ⟨a2, f, if_pos rfl, i3, i4, RI_FIX hP i5 (i7 rfl)⟩
    | true => have := i6 rfl; omega
theorem x1_layLeft_v (hb : gP c 6 = some b) (he : HS e d) (hd : DI d) (hT : T < 32) : ∃ s' F', x1_layLeft c b e (nI T) = some s' ∧ FRL c s' ∧ CTB d s' F' ∧ FIX d T F' := by
  have hP := hd.P
  have p5' := p5 hP
  have e7 := he.1
  have hal : allp d + 1 = 2 ^ d 0 := by
    have := Nat.pow_pos (n := d 0) (a := 2) (by omega)
    show 2 ^ d 0 - 1 + 1 = _; omega
  unfold x1_layLeft
  refine LP2_inv (fun q a1 a2 => a1 = nI q ∧ FRL c a2 ∧ ∀ w l, w < q → l < d 0 → gA a2 (200 + w) l = nI (if dif T w = 0 then 0 else 100000)) (fun o => ∃ s' F', o = some s' ∧ FRL c s' ∧ CTB d s' F' ∧ FIX d T F') (2 ^ d 0) (by omega) ⟨rfl, FRL.refl c, fun w l hw => absurd hw (Nat.not_lt_zero w)⟩ (fun q a1 a2 rec hq hI => Or.inl ?_) (fun a1 a2 rec hI => ?_)
  · obtain ⟨rfl, i3, i4⟩ := hI
    have hbb : gP a2 6 = some b := (i3.gP 6).trans hb
    rw [PG_of _ hbb, x3_all_v he hd, BD_some, if_neg (nI_nlt (by omega) (by omega))]
    refine LP2_inv (fun l b1 b2 => b1 = nI l ∧ FRL c b2 ∧ (∀ w l, w < q → l < d 0 → gA b2 (200 + w) l = nI (if dif T w = 0 then 0 else 100000)) ∧ ∀ j, j < l → gA b2 (200 + q) j = nI (if dif T q = 0 then 0 else 100000)) (fun o => ∃ (b1 : Int32) (b2 : Rec), (b1 = nI (q + 1) ∧ FRL c b2 ∧ ∀ w l, w < q + 1 → l < d 0 → gA b2 (200 + w) l = nI (if dif T w = 0 then 0 else 100000)) ∧ o = rec b1 b2) (d 0) (by omega) ⟨rfl, i3, i4, fun j hj => absurd hj (Nat.not_lt_zero j)⟩ (fun l b1 b2 rec2 hl hJ => Or.inl ?_) (fun b1 b2 rec2 hJ => ?_)
    · obtain ⟨rfl, j3, j4, j5⟩ := hJ
      have hbj : gP b2 6 = some b := (j3.gP 6).trans hb
      have ed : nI T &&& (nI q ^^^ M1) = nI (dif T q) := nI_dif (by omega) (by omega)
      have hdl := dif_le T q
      refine ⟨_, sA b2 (200 + q) l (nI (if dif T q = 0 then 0 else 100000)), ⟨rfl, FRL_sA j3 (by omega) _ _, fun w l' hw hl' => ?_, fun j hj => ?_⟩, ?_⟩
      · rw [gA_sAn _ _ _ (by omega)]; exact j4 w l' hw hl'
      · by_cases ej : j = l
        · subst ej; rw [gA_sAs]
        · rw [gA_sAi _ _ _ ej]; exact j5 j (by omega)
      · by_cases g : dif T q = 0
        · rw [if_pos g]
          simp (disch := omega) only [Nat.zero_add, LT, BD_some, BD2_some, JN1, JN2, IX_nI, nI_add, pk_mul, pk_sub, leT, leF, ltT, ltF, eqT, eqF, M1_lit, bI_true, bI_false, BZ_n0, BZ_n1, BZ_b, ↓reduceIte, l_0, l_1, l_2, l_3, l_4, l_5, l_6, l_7, l_8, l_9, l_10, l_11, l_12, l_13, l_14, l_15, l_16, l_17, l_18, l_19, l_20, l_21, l_22, l_23, l_24, l_25, l_26, l_27, l_28, l_29, l_30, l_31, l_32, l_33, l_34, l_35, l_36, l_37, l_38, l_39, l_40, l_41, l_42, l_43, l_44, l_45, l_46, l_47, l_48, l_49, l_50, l_51, l_52, l_53, l_54, l_55, l_56, l_57, l_58, l_59, l_60, l_61, l_62, l_63, l_64, l_72, l_74, l_86, l_97, l_99, l_100, l_122, l_140, l_158, l_160, l_164, l_200, l_240, l_255, l_400, l_406, l_900, l_940, l_980, l_999, l_1120, l_1000, l_100000, PG_of _ hbj, e7, ed, g]
        · rw [if_neg g]
          simp (disch := omega) only [Nat.zero_add, LT, BD_some, BD2_some, JN1, JN2, IX_nI, nI_add, pk_mul, pk_sub, leT, leF, ltT, ltF, eqT, eqF, M1_lit, bI_true, bI_false, BZ_n0, BZ_n1, BZ_b, ↓reduceIte, l_0, l_1, l_2, l_3, l_4, l_5, l_6, l_7, l_8, l_9, l_10, l_11, l_12, l_13, l_14, l_15, l_16, l_17, l_18, l_19, l_20, l_21, l_22, l_23, l_24, l_25, l_26, l_27, l_28, l_29, l_30, l_31, l_32, l_33, l_34, l_35, l_36, l_37, l_38, l_39, l_40, l_41, l_42, l_43, l_44, l_45, l_46, l_47, l_48, l_49, l_50, l_51, l_52, l_53, l_54, l_55, l_56, l_57, l_58, l_59, l_60, l_61, l_62, l_63, l_64, l_72, l_74, l_86, l_97, l_99, l_100, l_122, l_140, l_158, l_160, l_164, l_200, l_240, l_255, l_400, l_406, l_900, l_940, l_980, l_999, l_1120, l_1000, l_100000, PG_of _ hbj, e7, ed]
    · obtain ⟨rfl, j3, j4, j5⟩ := hJ
      have hbj : gP b2 6 = some b := (j3.gP 6).trans hb
      refine ⟨_, b2, ⟨rfl, j3, fun w l hw hl => ?_⟩, ?_⟩
      · by_cases ew : w = q
        · subst ew; exact j5 l hl
        · exact j4 w l (by omega) hl
      · simp (disch := omega) only [Nat.zero_add, LT, BD_some, BD2_some, JN1, JN2, IX_nI, nI_add, pk_mul, pk_sub, leT, leF, ltT, ltF, eqT, eqF, M1_lit, bI_true, bI_false, BZ_n0, BZ_n1, BZ_b, ↓reduceIte, l_0, l_1, l_2, l_3, l_4, l_5, l_6, l_7, l_8, l_9, l_10, l_11, l_12, l_13, l_14, l_15, l_16, l_17, l_18, l_19, l_20, l_21, l_22, l_23, l_24, l_25, l_26, l_27, l_28, l_29, l_30, l_31, l_32, l_33, l_34, l_35, l_36, l_37, l_38, l_39, l_40, l_41, l_42, l_43, l_44, l_45, l_46, l_47, l_48, l_49, l_50, l_51, l_52, l_53, l_54, l_55, l_56, l_57, l_58, l_59, l_60, l_61, l_62, l_63, l_64, l_72, l_74, l_86, l_97, l_99, l_100, l_122, l_140, l_158, l_160, l_164, l_200, l_240, l_255, l_400, l_406, l_900, l_940, l_980, l_999, l_1120, l_1000, l_100000, PG_of _ hbj, e7]
  · obtain ⟨rfl, i3, i4⟩ := hI
    have hbb : gP a2 6 = some b := (i3.gP 6).trans hb
    rw [PG_of _ hbb]
    rw (occs := .pos [1]) [x3_all_v he hd]
    rw [BD_some, if_pos (nI_lt (by omega) (by omega))]
    refine layW hb he hd (F := fun q => if dif T (q / 5) = 0 then 0 else 100000) ⟨fun q _ _ => ?_, fun q hq dq hlt => Or.inl ?_, fun q hz => ?_⟩ i3 (fun w l hw hl => ?_)
    · show (if dif T (q / 5) = 0 then 0 else 100000) = 100000 ∨ (if dif T (q / 5) = 0 then 0 else 100000) ≤ _
      split
      · exact Or.inr (Nat.zero_le _)
      · exact Or.inl rfl
    · unfold DmC at dq
      simp only [Bool.and_eq_true, decide_eq_true_eq] at dq
      refine ⟨q / 5, q % 5, dq.1, dq.2, ?_, by omega⟩
      have hlt' : (if dif T (q / 5) = 0 then 0 else 100000) < 100000 := hlt
      by_cases g : dif T (q / 5) = 0
      · exact g
      · rw [if_neg g] at hlt'; omega
    · obtain ⟨w, l, a1, a2, a3, rfl⟩ := hz
      show (if dif T ((5 * w + l) / 5) = 0 then 0 else 100000) = 0
      rw [show (5 * w + l) / 5 = w by omega, if_pos a3]
    · rw [i4 w l hw hl]
      show _ = nI (if dif T ((5 * w + l) / 5) = 0 then 0 else 100000)
      rw [show (5 * w + l) / 5 = w by omega]
end LAY
