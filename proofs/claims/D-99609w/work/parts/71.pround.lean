/-! PURE: rounds -/
theorem pop_0 : ∀ w, w < 32 → pop 12 w = 0 → w = 0 := by decide +kernel
theorem pop_dt : ∀ w, w < 32 → ∀ k, k < 5 → w.testBit k = true → pop 12 (dif w (2 ^ k)) + 1 = pop 12 w := by decide +kernel
theorem pop_df : ∀ w, w < 32 → ∀ k, k < 5 → w.testBit k = false → dif w (2 ^ k) = w := by decide +kernel
theorem pop_5 : ∀ w, w < 32 → pop 12 w ≤ 5 := by decide +kernel
section ROUND
variable {d : Nat → Nat} {T : Nat} {F f : Nat → Nat}
theorem tab1 (hP : d 0 ≤ 5) (hT : T < 32) (hF : FIX d T F) (hf : FIXM d f) : ∀ v w l, w < 2 ^ d 0 → l < d 0 → F (5 * w + l) = v → v < 100000 → f (32 * l + dif T w) ≤ v := by
  intro v
  induction v with
  | zero =>
    intro w l hw hl hv hlt
    have hdl := dif_le T w
    by_cases g : dif T w = 0
    · rw [g, Nat.add_zero, hf.2.1 l (by omega)]; omega
    · rcases hF.2.2.2 w l hw hl (by omega) with h | ⟨k, a1, a2, a3⟩
      · exact absurd h g
      · omega
  | succ v ih =>
    intro w l hw hl hv hlt
    have hdl := dif_le T w
    by_cases g : dif T w = 0
    · rw [g, Nat.add_zero, hf.2.1 l (by omega)]; omega
    · rcases hF.2.2.2 w l hw hl (by omega) with h | ⟨k, a1, a2, a3⟩
      · exact absurd h g
      · have h1 := ih (w ||| 2 ^ k) k (or_lt hw a1) a1 (by omega) (by omega)
        rw [← dif_or (by omega)] at h1
        have h2 := hf.2.2.1 l (dif T w) k hl (by omega) (by omega) a1 a2
        omega
theorem tab2 (hP : d 0 ≤ 5) (hT : T < 32) (hF : FIX d T F) (hf : FIXM d f) : ∀ v w l, w < 2 ^ d 0 → l < d 0 → f (32 * l + dif T w) = v → v < 100000 → F (5 * w + l) ≤ v := by
  intro v
  induction v with
  | zero =>
    intro w l hw hl hv hlt
    have hdl := dif_le T w
    by_cases g : dif T w = 0
    · rw [hF.2.1 w l hw hl g]; omega
    · obtain ⟨-, k, a1, a2, a3⟩ := hf.2.2.2 l (dif T w) (by omega) (by omega) (by omega) (by omega)
      omega
  | succ v ih =>
    intro w l hw hl hv hlt
    have hdl := dif_le T w
    by_cases g : dif T w = 0
    · rw [hF.2.1 w l hw hl g]; omega
    · obtain ⟨-, k, a1, a2, a3⟩ := hf.2.2.2 l (dif T w) (by omega) (by omega) (by omega) (by omega)
      rw [dif_or (by omega)] at a3
      have h1 := ih (w ||| 2 ^ k) k (or_lt hw a1) a1 (by omega) (by omega)
      have h2 := hF.2.2.1 w l k hw hl a1 a2
      omega
theorem tabE (hP : d 0 ≤ 5) (hT : T < 32) (hF : FIX d T F) (hf : FIXM d f) {w l : Nat} (hw : w < 2 ^ d 0) (hl : l < d 0) : F (5 * w + l) = f (32 * l + dif T w) := by
  have hdl := dif_le T w
  have h1 := hF.1 w l hw hl
  have h2 := hf.1 (32 * l + dif T w) (by omega)
  by_cases g : F (5 * w + l) < 100000
  · have h3 := tab1 hP hT hF hf _ w l hw hl rfl g
    have h4 := tab2 hP hT hF hf _ w l hw hl rfl (by omega)
    omega
  · by_cases g2 : f (32 * l + dif T w) < 100000
    · have h4 := tab2 hP hT hF hf _ w l hw hl rfl g2
      omega
    · omega
/-- no way is long -/
theorem tabB (hP : d 0 ≤ 5) (hf : FIXM d f) : ∀ p w, w < 32 → pop 12 w = p → ∀ v l, l < 5 → f (32 * l + w) = v → v < 100000 → v ≤ 5 * p := by
  intro p
  induction p with
  | zero =>
    intro w hw hp v l hl hv _
    have h0 := pop_0 w hw hp
    subst h0
    have := hf.2.1 l hl
    rw [Nat.add_zero] at hv
    omega
  | succ p ihp =>
    intro w hw hp
    have hw1 : 1 ≤ w := by
      by_cases g : w = 0
      · subst g
        have : pop 12 0 = 0 := by decide
        omega
      · omega
    have key : ∀ v l, l < 5 → f (32 * l + w) = v → v < 100000 → v ≤ 5 * p + cntN (fun k => decide (f (32 * k + w) ≤ v)) 5 := by
      intro v
      induction v with
      | zero => intro l _ _ _; omega
      | succ v ih =>
        intro l hl hv hlt
        obtain ⟨-, k, a1, a2, a3⟩ := hf.2.2.2 l w hl hw1 hw (by omega)
        cases b : w.testBit k
        · rw [pop_df w hw k (by omega) b] at a3
          have h1 := ih k (by omega) (by omega) (by omega)
          have h2 := cntN_lt (c := fun k => decide (f (32 * k + w) ≤ v)) (c' := fun k => decide (f (32 * k + w) ≤ v + 1)) (q := l) (n := 5) hl (fun i _ hi => by
            rw [decide_eq_true_eq] at hi ⊢; omega) (by rw [decide_eq_false_iff_not]; omega) (by rw [decide_eq_true_eq]; omega)
          omega
        · have hd := dif_le w (2 ^ k)
          have hq := pop_dt w hw k (by omega) b
          have h1 := ihp (dif w (2 ^ k)) (by omega) (by omega) _ k (by omega) rfl (by omega)
          have h2 := cntN_lt (c := fun _ => false) (c' := fun k => decide (f (32 * k + w) ≤ v + 1)) (q := l) (n := 5) hl (fun i _ hi => by cases hi) rfl (by rw [decide_eq_true_eq]; omega)
          omega
    intro v l hl hv hlt
    have h1 := key v l hl hv hlt
    have h2 := cntN_le (fun k => decide (f (32 * k + w) ≤ v)) 5
    omega
/-- the first of five -/
def ff (c : Nat → Bool) : Nat := if c 0 = true then 0 else if c 1 = true then 1 else if c 2 = true then 2 else if c 3 = true then 3 else 4
theorem ff_eq {c : Nat → Bool} {k : Nat} (hk : k < 5) (h1 : c k = true) (h2 : ∀ i, i < k → c i = false) : ff c = k := by
  unfold ff
  rcases (show k = 0 ∨ k = 1 ∨ k = 2 ∨ k = 3 ∨ k = 4 by omega) with rfl | rfl | rfl | rfl | rfl
  · rw [if_pos h1]
  · rw [if_neg (by simp [h2 0 (by omega)]), if_pos h1]
  · rw [if_neg (by simp [h2 0 (by omega)]), if_neg (by simp [h2 1 (by omega)]), if_pos h1]
  · rw [if_neg (by simp [h2 0 (by omega)]), if_neg (by simp [h2 1 (by omega)]), if_neg (by simp [h2 2 (by omega)]), if_pos h1]
  · rw [if_neg (by simp [h2 0 (by omega)]), if_neg (by simp [h2 1 (by omega)]), if_neg (by simp [h2 2 (by omega)]), if_neg (by simp [h2 3 (by omega)])]
def cFd (d F : Nat → Nat) (w h k : Nat) : Bool := (d (6 + h)).testBit k && decide (F (5 * (w ||| 2 ^ k) + k) + 1 = F (5 * w + h))
def pth (d F : Nat → Nat) (l : Nat) : Nat → Nat × Nat
  | 0 => (2 ^ l, l)
  | i + 1 => ((pth d F l i).1 ||| 2 ^ ff (cFd d F (pth d F l i).1 (pth d F l i).2), ff (cFd d F (pth d F l i).1 (pth d F l i).2))
theorem pth_s (d F : Nat → Nat) (l i : Nat) : pth d F l (i + 1) = ((pth d F l i).1 ||| 2 ^ ff (cFd d F (pth d F l i).1 (pth d F l i).2), ff (cFd d F (pth d F l i).1 (pth d F l i).2)) := rfl
theorem step_ex (hd : DI d) (hF : FIX d T F) {w h : Nat} (hw : w < 2 ^ d 0) (hh : h < d 0) (h0 : 0 < F (5 * w + h)) (hlt : F (5 * w + h) < 100000) : ff (cFd d F w h) < d 0 ∧ cFd d F w h (ff (cFd d F w h)) = true ∧ ∀ i, i < ff (cFd d F w h) → cFd d F w h i = false := by
  have hP := hd.P
  have hz : dif T w ≠ 0 := fun e => by have := hF.2.1 w h hw hh e; omega
  rcases hF.2.2.2 w h hw hh hlt with e | ⟨k, a1, a2, a3⟩
  · exact absurd e hz
  · have hc : cFd d F w h k = true := by unfold cFd; simp [a2, a3]
    rcases least_cases (cFd d F w h) (k + 1) with ⟨j, b1, b2, b3⟩ | hn
    · rw [ff_eq (by omega) b2 b3]
      exact ⟨by omega, b2, b3⟩
    · rw [hn k (by omega)] at hc; cases hc
theorem pth_ok (hd : DI d) (hF : FIX d T F) {l : Nat} (hl : l < d 0) (hlt : F (5 * 2 ^ l + l) < 100000) : ∀ i, i ≤ F (5 * 2 ^ l + l) → (pth d F l i).1 < 2 ^ d 0 ∧ (pth d F l i).2 < d 0 ∧ F (5 * (pth d F l i).1 + (pth d F l i).2) + i = F (5 * 2 ^ l + l) := by
  intro i
  induction i with
  | zero => intro _; exact ⟨Nat.pow_lt_pow_right (by omega) hl, hl, rfl⟩
  | succ i ih =>
    intro hi
    obtain ⟨a1, a2, a3⟩ := ih (by omega)
    obtain ⟨b1, b2, b3⟩ := step_ex hd hF a1 a2 (by omega) (by omega)
    rw [pth_s]
    unfold cFd at b2
    simp only [Bool.and_eq_true, decide_eq_true_eq] at b2
    refine ⟨or_lt a1 b1, b1, ?_⟩
    have := b2.2
    show F (5 * ((pth d F l i).1 ||| 2 ^ ff (cFd d F (pth d F l i).1 (pth d F l i).2)) + ff (cFd d F (pth d F l i).1 (pth d F l i).2)) + (i + 1) = _
    unfold cFd at *
    omega
/-- where there is dust -/
def tgN (d : Nat → Nat) : Nat → Nat
  | 0 => 0
  | p + 1 => if 0 < d (32 + p) then tgN d p ||| 2 ^ d (26 + p) else tgN d p
theorem tgN_lt (hd : DI d) : ∀ p, p ≤ d 1 → tgN d p < 32 := by
  intro p
  induction p with
  | zero => intro _; show (0 : Nat) < 32; omega
  | succ p ih =>
    intro hp
    have h1 := hd.pl (p := p) (by omega)
    have h2 := hd.P
    have h3 := ih (by omega)
    have hs : tgN d (p + 1) = if 0 < d (32 + p) then tgN d p ||| 2 ^ d (26 + p) else tgN d p := rfl
    rw [hs]
    split
    · exact Nat.or_lt_two_pow (n := 5) h3 (Nat.pow_lt_pow_right (by omega) (by omega))
    · exact h3
end ROUND
def FRR (c s : Rec) : Prop := s.2.2 = c.2.2 ∧ (∀ k, k ≠ 20 → gI s k = gI c k) ∧ (∀ k, k < 200 → k ≠ 19 → gA s k = gA c k)
theorem FRR.gP {c s : Rec} (h : FRR c s) (k : Nat) : gP s k = gP c k := congrArg (fun r : (Nat → Int64) × (Nat → Nat → Int64) × (Nat → Option Nat) × (Nat → Nat → Option Nat) => r.2.2.1 k) h.1
theorem FRR.gQ {c s : Rec} (h : FRR c s) (k : Nat) : gQ s k = gQ c k := congrArg (fun r : (Nat → Int64) × (Nat → Nat → Int64) × (Nat → Option Nat) × (Nat → Nat → Option Nat) => r.2.2.2 k) h.1
def FRT (m s : Rec) : Prop := s.2.2 = m.2.2 ∧ (∀ k, k ≠ 29 → gI s k = gI m k) ∧ (∀ k, k ≠ 27 → k ≠ 28 → gA s k = gA m k)
theorem FRT.gL {c s : Rec} (h : FRT c s) (k : Nat) : gL s k = gL c k := congrArg (fun r : (Nat → Int64) × (Nat → Nat → Int64) × (Nat → Option Nat) × (Nat → Nat → Option Nat) => r.2.1 k) h.1
section OPS
variable {x : Nat} {G : Wd} {m c : Rec} {b : Nat} {e z : Rec} {d : Nat → Nat} {ow : Nat → Nat} {n : Nat} {U : Nat → Nat → Nat}
theorem RR.rnd (h : RR x G m c b e z d ow n U) {c' m' : Rec} (hc : FRR c c') (hm : FRT m m') (h6 : ∃ k, k ≤ 32 ∧ gI m' 29 = nI k ∧ (gI c' 20 = nI k ∨ (k = 0 ∧ gI c' 20 = -1)) ∧ ∀ i, i < k → gA c' 19 i = gA m' 28 i) : RR x (wp G x 0 c') m' c' b e z d ow n U := by
  obtain ⟨w1, w2, w3, w4, w5, w6, w7, w8, w9⟩ := h.ms
  refine h.main ⟨hc.gP 6, hc.gP 31, hc.gQ 12, hc.gQ 32, hc.2.1 13 (by omega)⟩ ⟨?_, ?_, ?_, ?_, ?_, h6, ?_, ?_, ?_⟩ ⟨hm.gL 19, hm.gL 21, hm.2.2 14 (by omega) (by omega), hm.2.2 16 (by omega) (by omega), hm.2.2 17 (by omega) (by omega), hm.2.2 22 (by omega) (by omega), hm.2.1 24 (by omega)⟩
  · rw [hc.2.2 0 (by omega) (by omega), hm.2.2 1 (by omega) (by omega)]; exact w1
  · rw [hc.2.1 1 (by omega), hm.2.1 2 (by omega)]; exact w2
  · rw [hc.2.1 11 (by omega), hm.2.1 10 (by omega)]; exact w3
  · rw [hc.2.1 15 (by omega), hc.2.1 14 (by omega), hm.2.1 25 (by omega)]; exact w4
  · rw [hc.2.1 17 (by omega), hc.2.1 16 (by omega), hm.2.1 26 (by omega)]; exact w5
  · rw [hc.2.1 25 (by omega), hc.2.1 21 (by omega), hc.2.1 22 (by omega), hc.2.1 23 (by omega), hm.2.1 31 (by omega), hm.2.2 30 (by omega) (by omega)]; exact w7
  · rw [hc.2.1 27 (by omega), hc.2.2 26 (by omega) (by omega), hm.2.1 34 (by omega), hm.2.2 33 (by omega) (by omega)]; exact w8
  · rw [hc.2.1 29 (by omega), hc.2.2 28 (by omega) (by omega), hm.2.1 39 (by omega), hm.2.2 37 (by omega) (by omega)]; exact w9
theorem x1_walk (hb : gP c 6 = some b) (he : HS e d) (hd : DI d) {T : Nat} {F : Nat → Nat} (hF : FIX d T F) {l : Nat} (hl : l < d 0) (hlt : F (5 * 2 ^ l + l) ≤ 32) {s : Rec} (hs : FRR c s) (h20 : gI s 20 = nI (F (5 * 2 ^ l + l))) (hC : CTB d s F) : ∃ s', LP4 (fun (rec16 : Int32 → Int32 → Int32 → Rec → Option (Int32 × Rec)) (v12 : Int32) (v13 : Int32) (v14 : Int32) (s15 : Rec) => (if nI (F (5 * 2 ^ l + l)) ≤ v14 then some (nI (F (5 * 2 ^ l + l)), s15) else LP1 (fun (rec18 : Int32 → Option (Int32 × Rec)) (v17 : Int32) => PG (gP s15 6) b (IX v13 5 (fun i20 => BD (x1_has (gA e 4 i20) v17) (fun v22 => (if v22 = 0 then rec18 (v17 + (1 : Int32)) else BD (x1_leftBy s15 v12 v17) (fun v24 => (if v24 = ((nI (F (5 * 2 ^ l + l)) - v14) - (1 : Int32)) then IX v14 40 (fun i25 => LT (sA s15 19 i25 v17) (fun s26 => rec16 (v12 ||| ((1 : Int32) <<< (v17 &&& 31))) v17 (v14 + (1 : Int32)) s26)) else rec18 (v17 + (1 : Int32))))))))) FU (0 : Int32))) FU (nI (2 ^ l)) (nI l) (0 : Int32) s = some (nI (F (5 * 2 ^ l + l)), s') ∧ FRR c s' ∧ gI s' 20 = nI (F (5 * 2 ^ l + l)) ∧ ∀ i, i < F (5 * 2 ^ l + l) → gA s' 19 i = nI (pth d F l (i + 1)).2 := by
  have hP := hd.P
  have p5' := p5 hP
  generalize hS : F (5 * 2 ^ l + l) = S at hlt h20 ⊢
  have hpo := pth_ok hd hF hl (by omega)
  rw [hS] at hpo
  refine LP4_inv (fun i a1 a2 a3 a4 => a1 = nI (pth d F l i).1 ∧ a2 = nI (pth d F l i).2 ∧ a3 = nI i ∧ FRR c a4 ∧ gI a4 20 = nI S ∧ CTB d a4 F ∧ ∀ j, j < i → gA a4 19 j = nI (pth d F l (j + 1)).2) (fun o => ∃ s', o = some (nI S, s') ∧ FRR c s' ∧ gI s' 20 = nI S ∧ ∀ i, i < S → gA s' 19 i = nI (pth d F l (i + 1)).2) S (by omega) ⟨rfl, rfl, rfl, hs, h20, hC, fun j hj => absurd hj (Nat.not_lt_zero j)⟩ (fun i a1 a2 a3 a4 rec hi hI => Or.inl ?_) (fun a1 a2 a3 a4 rec hI => ?_)
  · obtain ⟨rfl, rfl, rfl, i3, i4, i5, i6⟩ := hI
    have hbb : gP a4 6 = some b := (i3.gP 6).trans hb
    obtain ⟨a1, a2, a3⟩ := hpo i (by omega)
    obtain ⟨q1, q2, q3⟩ := step_ex hd hF a1 a2 (by omega) (by omega)
    have hps := pth_s d F l i
    generalize (pth d F l i).1 = w at a1 a2 a3 q1 q2 q3 hps ⊢
    generalize (pth d F l i).2 = hh at a1 a2 a3 q1 q2 q3 hps ⊢
    have e4 := he.2.2.2.2.2.2.2.1 hh (by omega)
    have hsg := hd.sg (l := hh) (by omega)
    have lb : ∀ k, k < d 0 → x1_leftBy a4 (nI w) (nI k) = some (nI (F (5 * (w ||| 2 ^ k) + k))) := fun k hk => by
      have k2 : 2 ^ k < 32 := Nat.lt_of_lt_of_le (Nat.pow_lt_pow_right (by omega) hk) p5'
      have eo : nI w ||| ((1 : Int32) <<< (nI k &&& 31)) = nI (w ||| 2 ^ k) := by rw [shl1 k (by omega), nI_or (by omega) (by omega)]
      have ho := or_lt a1 hk
      unfold x1_leftBy
      rw [eo, IX_nI _ (by omega) (by omega), IX_nI _ (by omega) (by omega), i5 _ _ ho hk]
    have fle : ∀ k, k < d 0 → F (5 * (w ||| 2 ^ k) + k) ≤ 100000 := fun k hk => hF.1 _ _ (or_lt a1 hk) hk
    generalize hkk : ff (cFd d F w hh) = kk at q1 q2 q3 hps
    refine ⟨_, _, _, sA a4 19 i (nI kk), ⟨rfl, rfl, rfl, ⟨i3.1, i3.2.1, fun k h1 h2 => ?_⟩, i4, fun w' l' h1 h2 => ?_, fun j hj => ?_⟩, ?_⟩
    · rw [gA_sAn _ _ _ h2]; exact i3.2.2 k h1 h2
    · rw [gA_sAn _ _ _ (by omega)]; exact i5 w' l' h1 h2
    · by_cases ej : j = i
      · subst ej; rw [gA_sAs, hps]
      · rw [gA_sAi _ _ _ ej]; exact i6 j (by omega)
    · rw [hps]
      refine (if_neg (nI_ge hi (by omega))).trans ?_
      refine LP1_run (fun k => nI k) 0 kk (by omega) rfl (fun k _ hk rec2 => ?_) (fun rec2 => ?_)
      · have hc := q3 k (by omega)
        unfold cFd at hc
        cases a : (d (6 + hh)).testBit k
        · simp (disch := omega) only [Nat.zero_add, LT, BD_some, BD2_some, JN1, JN2, IX_nI, nI_add, pk_mul, pk_sub, leT, leF, ltT, ltF, eqT, eqF, M1_lit, bI_true, bI_false, BZ_n0, BZ_n1, BZ_b, ↓reduceIte, l_0, l_1, l_2, l_3, l_4, l_5, l_6, l_7, l_8, l_9, l_10, l_11, l_12, l_13, l_14, l_15, l_16, l_17, l_18, l_19, l_20, l_21, l_22, l_23, l_24, l_25, l_26, l_27, l_28, l_29, l_30, l_31, l_32, l_33, l_34, l_35, l_36, l_37, l_38, l_39, l_40, l_41, l_42, l_43, l_44, l_45, l_46, l_47, l_48, l_49, l_50, l_51, l_52, l_53, l_54, l_55, l_56, l_57, l_58, l_59, l_60, l_61, l_62, l_63, l_64, l_72, l_74, l_86, l_97, l_99, l_100, l_122, l_140, l_158, l_160, l_164, l_200, l_240, l_255, l_400, l_406, l_900, l_940, l_980, l_999, l_1120, l_1000, l_100000, PG_of _ hbb, e4, x1_has_v, hs_nI, a]
        · have hne : ¬ F (5 * (w ||| 2 ^ k) + k) + 1 = F (5 * w + hh) := by simpa [a] using hc
          have := fle k (by omega)
          simp (disch := omega) only [Nat.zero_add, LT, BD_some, BD2_some, JN1, JN2, IX_nI, nI_add, pk_mul, pk_sub, leT, leF, ltT, ltF, eqT, eqF, M1_lit, bI_true, bI_false, BZ_n0, BZ_n1, BZ_b, ↓reduceIte, l_0, l_1, l_2, l_3, l_4, l_5, l_6, l_7, l_8, l_9, l_10, l_11, l_12, l_13, l_14, l_15, l_16, l_17, l_18, l_19, l_20, l_21, l_22, l_23, l_24, l_25, l_26, l_27, l_28, l_29, l_30, l_31, l_32, l_33, l_34, l_35, l_36, l_37, l_38, l_39, l_40, l_41, l_42, l_43, l_44, l_45, l_46, l_47, l_48, l_49, l_50, l_51, l_52, l_53, l_54, l_55, l_56, l_57, l_58, l_59, l_60, l_61, l_62, l_63, l_64, l_72, l_74, l_86, l_97, l_99, l_100, l_122, l_140, l_158, l_160, l_164, l_200, l_240, l_255, l_400, l_406, l_900, l_940, l_980, l_999, l_1120, l_1000, l_100000, PG_of _ hbb, e4, x1_has_v, hs_nI, a, lb k (by omega)]
      · unfold cFd at q2
        simp only [Bool.and_eq_true, decide_eq_true_eq] at q2
        have := fle kk q1
        have k2 : 2 ^ kk < 32 := Nat.lt_of_lt_of_le (Nat.pow_lt_pow_right (by omega) q1) p5'
        have eo : nI w ||| (nI 1 <<< (nI kk &&& nI 31)) = nI (w ||| 2 ^ kk) := by rw [shl1' kk (by omega), nI_or (by omega) (by omega)]
        simp (disch := omega) only [Nat.zero_add, LT, BD_some, BD2_some, JN1, JN2, IX_nI, nI_add, pk_mul, pk_sub, leT, leF, ltT, ltF, eqT, eqF, M1_lit, bI_true, bI_false, BZ_n0, BZ_n1, BZ_b, ↓reduceIte, l_0, l_1, l_2, l_3, l_4, l_5, l_6, l_7, l_8, l_9, l_10, l_11, l_12, l_13, l_14, l_15, l_16, l_17, l_18, l_19, l_20, l_21, l_22, l_23, l_24, l_25, l_26, l_27, l_28, l_29, l_30, l_31, l_32, l_33, l_34, l_35, l_36, l_37, l_38, l_39, l_40, l_41, l_42, l_43, l_44, l_45, l_46, l_47, l_48, l_49, l_50, l_51, l_52, l_53, l_54, l_55, l_56, l_57, l_58, l_59, l_60, l_61, l_62, l_63, l_64, l_72, l_74, l_86, l_97, l_99, l_100, l_122, l_140, l_158, l_160, l_164, l_200, l_240, l_255, l_400, l_406, l_900, l_940, l_980, l_999, l_1120, l_1000, l_100000, PG_of _ hbb, e4, x1_has_v, hs_nI, q2.1, lb kk q1, eo]
  · obtain ⟨rfl, rfl, rfl, i3, i4, i5, i6⟩ := hI
    exact ⟨a4, if_pos (nI_le (Nat.le_refl _) (by omega)), i3, i4, i6⟩
theorem m_walk {T : Nat} {F f : Nat → Nat} (h14 : gA m 14 = RF d) (hd : DI d) (hT : T < 32) (hF : FIX d T F) (hf : FIXM d f) {l : Nat} (hl : l < d 0) (hlt : F (5 * 2 ^ l + l) ≤ 32) {s : Rec} (hs : FRT m s) (hC : MTB s f) : ∃ s', LP4 (fun (rec16 : Int32 → Int32 → Int32 → Rec → Option (Int32 × Rec)) (v12 : Int32) (v13 : Int32) (v14 : Int32) (s15 : Rec) => (if nI (F (5 * 2 ^ l + l)) ≤ v14 then LT (sI s15 29 (nI (F (5 * 2 ^ l + l)))) (fun s17 => some (nI (F (5 * 2 ^ l + l)), s17)) else LP1 (fun (rec19 : Int32 → Option (Int32 × Rec)) (v18 : Int32) => IX ((6 : Int32) + v13) 406 (fun i20 => BD (m_has (gA s15 14 i20) v18) (fun v22 => (if v22 = 0 then rec19 (v18 + (1 : Int32)) else BD (m_cellOf v18 (v12 &&& (((1 : Int32) <<< (v18 &&& 31)) ^^^ (-1 : Int32)))) (fun v24 => IX v24 160 (fun i25 => (if (gA s15 27 i25) = ((nI (F (5 * 2 ^ l + l)) - v14) - (1 : Int32)) then IX v14 32 (fun i26 => LT (sA s15 28 i26 v18) (fun s27 => rec16 (v12 &&& (((1 : Int32) <<< (v18 &&& 31)) ^^^ (-1 : Int32))) v18 (v14 + (1 : Int32)) s27)) else rec19 (v18 + (1 : Int32))))))))) FU (0 : Int32))) FU (nI (dif T (2 ^ l))) (nI l) (0 : Int32) s = some (nI (F (5 * 2 ^ l + l)), s') ∧ FRT m s' ∧ gI s' 29 = nI (F (5 * 2 ^ l + l)) ∧ ∀ i, i < F (5 * 2 ^ l + l) → gA s' 28 i = nI (pth d F l (i + 1)).2 := by
  have hP := hd.P
  have p5' := p5 hP
  generalize hS : F (5 * 2 ^ l + l) = S at hlt ⊢
  have hpo := pth_ok hd hF hl (by omega)
  rw [hS] at hpo
  have cell : ∀ a w : Nat, m_cellOf (nI a) (nI w) = some (nI (32 * a + w)) := fun a w => by
    unfold m_cellOf; rw [show (32 : Int32) = nI 32 from rfl, pk_mul, nI_add]
  refine LP4_inv (fun i a1 a2 a3 a4 => a1 = nI (dif T (pth d F l i).1) ∧ a2 = nI (pth d F l i).2 ∧ a3 = nI i ∧ FRT m a4 ∧ MTB a4 f ∧ ∀ j, j < i → gA a4 28 j = nI (pth d F l (j + 1)).2) (fun o => ∃ s', o = some (nI S, s') ∧ FRT m s' ∧ gI s' 29 = nI S ∧ ∀ i, i < S → gA s' 28 i = nI (pth d F l (i + 1)).2) S (by omega) ⟨rfl, rfl, rfl, hs, hC, fun j hj => absurd hj (Nat.not_lt_zero j)⟩ (fun i a1 a2 a3 a4 rec hi hI => Or.inl ?_) (fun a1 a2 a3 a4 rec hI => ?_)
  · obtain ⟨rfl, rfl, rfl, i3, i5, i6⟩ := hI
    have h3 : gA a4 14 = RF d := (i3.2.2 14 (by omega) (by omega)).trans h14
    obtain ⟨a1, a2, a3⟩ := hpo i (by omega)
    obtain ⟨q1, q2, q3⟩ := step_ex hd hF a1 a2 (by omega) (by omega)
    have hps := pth_s d F l i
    generalize (pth d F l i).1 = w at a1 a2 a3 q1 q2 q3 hps ⊢
    generalize (pth d F l i).2 = hh at a1 a2 a3 q1 q2 q3 hps ⊢
    have hsg := hd.sg (l := hh) (by omega)
    have hTw := dif_le T w
    have eo : ∀ k, k < d 0 → nI (dif T w) &&& ((nI 1 <<< (nI k &&& nI 31)) ^^^ M1) = nI (dif T (w ||| 2 ^ k)) := fun k hk => by
      have k2 : 2 ^ k < 32 := Nat.lt_of_lt_of_le (Nat.pow_lt_pow_right (by omega) hk) p5'
      rw [shl1' k (by omega), nI_dif (by omega) (by omega), dif_or (by omega)]
    have gv : ∀ k, k < d 0 → gA a4 27 (32 * k + dif T (w ||| 2 ^ k)) = nI (F (5 * (w ||| 2 ^ k) + k)) := fun k hk => by
      have := dif_le T (w ||| 2 ^ k)
      rw [i5 _ (by omega), tabE hP hT hF hf (or_lt a1 hk) hk]
    have fle : ∀ k, k < d 0 → F (5 * (w ||| 2 ^ k) + k) ≤ 100000 := fun k hk => hF.1 _ _ (or_lt a1 hk) hk
    have dle : ∀ k, dif T (w ||| 2 ^ k) < 32 := fun k => Nat.lt_of_le_of_lt (dif_le _ _) hT
    generalize hkk : ff (cFd d F w hh) = kk at q1 q2 q3 hps
    refine ⟨_, _, _, sA a4 28 i (nI kk), ⟨rfl, rfl, rfl, ⟨i3.1, i3.2.1, fun k h1 h2 => ?_⟩, fun q hq => ?_, fun j hj => ?_⟩, ?_⟩
    · rw [gA_sAn _ _ _ h2]; exact i3.2.2 k h1 h2
    · rw [gA_sAn _ _ _ (by omega)]; exact i5 q hq
    · by_cases ej : j = i
      · subst ej; rw [gA_sAs, hps]
      · rw [gA_sAi _ _ _ ej]; exact i6 j (by omega)
    · rw [hps]
      refine (if_neg (nI_ge hi (by omega))).trans ?_
      refine LP1_run (fun k => nI k) 0 kk (by omega) rfl (fun k _ hk rec2 => ?_) (fun rec2 => ?_)
      · have hc := q3 k (by omega)
        unfold cFd at hc
        have d1 := dle k
        cases a : (d (6 + hh)).testBit k
        · simp (disch := omega) only [Nat.zero_add, LT, BD_some, BD2_some, JN1, JN2, IX_nI, nI_add, pk_mul, pk_sub, leT, leF, ltT, ltF, eqT, eqF, M1_lit, bI_true, bI_false, BZ_n0, BZ_n1, BZ_b, ↓reduceIte, l_0, l_1, l_2, l_3, l_4, l_5, l_6, l_7, l_8, l_9, l_10, l_11, l_12, l_13, l_14, l_15, l_16, l_17, l_18, l_19, l_20, l_21, l_22, l_23, l_24, l_25, l_26, l_27, l_28, l_29, l_30, l_31, l_32, l_33, l_34, l_35, l_36, l_37, l_38, l_39, l_40, l_41, l_42, l_43, l_44, l_45, l_46, l_47, l_48, l_49, l_50, l_51, l_52, l_53, l_54, l_55, l_56, l_57, l_58, l_59, l_60, l_61, l_62, l_63, l_64, l_72, l_74, l_86, l_97, l_99, l_100, l_122, l_140, l_158, l_160, l_164, l_200, l_240, l_255, l_400, l_406, l_900, l_940, l_980, l_999, l_1120, l_1000, l_100000, h3, RF_a, m_has_v, hs_nI, a]
        · have hne : ¬ F (5 * (w ||| 2 ^ k) + k) + 1 = F (5 * w + hh) := by simpa [a] using hc
          have := fle k (by omega)
          simp (disch := omega) only [Nat.zero_add, LT, BD_some, BD2_some, JN1, JN2, IX_nI, nI_add, pk_mul, pk_sub, leT, leF, ltT, ltF, eqT, eqF, M1_lit, bI_true, bI_false, BZ_n0, BZ_n1, BZ_b, ↓reduceIte, l_0, l_1, l_2, l_3, l_4, l_5, l_6, l_7, l_8, l_9, l_10, l_11, l_12, l_13, l_14, l_15, l_16, l_17, l_18, l_19, l_20, l_21, l_22, l_23, l_24, l_25, l_26, l_27, l_28, l_29, l_30, l_31, l_32, l_33, l_34, l_35, l_36, l_37, l_38, l_39, l_40, l_41, l_42, l_43, l_44, l_45, l_46, l_47, l_48, l_49, l_50, l_51, l_52, l_53, l_54, l_55, l_56, l_57, l_58, l_59, l_60, l_61, l_62, l_63, l_64, l_72, l_74, l_86, l_97, l_99, l_100, l_122, l_140, l_158, l_160, l_164, l_200, l_240, l_255, l_400, l_406, l_900, l_940, l_980, l_999, l_1120, l_1000, l_100000, h3, RF_a, m_has_v, hs_nI, a, eo k (by omega), cell, gv k (by omega)]
      · unfold cFd at q2
        simp only [Bool.and_eq_true, decide_eq_true_eq] at q2
        have := fle kk q1
        have d1 := dle kk
        simp (disch := omega) only [Nat.zero_add, LT, BD_some, BD2_some, JN1, JN2, IX_nI, nI_add, pk_mul, pk_sub, leT, leF, ltT, ltF, eqT, eqF, M1_lit, bI_true, bI_false, BZ_n0, BZ_n1, BZ_b, ↓reduceIte, l_0, l_1, l_2, l_3, l_4, l_5, l_6, l_7, l_8, l_9, l_10, l_11, l_12, l_13, l_14, l_15, l_16, l_17, l_18, l_19, l_20, l_21, l_22, l_23, l_24, l_25, l_26, l_27, l_28, l_29, l_30, l_31, l_32, l_33, l_34, l_35, l_36, l_37, l_38, l_39, l_40, l_41, l_42, l_43, l_44, l_45, l_46, l_47, l_48, l_49, l_50, l_51, l_52, l_53, l_54, l_55, l_56, l_57, l_58, l_59, l_60, l_61, l_62, l_63, l_64, l_72, l_74, l_86, l_97, l_99, l_100, l_122, l_140, l_158, l_160, l_164, l_200, l_240, l_255, l_400, l_406, l_900, l_940, l_980, l_999, l_1120, l_1000, l_100000, h3, RF_a, m_has_v, hs_nI, q2.1, eo kk q1, cell, gv kk q1]
  · obtain ⟨rfl, rfl, rfl, i3, i5, i6⟩ := hI
    refine ⟨sI a4 29 (nI S), if_pos (nI_le (Nat.le_refl _) (by omega)), ⟨i3.1, fun k hk => ?_, i3.2.2⟩, gI_sIs _ _ _, i6⟩
    rw [gI_sIn _ _ hk]; exact i3.2.1 k hk
theorem op_round (h : RR x G m c b e z d ow n U) (w : Int32) : ∃ v c' m', x1_round c b e z w = some (v, c') ∧ m_round m w = some (v, m') ∧ RR x (wp G x 0 c') m' c' b e z d ow n U := by
  have hd := h.di
  have hP := hd.P
  have hN := hd.N
  have p5' := p5 hP
  unfold x1_round m_round
  rw [LT]
  have h1 := h.t0 0
  generalize sI m 0 0 = s at h1 ⊢
  rw [x1_isParlour_v h.hb h.he, m_isParlour_v h1.h14, BD_some, BD_some]
  rcases inn_count w (d 0) (by omega) with ⟨hp, l, hl, rfl⟩ | hp
  · rw [hp, if_neg (show ¬ bI true = (0 : Int32) by decide), if_neg (show ¬ bI true = (0 : Int32) by decide)]
    have hT := tgN_lt hd (d 1) (Nat.le_refl _)
    have e8 := h.he.2.1
    have z0 := h.hz.2.2.1
    have z1 := h.hz.2.2.2.1
    have k2 : 2 ^ l < 32 := Nat.lt_of_lt_of_le (Nat.pow_lt_pow_right (by omega) hl) p5'
    have xT : ∀ (K : Int32 → Option (Int32 × Rec)) {R : Option (Int32 × Rec)}, K (nI (tgN d (d 1))) = R → LP2 (fun (rec5 : Int32 → Int32 → Option (Int32 × Rec)) (v3 : Int32) (v4 : Int32) => PG (gP c 6) b ((if (gI e 8) ≤ v4 then K v3 else IX v4 6 (fun i27 => (if (gA z 1 i27) ≤ 0 then rec5 v3 (v4 + (1 : Int32)) else rec5 (v3 ||| ((1 : Int32) <<< ((gA z 0 i27) &&& 31))) (v4 + (1 : Int32))))))) FU (0 : Int32) (0 : Int32) = R := by
      intro K R hK
      refine LP2_run (fun p => nI (tgN d p)) (fun p => nI p) 0 (d 1) (by omega) rfl rfl (fun p _ hp rec => ?_) (fun rec => ?_)
      · have hs : tgN d (p + 1) = if 0 < d (32 + p) then tgN d p ||| 2 ^ d (26 + p) else tgN d p := rfl
        have h3 := tgN_lt hd p (by omega)
        have hpl := hd.pl (p := p) (by omega)
        have h8 := hd.dust (p := p) (by omega)
        have q2 : 2 ^ d (26 + p) < 32 := Nat.lt_of_lt_of_le (Nat.pow_lt_pow_right (by omega) hpl) p5'
        by_cases g : 0 < d (32 + p)
        · rw [if_pos g] at hs
          have eo : nI (tgN d p) ||| (nI 1 <<< (nI (d (26 + p)) &&& nI 31)) = nI (tgN d (p + 1)) := by rw [shl1' _ (by omega), nI_or (by omega) (by omega), hs]
          simp (disch := omega) only [Nat.zero_add, LT, BD_some, BD2_some, JN1, JN2, IX_nI, nI_add, pk_mul, pk_sub, leT, leF, ltT, ltF, eqT, eqF, M1_lit, bI_true, bI_false, BZ_n0, BZ_n1, BZ_b, ↓reduceIte, l_0, l_1, l_2, l_3, l_4, l_5, l_6, l_7, l_8, l_9, l_10, l_11, l_12, l_13, l_14, l_15, l_16, l_17, l_18, l_19, l_20, l_21, l_22, l_23, l_24, l_25, l_26, l_27, l_28, l_29, l_30, l_31, l_32, l_33, l_34, l_35, l_36, l_37, l_38, l_39, l_40, l_41, l_42, l_43, l_44, l_45, l_46, l_47, l_48, l_49, l_50, l_51, l_52, l_53, l_54, l_55, l_56, l_57, l_58, l_59, l_60, l_61, l_62, l_63, l_64, l_72, l_74, l_86, l_97, l_99, l_100, l_122, l_140, l_158, l_160, l_164, l_200, l_240, l_255, l_400, l_406, l_900, l_940, l_980, l_999, l_1120, l_1000, l_100000, PG_of _ h.hb, e8, z1, z0, eo]
        · rw [if_neg g] at hs
          simp (disch := omega) only [Nat.zero_add, LT, BD_some, BD2_some, JN1, JN2, IX_nI, nI_add, pk_mul, pk_sub, leT, leF, ltT, ltF, eqT, eqF, M1_lit, bI_true, bI_false, BZ_n0, BZ_n1, BZ_b, ↓reduceIte, l_0, l_1, l_2, l_3, l_4, l_5, l_6, l_7, l_8, l_9, l_10, l_11, l_12, l_13, l_14, l_15, l_16, l_17, l_18, l_19, l_20, l_21, l_22, l_23, l_24, l_25, l_26, l_27, l_28, l_29, l_30, l_31, l_32, l_33, l_34, l_35, l_36, l_37, l_38, l_39, l_40, l_41, l_42, l_43, l_44, l_45, l_46, l_47, l_48, l_49, l_50, l_51, l_52, l_53, l_54, l_55, l_56, l_57, l_58, l_59, l_60, l_61, l_62, l_63, l_64, l_72, l_74, l_86, l_97, l_99, l_100, l_122, l_140, l_158, l_160, l_164, l_200, l_240, l_255, l_400, l_406, l_900, l_940, l_980, l_999, l_1120, l_1000, l_100000, PG_of _ h.hb, e8, z1, hs]
      · rw [Nat.zero_add]
        show PG (gP c 6) b _ = R
        rw [PG_of _ h.hb, e8, if_pos (nI_le (Nat.le_refl _) (by omega))]
        exact hK
    have mT : ∀ (K : Int32 → Option (Int32 × Rec)) {R : Option (Int32 × Rec)}, K (nI (tgN d (d 1))) = R → LP2 (fun (rec6 : Int32 → Int32 → Option (Int32 × Rec)) (v4 : Int32) (v5 : Int32) => (if (gA s 14 1) ≤ v5 then K v4 else IX ((32 : Int32) + v5) 406 (fun i28 => (if (gA s 14 i28) ≤ 0 then rec6 v4 (v5 + (1 : Int32)) else IX ((26 : Int32) + v5) 406 (fun i29 => rec6 (v4 ||| ((1 : Int32) <<< ((gA s 14 i29) &&& 31))) (v5 + (1 : Int32))))))) FU (0 : Int32) (0 : Int32) = R := by
      intro K R hK
      refine LP2_run (fun p => nI (tgN d p)) (fun p => nI p) 0 (d 1) (by omega) rfl rfl (fun p _ hp rec => ?_) (fun rec => ?_)
      · have hs : tgN d (p + 1) = if 0 < d (32 + p) then tgN d p ||| 2 ^ d (26 + p) else tgN d p := rfl
        have h3 := tgN_lt hd p (by omega)
        have hpl := hd.pl (p := p) (by omega)
        have h8 := hd.dust (p := p) (by omega)
        have q2 : 2 ^ d (26 + p) < 32 := Nat.lt_of_lt_of_le (Nat.pow_lt_pow_right (by omega) hpl) p5'
        by_cases g : 0 < d (32 + p)
        · rw [if_pos g] at hs
          have eo : nI (tgN d p) ||| (nI 1 <<< (nI (d (26 + p)) &&& nI 31)) = nI (tgN d (p + 1)) := by rw [shl1' _ (by omega), nI_or (by omega) (by omega), hs]
          simp (disch := omega) only [Nat.zero_add, LT, BD_some, BD2_some, JN1, JN2, IX_nI, nI_add, pk_mul, pk_sub, leT, leF, ltT, ltF, eqT, eqF, M1_lit, bI_true, bI_false, BZ_n0, BZ_n1, BZ_b, ↓reduceIte, l_0, l_1, l_2, l_3, l_4, l_5, l_6, l_7, l_8, l_9, l_10, l_11, l_12, l_13, l_14, l_15, l_16, l_17, l_18, l_19, l_20, l_21, l_22, l_23, l_24, l_25, l_26, l_27, l_28, l_29, l_30, l_31, l_32, l_33, l_34, l_35, l_36, l_37, l_38, l_39, l_40, l_41, l_42, l_43, l_44, l_45, l_46, l_47, l_48, l_49, l_50, l_51, l_52, l_53, l_54, l_55, l_56, l_57, l_58, l_59, l_60, l_61, l_62, l_63, l_64, l_72, l_74, l_86, l_97, l_99, l_100, l_122, l_140, l_158, l_160, l_164, l_200, l_240, l_255, l_400, l_406, l_900, l_940, l_980, l_999, l_1120, l_1000, l_100000, h1.h14, RF_a, eo]
        · rw [if_neg g] at hs
          simp (disch := omega) only [Nat.zero_add, LT, BD_some, BD2_some, JN1, JN2, IX_nI, nI_add, pk_mul, pk_sub, leT, leF, ltT, ltF, eqT, eqF, M1_lit, bI_true, bI_false, BZ_n0, BZ_n1, BZ_b, ↓reduceIte, l_0, l_1, l_2, l_3, l_4, l_5, l_6, l_7, l_8, l_9, l_10, l_11, l_12, l_13, l_14, l_15, l_16, l_17, l_18, l_19, l_20, l_21, l_22, l_23, l_24, l_25, l_26, l_27, l_28, l_29, l_30, l_31, l_32, l_33, l_34, l_35, l_36, l_37, l_38, l_39, l_40, l_41, l_42, l_43, l_44, l_45, l_46, l_47, l_48, l_49, l_50, l_51, l_52, l_53, l_54, l_55, l_56, l_57, l_58, l_59, l_60, l_61, l_62, l_63, l_64, l_72, l_74, l_86, l_97, l_99, l_100, l_122, l_140, l_158, l_160, l_164, l_200, l_240, l_255, l_400, l_406, l_900, l_940, l_980, l_999, l_1120, l_1000, l_100000, h1.h14, RF_a, hs]
      · rw [Nat.zero_add]
        refine (if_pos ?_).trans hK
        rw [h1.h14, RF_a (by omega)]
        exact nI_le (Nat.le_refl _) (by omega)
    obtain ⟨s8, F, x1, x2, x3, x4⟩ := x1_layLeft_v h.hb h.he hd hT
    obtain ⟨r8, f, y1, y2, y3, y4⟩ := m_laySteps_v h1.h14 hd
    have hw2 : 2 ^ l < 2 ^ d 0 := Nat.pow_lt_pow_right (by omega) hl
    have cF := x3 _ _ hw2 hl
    have hTl := dif_le (tgN d (d 1)) (2 ^ l)
    have hE := tabE hP hT x4 y4 hw2 hl
    have cM : gA r8 27 (32 * l + dif (tgN d (d 1)) (2 ^ l)) = nI (F (5 * 2 ^ l + l)) := by rw [y3 _ (by omega), hE]
    have sh : (1 : Int32) <<< (nI l &&& 31) = nI (2 ^ l) := shl1 l (by omega)
    have eo : nI (tgN d (d 1)) &&& (nI (2 ^ l) ^^^ (-1 : Int32)) = nI (dif (tgN d (d 1)) (2 ^ l)) := nI_dif (by omega) (by omega)
    have ce : m_cellOf (nI l) (nI (dif (tgN d (d 1)) (2 ^ l))) = some (nI (32 * l + dif (tgN d (d 1)) (2 ^ l))) := by
      unfold m_cellOf; rw [show (32 : Int32) = nI 32 from rfl, pk_mul, nI_add]
    have hle := x4.1 _ _ hw2 hl
    have hfr : FRR c s8 := ⟨x2.2.1, fun k _ => x2.gI k, fun k hk _ => x2.2.2 k hk⟩
    have hft : FRT s r8 := ⟨y2.2.1, fun k _ => y2.gI k, fun k hk _ => y2.2.2 k hk⟩
    by_cases g : F (5 * 2 ^ l + l) < 100000
    · have hB : F (5 * 2 ^ l + l) ≤ 32 := by
        have := tabB hP y4 _ (dif (tgN d (d 1)) (2 ^ l)) (by omega) rfl _ l (by omega) hE.symm g
        have := pop_5 (dif (tgN d (d 1)) (2 ^ l)) (by omega)
        omega
      have gl : nI (F (5 * 2 ^ l + l)) < (100000 : Int32) := nI_lt (b := 100000) g (by omega)
      have hfr2 : FRR c (sI s8 20 (nI (F (5 * 2 ^ l + l)))) := ⟨hfr.1, fun k hk => by rw [gI_sIn _ _ hk]; exact hfr.2.1 k hk, hfr.2.2⟩
      obtain ⟨c', v1, v2, v3, v4⟩ := x1_walk h.hb h.he hd x4 hl hB hfr2 (gI_sIs _ _ _) x3
      obtain ⟨m', u1, u2, u3, u4⟩ := m_walk h1.h14 hd hT x4 y4 hl hB hft y3
      refine ⟨nI (F (5 * 2 ^ l + l)), c', m', xT _ ?_, mT _ ?_, h1.rnd v2 u2 ⟨F (5 * 2 ^ l + l), hB, u3, Or.inl v3, fun i hi => by rw [v4 i hi, u4 i hi]⟩⟩
      · rw [x1, BD_some, sh, IX_nI _ (by omega) (by omega), IX_nI _ (by omega) (by omega), cF, if_pos gl, LT]
        exact v1
      · rw [y1, BD_some, sh, eo, ce, BD_some, IX_nI _ (by omega) (by omega), cM, if_pos gl]
        exact u1
    · have gl : ¬ nI (F (5 * 2 ^ l + l)) < (100000 : Int32) := nI_nlt (b := 100000) (by omega) (by omega)
      refine ⟨M1, s8, r8, xT _ ?_, mT _ ?_, ?_⟩
      · rw [x1, BD_some, sh, IX_nI _ (by omega) (by omega), IX_nI _ (by omega) (by omega), cF, if_neg gl]; rfl
      · rw [y1, BD_some, sh, eo, ce, BD_some, IX_nI _ (by omega) (by omega), cM, if_neg gl]; rfl
      · refine h1.rnd hfr hft ?_
        have w6 := h1.ms.2.2.2.2.2.1
        rw [x2.gI 20, x2.2.2 19 (by omega), y2.gI 29, y2.2.2 28 (by omega)]
        exact w6
  · rw [hp]
    refine ⟨M1, c, s, rfl, rfl, ?_⟩
    rw [wp_id h.hx]; exact h1
end OPS
