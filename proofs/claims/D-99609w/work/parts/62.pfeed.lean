/-! PURE: the tape is fed -/
theorem b255 : ∀ i, i < 8 → (255#32).getLsbD i = true := by decide
theorem tb_bits (X : BitVec 32) (q : Nat) (hq : q ≤ 24) : (X.sshiftRight q).signExtend 8 = ((X >>> q) &&& 255#32).signExtend 8 := by
  apply BitVec.eq_of_getLsbD_eq
  intro i hi
  rw [BitVec.getLsbD_signExtend, BitVec.getLsbD_signExtend, BitVec.getLsbD_sshiftRight, BitVec.getLsbD_and, BitVec.getLsbD_ushiftRight, b255 i hi, if_pos (show i < 32 by omega), if_pos (show i < 32 by omega), if_pos (show q + i < 32 by omega)]
  simp [show ¬ 32 ≤ i by omega]
def cBy (v q : Int32) : Int32 := vp_nar .byte (Int8.toInt32 (Int32.toInt8 (v >>> (q &&& 31))))
def mBy (v q : Int32) : Int32 := (ushr v q) &&& (255 : Int32)
theorem nar_b (y : Int32) : vp_nar .byte y = y.toInt8.toInt32 := rfl
theorem i8_back (y : Int8) : y.toInt32.toInt8 = y := by simp
theorem tb_q (v : Int32) {s : Int32} {k : Nat} (hk : k ≤ 24) (h1 : ((s &&& 31).toBitVec.smod 32).toNat = k) (h2 : (s.toUInt32 &&& Int32.toUInt32 31).toBitVec.toNat % 32 = k) : TB (mBy v s) (cBy v s) := by
  obtain ⟨t, ht, e⟩ := pk_andE (ushr v s) (m := 255) 8 rfl
  refine ⟨t, ht, e, ?_⟩
  unfold cBy
  rw [nar_b, i8_back, ← e]
  congr 1
  apply Int8.toBitVec.inj
  have ha : (v >>> (s &&& 31)).toBitVec = v.toBitVec.sshiftRight k := by
    rw [Int32.toBitVec_shiftRight, BitVec.sshiftRight', h1]
  have hb : (ushr v s).toBitVec = v.toBitVec >>> k := by
    apply BitVec.eq_of_toNat_eq
    unfold ushr
    rw [pk_ushr v s k h2, BitVec.toNat_ushiftRight, Nat.shiftRight_eq_div_pow]
  rw [Int32.toBitVec_toInt8, Int32.toBitVec_toInt8, Int32.toBitVec_and, ha, hb]
  exact tb_bits _ _ hk
theorem tb_24 (v : Int32) : TB (mBy v 24) (cBy v 24) := tb_q v (k := 24) (by omega) (by decide) (by decide)
theorem tb_16 (v : Int32) : TB (mBy v 16) (cBy v 16) := tb_q v (k := 16) (by omega) (by decide) (by decide)
theorem tb_8 (v : Int32) : TB (mBy v 8) (cBy v 8) := tb_q v (k := 8) (by omega) (by decide) (by decide)
theorem tb_0 (v : Int32) : TB (mBy v 0) (cBy v 0) := tb_q v (k := 0) (by omega) (by decide) (by decide)
def four (B : Int32 → Int32 → Int32) (f : Nat → Int32) (k : Nat) (v : Int32) : Nat → Int32 := va_up (va_up (va_up (va_up f k (B v 24)) (k + 1) (B v 16)) (k + 2) (B v 8)) (k + 3) (B v 0)
theorem TB_up {f g : Nat → Int32} {a c : Int32} (h : ∀ i, i < 940 → TB (f i) (g i)) (ha : TB a c) (k : Nat) : ∀ i, i < 940 → TB (va_up f k a i) (va_up g k c i) := by
  intro i hi
  by_cases e : i = k
  · subst e; rw [up_s, up_s]; exact ha
  · rw [up_n _ _ e, up_n _ _ e]; exact h i hi
theorem TB_four {f g : Nat → Int32} (h : ∀ i, i < 940 → TB (f i) (g i)) (k : Nat) (v : Int32) : ∀ i, i < 940 → TB (four mBy f k v i) (four cBy g k v i) := TB_up (TB_up (TB_up (TB_up h (tb_24 v) _) (tb_16 v) _) (tb_8 v) _) (tb_0 v) _
theorem x1_four_v (c : Rec) (f : Nat → Int32) {k : Nat} (hk : k + 4 ≤ 940) (v : Int32) : x1_four (sI (sB c 0 f) 1 (nI k)) v = some (sI (sB c 0 (four cBy f k v)) 1 (nI (k + 4))) := by
  unfold x1_four
  have step : ∀ (q q' : Int32) (rec : Int32 → Rec → Option Rec) (f : Nat → Int32) (k : Nat), k < 940 → ¬ q < 0 → q + (-8 : Int32) = q' → (if q < 0 then some (sI (sB c 0 f) 1 (nI k)) else IX (gI (sI (sB c 0 f) 1 (nI k)) 1) 940 (fun i4 => LT (sA (sI (sB c 0 f) 1 (nI k)) 0 i4 (vp_nar .byte (Int8.toInt32 (Int32.toInt8 (v >>> (q &&& 31)))))) (fun s5 => LT (sI s5 1 ((gI s5 1) + (1 : Int32))) (fun s6 => rec (q + (-8 : Int32)) s6)))) = rec q' (sI (sB c 0 (va_up f k (cBy v q))) 1 (nI (k + 1))) := by
    intro q q' rec f k hk h1 h2
    rw [if_neg h1, gI_sIs, IX_nI _ hk (by omega), h2]
    have e1 : sA (sI (sB c 0 f) 1 (nI k)) 0 k (cBy v q) = sI (sB c 0 (va_up f k (cBy v q))) 1 (nI k) := by
      show sI (sA (sB c 0 f) 0 k (cBy v q)) 1 (nI k) = _
      rw [sA_sB]
    show rec q' (sI (sA (sI (sB c 0 f) 1 (nI k)) 0 k (cBy v q)) 1 ((gI (sA (sI (sB c 0 f) 1 (nI k)) 0 k (cBy v q)) 1) + 1)) = _
    rw [e1, gI_sIs, sI_sI, nI_1]
  obtain ⟨n, hn⟩ := FU_ge (n := 5) (by omega)
  rw [hn, LP2_s]
  refine (step 24 16 _ f k (by omega) (by decide) (by decide)).trans ?_
  rw [LP2_s]
  refine (step 16 8 _ _ (k + 1) (by omega) (by decide) (by decide)).trans ?_
  rw [LP2_s]
  refine (step 8 0 _ _ (k + 2) (by omega) (by decide) (by decide)).trans ?_
  rw [LP2_s]
  refine (step 0 (-8) _ _ (k + 3) (by omega) (by decide) (by decide)).trans ?_
  rw [LP2_s]
  exact if_pos (by decide)
theorem m_come_v (s : Rec) (f : Nat → Int32) {k : Nat} (hk : k + 4 ≤ 940) (v : Int32) : m_come (sI (sB s 1 f) 2 (nI k)) v = some (sI (sB s 1 (four mBy f k v)) 2 (nI (k + 4))) := by
  unfold m_come
  have step : ∀ (q q' : Int32) (rec : Int32 → Rec → Option Rec) (f : Nat → Int32) (k : Nat), k < 940 → ¬ q < 0 → q + (-8 : Int32) = q' → (if q < 0 then some (sI (sB s 1 f) 2 (nI k)) else IX (gI (sI (sB s 1 f) 2 (nI k)) 2) 940 (fun i4 => LT (sA (sI (sB s 1 f) 2 (nI k)) 1 i4 ((ushr v q) &&& (255 : Int32))) (fun s5 => LT (sI s5 2 ((gI s5 2) + (1 : Int32))) (fun s6 => rec (q + (-8 : Int32)) s6)))) = rec q' (sI (sB s 1 (va_up f k (mBy v q))) 2 (nI (k + 1))) := by
    intro q q' rec f k hk h1 h2
    rw [if_neg h1, gI_sIs, IX_nI _ hk (by omega), h2]
    have e1 : sA (sI (sB s 1 f) 2 (nI k)) 1 k (mBy v q) = sI (sB s 1 (va_up f k (mBy v q))) 2 (nI k) := by
      show sI (sA (sB s 1 f) 1 k (mBy v q)) 2 (nI k) = _
      rw [sA_sB]
    show rec q' (sI (sA (sI (sB s 1 f) 2 (nI k)) 1 k (mBy v q)) 2 ((gI (sA (sI (sB s 1 f) 2 (nI k)) 1 k (mBy v q)) 2) + 1)) = _
    rw [e1, gI_sIs, sI_sI, nI_1]
  obtain ⟨n, hn⟩ := FU_ge (n := 5) (by omega)
  rw [hn, LP2_s]
  refine (step 24 16 _ f k (by omega) (by decide) (by decide)).trans ?_
  rw [LP2_s]
  refine (step 16 8 _ _ (k + 1) (by omega) (by decide) (by decide)).trans ?_
  rw [LP2_s]
  refine (step 8 0 _ _ (k + 2) (by omega) (by decide) (by decide)).trans ?_
  rw [LP2_s]
  refine (step 0 (-8) _ _ (k + 3) (by omega) (by decide) (by decide)).trans ?_
  rw [LP2_s]
  exact if_pos (by decide)
theorem sI_id (r : Rec) (k : Nat) : sI r k (gI r k) = r := by
  obtain ⟨a, q⟩ := r
  show (va_up a k (a k), q) = (a, q)
  congr 1
  funext j
  unfold va_up
  by_cases h : j = k
  · rw [if_pos h, h]
  · rw [if_neg h]
theorem sI_swap (r : Rec) {k j : Nat} (v w : Int32) (h : k ≠ j) : sI (sI r k v) j w = sI (sI r j w) k v := by
  obtain ⟨a, q⟩ := r
  show (va_up (va_up a k v) j w, q) = (va_up (va_up a j w) k v, q)
  congr 1
  funext i
  unfold va_up
  by_cases h1 : i = j
  · subst h1; simp [Ne.symm h]
  · simp [h1]
theorem sI_sBx (r : Rec) (j : Nat) (f : Nat → Int32) (k : Nat) (v : Int32) : sI (sB r j f) k v = sB (sI r k v) j f := rfl
section OPS
variable {x : Nat} {G : Wd} {m c : Rec} {b : Nat} {e z : Rec} {d : Nat → Nat} {ow : Nat → Nat} {n : Nat} {U : Nat → Nat → Nat}
theorem op_feed (h : RR x G m c b e z d ow n U) (a1 a2 a3 a4 a5 : Int32) : ∃ v c' m', x1_feed c a1 a2 a3 a4 a5 = some (v, c') ∧ m_feed m a1 a2 a3 a4 a5 = some (v, m') ∧ RR x (wp G x 0 c') m' c' b e z d ow n U := by
  obtain ⟨q1, ⟨k, hk, k1, k2⟩, q3⟩ := h.ms
  have ec : c = sI (sB c 0 (gA c 0)) 1 (nI k) := by rw [sB_id, ← k1, sI_id]
  have em : sI m 0 0 = sI (sB (sI m 0 0) 1 (gA m 1)) 2 (nI k) := by
    have i1 : sB (sI m 0 0) 1 (gA m 1) = sI m 0 0 := sB_id (sI m 0 0) 1
    have i2 : gI (sI m 0 0) 2 = nI k := k2
    rw [i1, ← i2, sI_id]
  unfold x1_feed m_feed
  simp only [LT]
  have k2' : gI (sI m 0 0) 2 = nI k := k2
  rw [k1, k2']
  by_cases g : k + 20 ≤ 940
  · have g1 : nI k + (20 : Int32) ≤ 940 := by rw [show (20 : Int32) = nI 20 from rfl, nI_add]; exact nI_le (b := 940) g (by omega)
    rw [if_pos g1, if_pos g1]
    refine ⟨nI (k + 20), sI (sB c 0 (four cBy (four cBy (four cBy (four cBy (four cBy (gA c 0) k a1) (k + 4) a2) (k + 8) a3) (k + 12) a4) (k + 16) a5)) 1 (nI (k + 20)), sI (sB (sI m 0 0) 1 (four mBy (four mBy (four mBy (four mBy (four mBy (gA m 1) k a1) (k + 4) a2) (k + 8) a3) (k + 12) a4) (k + 16) a5)) 2 (nI (k + 20)), ?_, ?_, ?_⟩
    · have f1 := x1_four_v c (gA c 0) (k := k) (by omega) a1
      rw [← ec] at f1
      rw [f1, BD_some, x1_four_v c _ (by omega), BD_some, x1_four_v c _ (by omega), BD_some, x1_four_v c _ (by omega), BD_some, x1_four_v c _ (by omega), BD_some, gI_sIs]
    · have f1 := m_come_v (sI m 0 0) (gA m 1) (k := k) (by omega) a1
      rw [← em] at f1
      rw [f1, BD_some, m_come_v _ _ (by omega), BD_some, m_come_v _ _ (by omega), BD_some, m_come_v _ _ (by omega), BD_some, m_come_v _ _ (by omega), BD_some, gI_sIs]
    · refine h.main ⟨rfl, rfl, rfl, rfl, rfl⟩ ⟨?_, ⟨k + 20, g, rfl, rfl⟩, q3⟩ ⟨rfl, rfl, rfl, rfl, rfl, rfl, rfl⟩
      exact TB_four (TB_four (TB_four (TB_four (TB_four q1 _ _) _ _) _ _) _ _) _ _
  · have g1 : ¬ nI k + (20 : Int32) ≤ 940 := by rw [show (20 : Int32) = nI 20 from rfl, nI_add]; exact nI_ge (a := 940) (by omega) (by omega)
    rw [if_neg g1, if_neg g1]
    refine ⟨_, _, _, rfl, rfl, ?_⟩
    rw [wp_id h.hx]; exact h.t0 0
end OPS
