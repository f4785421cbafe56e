/-! PURE: sets as bits, how many there are -/
def setN (c : Nat → Bool) : Nat → Nat
  | 0 => 0
  | n + 1 => setN c n + (if c n = true then 2 ^ n else 0)
def cntN (c : Nat → Bool) : Nat → Nat
  | 0 => 0
  | n + 1 => cntN c n + (if c n = true then 1 else 0)
theorem setN_t {c : Nat → Bool} {n : Nat} (h : c n = true) : setN c (n + 1) = setN c n + 2 ^ n := by show _ + _ = _; rw [if_pos h]
theorem setN_f {c : Nat → Bool} {n : Nat} (h : c n = false) : setN c (n + 1) = setN c n := by show _ + _ = _; rw [if_neg (by simp [h])]; rfl
theorem cntN_t {c : Nat → Bool} {n : Nat} (h : c n = true) : cntN c (n + 1) = cntN c n + 1 := by show _ + _ = _; rw [if_pos h]
theorem cntN_f {c : Nat → Bool} {n : Nat} (h : c n = false) : cntN c (n + 1) = cntN c n := by show _ + _ = _; rw [if_neg (by simp [h])]; rfl
theorem setN_lt (c : Nat → Bool) : ∀ n, setN c n < 2 ^ n := by
  intro n
  induction n with
  | zero => exact Nat.one_pos
  | succ n ih =>
    rw [Nat.pow_succ]
    show setN c n + _ < _
    split <;> omega
theorem cntN_le (c : Nat → Bool) : ∀ n, cntN c n ≤ n := by
  intro n
  induction n with
  | zero => exact Nat.le_refl _
  | succ n ih => show cntN c n + _ ≤ _; split <;> omega
theorem setN_congr {c c' : Nat → Bool} : ∀ {n : Nat}, (∀ i, i < n → c i = c' i) → setN c n = setN c' n := by
  intro n
  induction n with
  | zero => intro _; rfl
  | succ n ih => intro h; show setN c n + _ = setN c' n + _; rw [ih (fun i hi => h i (by omega)), h n (by omega)]
theorem cntN_congr {c c' : Nat → Bool} : ∀ {n : Nat}, (∀ i, i < n → c i = c' i) → cntN c n = cntN c' n := by
  intro n
  induction n with
  | zero => intro _; rfl
  | succ n ih => intro h; show cntN c n + _ = cntN c' n + _; rw [ih (fun i hi => h i (by omega)), h n (by omega)]
theorem setN_bit (c : Nat → Bool) : ∀ n k, (setN c n).testBit k = (decide (k < n) && c k) := by
  intro n
  induction n with
  | zero => intro k; simp [setN]
  | succ n ih =>
    intro k
    by_cases hc : c n = true
    · rw [setN_t hc, Nat.add_comm]
      by_cases h : k = n
      · subst h
        rw [Nat.testBit_two_pow_add_eq, ih]; simp [hc]
      · by_cases h2 : k < n
        · rw [Nat.testBit_two_pow_add_gt h2, ih]; simp [h2, show k < n + 1 by omega]
        · rw [Nat.testBit_lt_two_pow]
          · simp [show ¬ k < n + 1 by omega]
          · have h1 := setN_lt c n
            have h3 : 2 ^ (n + 1) ≤ 2 ^ k := Nat.pow_le_pow_right (by omega) (by omega)
            rw [Nat.pow_succ] at h3; omega
    · have hc' : c n = false := by simpa using hc
      rw [setN_f hc', ih]
      by_cases h : k = n
      · subst h; simp [hc']
      · simp [show k < n + 1 ↔ k < n by omega]
theorem shl1 : ∀ n, n < 31 → (1 : Int32) <<< (nI n &&& 31) = nI (2 ^ n) := by decide +kernel
theorem shl1' : ∀ n, n < 31 → nI 1 <<< (nI n &&& nI 31) = nI (2 ^ n) := shl1
theorem and31 : ∀ n, n < 32 → ((nI n &&& 31).toBitVec.smod 32).toNat = n := by decide +kernel
theorem and_1 (a : Nat) (h : a < 2 ^ 31) : nI a &&& 1 = nI (a % 2) := pk_andN (by omega) 1 rfl
theorem hs_nI {a k : Nat} (ha : a < 2 ^ 31) (hk : k < 31) : hs (nI a) (nI k) = a.testBit k := by
  unfold hs
  have hd : a / 2 ^ k < 2 ^ 31 := Nat.lt_of_le_of_lt (Nat.div_le_self _ _) ha
  rw [pk_shrN ha _ k (and31 k (by omega)), and_1 _ hd, Nat.testBit_eq_decide_div_mod_eq]
  have e : (nI (a / 2 ^ k % 2) = 1) ↔ a / 2 ^ k % 2 = 1 := nI_eq (b := 1) (by omega) (by omega)
  exact decide_eq_decide.mpr e
theorem nI_or {a b : Nat} (ha : a < 2 ^ 32) (hb : b < 2 ^ 32) : nI a ||| nI b = nI (a ||| b) := by
  apply Int32.toBitVec.inj
  apply BitVec.eq_of_toNat_eq
  rw [pk_tn (Nat.or_lt_two_pow ha hb), Int32.toBitVec_or, BitVec.toNat_or, pk_tn ha, pk_tn hb]
theorem nI_and {a b : Nat} (ha : a < 2 ^ 32) (hb : b < 2 ^ 32) : nI a &&& nI b = nI (a &&& b) := by
  apply Int32.toBitVec.inj
  apply BitVec.eq_of_toNat_eq
  rw [pk_tn (Nat.and_lt_two_pow _ hb), Int32.toBitVec_and, BitVec.toNat_and, pk_tn ha, pk_tn hb]
theorem nI_xor {a b : Nat} (ha : a < 2 ^ 32) (hb : b < 2 ^ 32) : nI a ^^^ nI b = nI (a ^^^ b) := by
  apply Int32.toBitVec.inj
  apply BitVec.eq_of_toNat_eq
  rw [pk_tn (Nat.xor_lt_two_pow ha hb), Int32.toBitVec_xor, BitVec.toNat_xor, pk_tn ha, pk_tn hb]
theorem M1_n : M1 = nI (2 ^ 32 - 1) := by decide
/-- a without b -/
def dif (a b : Nat) : Nat := a &&& (b ^^^ (2 ^ 32 - 1))
theorem nI_dif {a b : Nat} (ha : a < 2 ^ 32) (hb : b < 2 ^ 32) : nI a &&& (nI b ^^^ M1) = nI (dif a b) := by
  rw [M1_n, nI_xor hb (by omega), nI_and ha (Nat.xor_lt_two_pow hb (by omega))]; rfl
theorem dif_bit {a b : Nat} (ha : a < 2 ^ 32) (k : Nat) : (dif a b).testBit k = (a.testBit k && !b.testBit k) := by
  unfold dif
  rw [Nat.testBit_and, Nat.testBit_xor, Nat.testBit_two_pow_sub_one]
  by_cases h : k < 32
  · simp [h]
  · have : a.testBit k = false := Nat.testBit_lt_two_pow (Nat.lt_of_lt_of_le ha (Nat.pow_le_pow_right (by omega) (by omega)))
    simp [this]
theorem dif_le (a b : Nat) : dif a b ≤ a := Nat.and_le_left
/-- bit n is put into a set of lower ones -/
theorem or_bit {a n : Nat} (h : a < 2 ^ n) (hn : n < 31) : nI a ||| ((1 : Int32) <<< (nI n &&& 31)) = nI (a + 2 ^ n) := by
  have h2 : 2 ^ n ≤ 2 ^ 30 := Nat.pow_le_pow_right (by omega) (by omega)
  rw [shl1 n hn, nI_or (by omega) (by omega)]
  congr 1
  have h' := Nat.two_pow_add_eq_or_of_lt h 1
  simp only [Nat.mul_one] at h'
  rw [Nat.or_comm, ← h', Nat.add_comm]
theorem or_set {c : Nat → Bool} {n : Nat} (hn : n < 31) (h : c n = true) : nI (setN c n) ||| ((1 : Int32) <<< (nI n &&& 31)) = nI (setN c (n + 1)) := by
  rw [or_bit (setN_lt c n) hn, setN_t h]
theorem or_set' {c : Nat → Bool} {n : Nat} (hn : n < 31) (h : c n = true) : nI (setN c n) ||| (nI 1 <<< (nI n &&& nI 31)) = nI (setN c (n + 1)) := or_set hn h
/-- how many bits -/
def pop : Nat → Nat → Nat
  | 0, _ => 0
  | k + 1, a => a % 2 + pop k (a / 2)
theorem pop_step1 : ∀ a, a < 2048 → a ≠ 0 → pop 12 (a &&& (a - 1)) + 1 = pop 12 a := by decide +kernel
theorem pop_step2 : ∀ a, a < 2048 → pop 12 ((2048 + a) &&& (2048 + a - 1)) + 1 = pop 12 (2048 + a) := by decide +kernel
theorem pop_step (a : Nat) (h : a < 4096) (h0 : a ≠ 0) : pop 12 (a &&& (a - 1)) + 1 = pop 12 a := by
  by_cases c : a < 2048
  · exact pop_step1 a c h0
  · have := pop_step2 (a - 2048) (by omega)
    rw [show 2048 + (a - 2048) = a by omega] at this
    exact this
theorem pop_bit : ∀ n, n < 12 → ∀ a, a < 2 ^ n → pop 12 (a + 2 ^ n) = pop 12 a + 1 := by decide +kernel
theorem pop_le : ∀ k a, pop k a ≤ k := by
  intro k
  induction k with
  | zero => intro a; exact Nat.le_refl _
  | succ k ih => intro a; have := ih (a / 2); show a % 2 + pop k (a / 2) ≤ k + 1; omega
theorem pop_set {c : Nat → Bool} : ∀ {n : Nat}, n ≤ 12 → pop 12 (setN c n) = cntN c n := by
  intro n
  induction n with
  | zero => intro _; show pop 12 0 = 0; decide
  | succ n ih =>
    intro h
    by_cases hc : c n = true
    · rw [setN_t hc, cntN_t hc, pop_bit n (by omega) _ (setN_lt c n), ih (by omega)]
    · have hc' : c n = false := by simpa using hc
      rw [setN_f hc', cntN_f hc', ih (by omega)]
theorem m_bits_v {a : Nat} (h : a < 4096) : m_bits (nI a) = some (nI (pop 12 a)) := by
  unfold m_bits
  have key : ∀ (k : Nat) (a c f : Nat), a < 4096 → pop 12 a ≤ k → k < f → LP2 (fun (rec3 : Int32 → Int32 → Option Int32) (v1 : Int32) (v2 : Int32) => (if v2 = 0 then some v1 else rec3 (v1 + (1 : Int32)) (v2 &&& (v2 - (1 : Int32))))) f (nI c) (nI a) = some (nI (c + pop 12 a)) := by
    intro k
    induction k with
    | zero =>
      intro a c f ha hp hf
      obtain ⟨f, rfl⟩ : ∃ g, f = g + 1 := ⟨f - 1, by omega⟩
      have h0 : a = 0 := by
        by_cases h : a = 0
        · exact h
        · have := pop_step a ha h; omega
      subst h0
      rfl
    | succ k ih =>
      intro a c f ha hp hf
      obtain ⟨f, rfl⟩ : ∃ g, f = g + 1 := ⟨f - 1, by omega⟩
      rw [LP2_s]
      by_cases h : a = 0
      · subst h; rfl
      · have hs := pop_step a ha h
        have hl : a &&& (a - 1) < 4096 := Nat.lt_of_le_of_lt Nat.and_le_left ha
        have e1 : ¬ nI a = 0 := nI_ne0 (by omega) (by omega)
        have e2 : nI a - (1 : Int32) = nI (a - 1) := pk_sub (b := 1) (by omega)
        show (if nI a = 0 then some (nI c) else LP2 _ f (nI c + 1) (nI a &&& (nI a - 1))) = _
        rw [if_neg e1, e2, nI_and (by omega) (by omega), nI_1, ih _ _ _ hl (by omega) (by omega)]
        congr 2; omega
  have := key 12 a 0 FU h (pop_le _ _) (by unfold FU; omega)
  rw [Nat.zero_add] at this
  exact this
theorem bc_v : ∀ a, a < 64 → j9_bitCount (nI a) = some (nI (pop 12 a)) := by decide +kernel
theorem all_v : ∀ P, P ≤ 5 → ((1 : Int32) <<< (nI P &&& 31)) - 1 = nI (2 ^ P - 1) := by decide +kernel
theorem all_v' {P : Nat} (h : P ≤ 5) : (nI 1 <<< (nI P &&& nI 31)) - nI 1 = nI (2 ^ P - 1) := all_v P h
theorem p5 {P : Nat} (h : P ≤ 5) : 2 ^ P ≤ 32 := Nat.pow_le_pow_right (n := 2) (by omega) h
theorem p6 {P : Nat} (h : P ≤ 6) : 2 ^ P ≤ 64 := Nat.pow_le_pow_right (n := 2) (by omega) h
theorem p12 {P : Nat} (h : P ≤ 12) : 2 ^ P ≤ 4096 := Nat.pow_le_pow_right (n := 2) (by omega) h
/-- the first of n for which it is so, if any -/
theorem least_cases (c : Nat → Bool) (n : Nat) : (∃ k, k < n ∧ c k = true ∧ ∀ i, i < k → c i = false) ∨ (∀ i, i < n → c i = false) := by
  induction n with
  | zero => exact Or.inr (fun i hi => absurd hi (Nat.not_lt_zero i))
  | succ n ih =>
    rcases ih with ⟨k, h1, h2, h3⟩ | h
    · exact Or.inl ⟨k, by omega, h2, h3⟩
    · by_cases hc : c n = true
      · exact Or.inl ⟨n, by omega, hc, h⟩
      · refine Or.inr (fun i hi => ?_)
        by_cases hi2 : i = n
        · subst hi2; simpa using hc
        · exact h i (by omega)
