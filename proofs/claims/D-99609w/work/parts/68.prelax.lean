/-! PURE: tables of least steps, made less till nothing changes -/
theorem cntN_one {c c' : Nat → Bool} {q : Nat} : ∀ {n : Nat}, q < n → (∀ i, i < n → i ≠ q → c' i = c i) → c' q = true → cntN c' n = cntN c n + (if c q = true then 0 else 1) := by
  intro n
  induction n with
  | zero => intro h; exact absurd h (Nat.not_lt_zero q)
  | succ n ih =>
    intro h1 h2 h3
    by_cases e : q = n
    · subst e
      have h4 : cntN c' q = cntN c q := cntN_congr (fun i hi => h2 i (by omega) (by omega))
      rw [cntN_t h3, h4]
      by_cases hc : c q = true
      · rw [cntN_t hc, if_pos hc]
      · rw [cntN_f (by simpa using hc), if_neg hc]
    · have h4 := ih (by omega) (fun i hi hq => h2 i (by omega) hq) h3
      have h5 := h2 n (by omega) (by omega)
      by_cases hc : c n = true
      · rw [cntN_t hc, cntN_t (h5.trans hc), h4]; omega
      · have hc' : c n = false := by simpa using hc
        rw [cntN_f hc', cntN_f (h5.trans hc'), h4]
theorem cntN_mono {c c' : Nat → Bool} : ∀ {n : Nat}, (∀ i, i < n → c i = true → c' i = true) → cntN c n ≤ cntN c' n := by
  intro n
  induction n with
  | zero => intro _; exact Nat.le_refl _
  | succ n ih =>
    intro h
    have h1 := ih (fun i hi => h i (by omega))
    by_cases hc : c n = true
    · rw [cntN_t hc, cntN_t (h n (by omega) hc)]; omega
    · rw [cntN_f (by simpa using hc)]
      by_cases hc' : c' n = true
      · rw [cntN_t hc']; omega
      · rw [cntN_f (by simpa using hc')]; exact h1
theorem cntN_lt {c c' : Nat → Bool} {q : Nat} : ∀ {n : Nat}, q < n → (∀ i, i < n → c i = true → c' i = true) → c q = false → c' q = true → cntN c n + 1 ≤ cntN c' n := by
  intro n
  induction n with
  | zero => intro h; exact absurd h (Nat.not_lt_zero q)
  | succ n ih =>
    intro h h1 h2 h3
    by_cases e : q = n
    · subst e
      rw [cntN_f h2, cntN_t h3]
      have := cntN_mono (n := q) (fun i hi => h1 i (by omega))
      omega
    · have h4 := ih (by omega) (fun i hi => h1 i (by omega)) h2 h3
      by_cases hc : c n = true
      · rw [cntN_t hc, cntN_t (h1 n (by omega) hc)]; omega
      · rw [cntN_f (by simpa using hc)]
        by_cases hc' : c' n = true
        · rw [cntN_t hc']; omega
        · rw [cntN_f (by simpa using hc')]; exact h4
theorem sumN_one {g g' : Nat → Nat} {q : Nat} : ∀ {n : Nat}, q < n → (∀ i, i < n → i ≠ q → g' i = g i) → g' q < g q → sumN g' n < sumN g n := by
  intro n
  induction n with
  | zero => intro h; exact absurd h (Nat.not_lt_zero q)
  | succ n ih =>
    intro h1 h2 h3
    show sumN g' n + g' n < sumN g n + g n
    by_cases e : q = n
    · subst e
      have h4 : ∀ m, m ≤ q → sumN g' m = sumN g m := by
        intro m
        induction m with
        | zero => intro _; rfl
        | succ m ihm => intro hm; show sumN g' m + g' m = sumN g m + g m; rw [ihm (by omega), h2 m (by omega) (by omega)]
      rw [h4 q (Nat.le_refl _)]; omega
    · have h4 := ih (by omega) (fun i hi hq => h2 i (by omega) hq) h3
      rw [h2 n (by omega) (by omega)]; omega
def cnF (Dm : Nat → Bool) (f : Nat → Nat) : Nat := cntN (fun q => Dm q && decide (f q < 100000)) 160
def muF (Dm : Nat → Bool) (f : Nat → Nat) : Nat := sumN (fun q => cond (Dm q) (min (f q) 161) 0) 160
theorem muF_le (Dm : Nat → Bool) (f : Nat → Nat) : muF Dm f ≤ 25760 := by
  refine sumN_le (m := 161) (n := 160) (fun i _ => ?_)
  cases Dm i
  · exact Nat.zero_le _
  · exact Nat.min_le_right _ _
def RI (Dm : Nat → Bool) (Z : Nat → Prop) (Ed : Nat → Nat → Prop) (f : Nat → Nat) : Prop := (∀ q, q < 160 → Dm q = true → f q = 100000 ∨ f q ≤ cnF Dm f) ∧ (∀ q, q < 160 → Dm q = true → f q < 100000 → (Z q ∨ ∃ r, Ed q r ∧ f r + 1 ≤ f q)) ∧ (∀ q, Z q → f q = 0)
theorem RI.le {Dm : Nat → Bool} {Z : Nat → Prop} {Ed : Nat → Nat → Prop} {f : Nat → Nat} (h : RI Dm Z Ed f) {q : Nat} (h1 : q < 160) (h2 : Dm q = true) : f q ≤ 100000 := by
  have h3 : cnF Dm f ≤ 160 := cntN_le _ _
  rcases h.1 q h1 h2 with h4 | h4 <;> omega
def rlx (q r : Nat) (t : Bool × (Nat → Nat)) : Bool × (Nat → Nat) := if t.2 r + 1 < t.2 q then (true, va_up t.2 q (t.2 r + 1)) else t
def RL (Dm : Nat → Bool) (Z : Nat → Prop) (Ed : Nat → Nat → Prop) (E : Nat → Nat → Prop) (t t' : Bool × (Nat → Nat)) : Prop :=
  (RI Dm Z Ed t.2 → RI Dm Z Ed t'.2 ∧ muF Dm t'.2 ≤ muF Dm t.2 ∧ (t'.1 = true → t.1 = true ∨ muF Dm t'.2 < muF Dm t.2)) ∧ (t'.1 = false → t.1 = false ∧ t'.2 = t.2 ∧ ∀ q r, E q r → t.2 q ≤ t.2 r + 1)
section RLX
variable {Dm : Nat → Bool} {Z : Nat → Prop} {Ed : Nat → Nat → Prop}
theorem RL_id (t : Bool × (Nat → Nat)) : RL Dm Z Ed (fun _ _ => False) t t := ⟨fun h => ⟨h, Nat.le_refl _, fun h1 => Or.inl h1⟩, fun h => ⟨h, rfl, fun _ _ h => h.elim⟩⟩
theorem RL_mono {E E' : Nat → Nat → Prop} {t t' : Bool × (Nat → Nat)} (h : RL Dm Z Ed E' t t') (he : ∀ q r, E q r → E' q r) : RL Dm Z Ed E t t' := ⟨h.1, fun h1 => ⟨(h.2 h1).1, (h.2 h1).2.1, fun q r h2 => (h.2 h1).2.2 q r (he q r h2)⟩⟩
theorem RL_comp {E1 E2 : Nat → Nat → Prop} {t t1 t2 : Bool × (Nat → Nat)} (h : RL Dm Z Ed E1 t t1) (h2 : RL Dm Z Ed E2 t1 t2) : RL Dm Z Ed (fun a b => E1 a b ∨ E2 a b) t t2 := by
  refine ⟨fun hR => ?_, fun hf => ?_⟩
  · obtain ⟨a1, a2, a3⟩ := h.1 hR
    obtain ⟨b1, b2, b3⟩ := h2.1 a1
    refine ⟨b1, by omega, fun ht => ?_⟩
    rcases b3 ht with b4 | b4
    · rcases a3 b4 with a4 | a4
      · exact Or.inl a4
      · exact Or.inr (by omega)
    · exact Or.inr (by omega)
  · obtain ⟨b1, b2, b3⟩ := h2.2 hf
    obtain ⟨a1, a2, a3⟩ := h.2 b1
    rw [a2] at b2 b3
    refine ⟨a1, b2, fun q r hE => ?_⟩
    rcases hE with hE | hE
    · exact a3 q r hE
    · exact b3 q r hE
def itR (st : Nat → Bool × (Nat → Nat) → Bool × (Nat → Nat)) (t : Bool × (Nat → Nat)) : Nat → Bool × (Nat → Nat)
  | 0 => t
  | k + 1 => st k (itR st t k)
theorem itR_s (st : Nat → Bool × (Nat → Nat) → Bool × (Nat → Nat)) (t : Bool × (Nat → Nat)) (k : Nat) : itR st t (k + 1) = st k (itR st t k) := rfl
theorem RL_it {st : Nat → Bool × (Nat → Nat) → Bool × (Nat → Nat)} {E : Nat → Nat → Nat → Prop} {n : Nat} (h : ∀ k, k < n → ∀ t, RL Dm Z Ed (E k) t (st k t)) (t : Bool × (Nat → Nat)) : ∀ m, m ≤ n → RL Dm Z Ed (fun a b => ∃ k, k < m ∧ E k a b) t (itR st t m) := by
  intro m
  induction m with
  | zero => intro _; exact RL_mono (RL_id t) (fun q r ⟨k, hk, _⟩ => absurd hk (Nat.not_lt_zero k))
  | succ m ih =>
    intro hm
    refine RL_mono (RL_comp (ih (by omega)) (h m (by omega) (itR st t m))) (fun q r ⟨k, hk, hE⟩ => ?_)
    by_cases e : k = m
    · subst e; exact Or.inr hE
    · exact Or.inl ⟨k, by omega, hE⟩
theorem RL_rlx {q r : Nat} (hE : Ed q r) (hq : q < 160) (hr : r < 160) (dq : Dm q = true) (dr : Dm r = true) (t : Bool × (Nat → Nat)) : RL Dm Z Ed (fun a b => a = q ∧ b = r) t (rlx q r t) := by
  obtain ⟨fl, f⟩ := t
  unfold rlx
  by_cases c : f r + 1 < f q
  · rw [if_pos c]
    refine ⟨fun hR => ?_, fun hf => by cases hf⟩
    have hR' : RI Dm Z Ed f := hR
    have hle := hR'.le hq dq
    obtain ⟨r1, r2, r3⟩ := hR'
    have hrq : r ≠ q := fun e => by rw [e] at c; omega
    have hfr : f r ≤ cnF Dm f := by
      rcases r1 r hr dr with h1 | h1
      · omega
      · exact h1
    have hcn : cnF Dm (va_up f q (f r + 1)) = cnF Dm f + (if (Dm q && decide (f q < 100000)) = true then 0 else 1) := by
      refine cntN_one hq (fun i _ hi => ?_) ?_
      · show (Dm i && decide (va_up f q (f r + 1) i < 100000)) = _
        rw [up_n _ _ hi]
      · show (Dm q && decide (va_up f q (f r + 1) q < 100000)) = true
        rw [up_s, dq]; simp; omega
    have h160 : cnF Dm (va_up f q (f r + 1)) ≤ 160 := cntN_le _ _
    have hnew : f r + 1 ≤ cnF Dm (va_up f q (f r + 1)) := by
      rcases r1 q hq dq with h1 | h1
      · rw [hcn, if_neg (by rw [h1]; simp)]; omega
      · rw [hcn, if_pos (by rw [dq]; simp; omega)]; omega
    have hmo : cnF Dm f ≤ cnF Dm (va_up f q (f r + 1)) := by rw [hcn]; omega
    have hmu : muF Dm (va_up f q (f r + 1)) < muF Dm f := by
      refine sumN_one hq (fun i _ hi => ?_) ?_
      · show cond (Dm i) (min (va_up f q (f r + 1) i) 161) 0 = _
        rw [up_n _ _ hi]
      · show cond (Dm q) (min (va_up f q (f r + 1) q) 161) 0 < cond (Dm q) (min (f q) 161) 0
        rw [up_s, dq]
        show min (f r + 1) 161 < min (f q) 161
        omega
    refine ⟨⟨fun p hp dp => ?_, fun p hp dp hlt => ?_, fun p hz => ?_⟩, by show muF Dm (va_up f q (f r + 1)) ≤ muF Dm f; omega, fun _ => Or.inr hmu⟩
    · show va_up f q (f r + 1) p = 100000 ∨ va_up f q (f r + 1) p ≤ cnF Dm (va_up f q (f r + 1))
      by_cases e : p = q
      · subst e; rw [up_s]; exact Or.inr hnew
      · rw [up_n _ _ e]
        rcases r1 p hp dp with h1 | h1
        · exact Or.inl h1
        · exact Or.inr (by omega)
    · show Z p ∨ ∃ r', Ed p r' ∧ va_up f q (f r + 1) r' + 1 ≤ va_up f q (f r + 1) p
      have hlt' : va_up f q (f r + 1) p < 100000 := hlt
      by_cases e : p = q
      · subst e
        exact Or.inr ⟨r, hE, by rw [up_s, up_n _ _ hrq]; omega⟩
      · rw [up_n _ _ e] at hlt' ⊢
        rcases r2 p hp dp hlt' with h1 | ⟨r', h1, h2⟩
        · exact Or.inl h1
        · refine Or.inr ⟨r', h1, ?_⟩
          by_cases e2 : r' = q
          · subst e2; rw [up_s]; omega
          · rw [up_n _ _ e2]; exact h2
    · show va_up f q (f r + 1) p = 0
      have h1 := r3 p hz
      have e : p ≠ q := fun e => by rw [e] at h1; omega
      rw [up_n _ _ e]; exact h1
  · rw [if_neg c]
    refine ⟨fun hR => ⟨hR, Nat.le_refl _, fun h => Or.inl h⟩, fun hf => ⟨hf, rfl, fun a b hab => ?_⟩⟩
    rw [hab.1, hab.2]
    show f q ≤ f r + 1
    omega
end RLX
