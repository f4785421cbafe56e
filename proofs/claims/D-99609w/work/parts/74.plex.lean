/-! PURE: tokens, as both read them -/
def nxB (j : Nat) : (Rec → Option Rec) → Rec → Option Rec := fun (rec2 : Rec → Option Rec) (s1 : Rec) => BD (x5_peek j s1) (fun v4 => JN1 (fun (u5 : Unit) => LT (sI s1 (rb j + 1) ((gI s1 (rb j + 1)) + (1 : Int32))) (fun s7 => rec2 s7)) (fun (j6 : Unit → Option Rec) => (if v4 = (32 : Int32) then j6 () else BD (x5_peek j s1) (fun v9 => (if v9 = (10 : Int32) then j6 () else LT (sI s1 (rb j + 2) (gI s1 (rb j + 1))) (fun s10 => JN1 (fun (u11 : Unit) => BD (x5_peek j s10) (fun v14 => (if 0 ≤ v14 then BD (x5_isLetter j s10 v14) (fun v16 => JN1 (fun (u17 : Unit) => BD (x5_isLetter j s10 v14) (fun v20 => BD (x5_run j s10 v20) (fun s22 => some s22))) (fun (j18 : Unit → Option Rec) => (if v16 = 0 then BD (x5_isDigit j s10 v14) (fun v24 => (if v24 = 0 then JN1 (fun (v25 : Int32) => LT (sI s10 (rb j + 3) v25) (fun s27 => LT (sI s27 (rb j + 4) v14) (fun s28 => LT (sI s28 (rb j + 1) ((gI s28 (rb j + 1)) + (1 : Int32))) (fun s29 => some s29)))) (fun (j26 : Int32 → Option Rec) => (if v14 = (59 : Int32) then j26 (3 : Int32) else (if v14 = (40 : Int32) then j26 (3 : Int32) else (if v14 = (41 : Int32) then j26 (3 : Int32) else BD (x1_isIn v14 (60 : Int32) (62 : Int32)) (fun v31 => (if v31 = 0 then j26 (4 : Int32) else j26 (3 : Int32))))))) else j18 ())) else j18 ()))) else LT (sI s10 (rb j + 3) (0 : Int32)) (fun s32 => some s32)))) (fun (j12 : Unit → Option Rec) => (if (gI s10 2) ≤ (mo j) then j12 () else (if (gI s10 (rb j + 1)) < (mo j) then j12 () else LT (sI s10 (rb j + 2) (mo j)) (fun s33 => LT (sI s33 (rb j + 3) (4 : Int32)) (fun s34 => some s34)))))))))))
def rnB (j : Nat) (x1 : Int32) : (Int32 → Rec → Option Rec) → Int32 → Rec → Option Rec := fun (rec5 : Int32 → Rec → Option Rec) (v3 : Int32) (s4 : Rec) => BD (x5_peek j s4) (fun v7 => BD (x5_isLetter j s4 v7) (fun v9 => JN1 (fun (u10 : Unit) => JN1 (fun (v12 : Int32) => JN1 (fun (s14 : Rec) => JN1 (fun (s16 : Rec) => LT (sI s16 (rb j + 1) ((gI s16 (rb j + 1)) + (1 : Int32))) (fun s18 => rec5 v12 s18)) (fun (j17 : Rec → Option Rec) => (if (3 : Int32) ≤ ((gI s14 (rb j + 1)) - (gI s14 (rb j + 2))) then j17 s14 else BD (x5_peek j s14) (fun v20 => LT (sI s14 (rb j + 4) ((((10 : Int32) * (gI s14 (rb j + 4))) + v20) - (48 : Int32))) (fun s21 => j17 s21))))) (fun (j15 : Rec → Option Rec) => (if (7 : Int32) ≤ ((gI s4 (rb j + 1)) - (gI s4 (rb j + 2))) then j15 s4 else BD (x5_peek j s4) (fun v23 => LT (sJ s4 (rb j + 6) (((gJ s4 (rb j + 6)) <<< (Int32.toInt64 (8 : Int32) &&& 63)) ||| (Int32.toInt64 v23))) (fun s24 => j15 s24))))) (fun (j13 : Int32 → Option Rec) => (if v3 = 0 then j13 (0 : Int32) else BD (x5_peek j s4) (fun v26 => BD (x5_isLetter j s4 v26) (fun v28 => (if v28 = x1 then j13 (1 : Int32) else j13 (0 : Int32))))))) (fun (j11 : Unit → Option Rec) => (if v9 = 0 then BD (x5_peek j s4) (fun v30 => BD (x5_isDigit j s4 v30) (fun v32 => (if v32 = 0 then LT (sI s4 (rb j + 5) ((gI s4 (rb j + 1)) - (gI s4 (rb j + 2)))) (fun s33 => (if v3 = 0 then LT (sI s33 (rb j + 3) (4 : Int32)) (fun s34 => some s34) else JN1 (fun (v35 : Int32) => (if (gI s33 (rb j + 5)) ≤ v35 then (if x1 = 0 then LT (sI s33 (rb j + 3) (2 : Int32)) (fun s37 => some s37) else LT (sI s33 (rb j + 3) (1 : Int32)) (fun s38 => some s38)) else LT (sI s33 (rb j + 3) (4 : Int32)) (fun s39 => some s39))) (fun (j36 : Int32 → Option Rec) => (if x1 = 0 then j36 (3 : Int32) else j36 (7 : Int32))))) else j11 ()))) else j11 ()))))
def grB (v14 : Int32) : (Int32 → Rec → Option Rec) → Int32 → Rec → Option Rec := fun (rec19 : Int32 → Rec → Option Rec) (v17 : Int32) (s18 : Rec) => BD (m_tapeAt s18 (gI s18 5)) (fun v21 => BD (m_isLetter v21) (fun v23 => JN1 (fun (u24 : Unit) => IX (gI s18 5) 940 (fun i26 => JN1 (fun (v27 : Int32) => JN1 (fun (s29 : Rec) => JN1 (fun (s31 : Rec) => LT (sI s31 5 ((gI s31 5) + (1 : Int32))) (fun s33 => rec19 v27 s33)) (fun (j32 : Rec → Option Rec) => (if (3 : Int32) ≤ ((gI s29 5) - (gI s29 6)) then j32 s29 else LT (sI s29 8 ((((10 : Int32) * (gI s29 8)) + (gA s18 1 i26)) - (48 : Int32))) (fun s34 => j32 s34)))) (fun (j30 : Rec → Option Rec) => (if (7 : Int32) ≤ ((gI s18 5) - (gI s18 6)) then j30 s18 else LT (sJ s18 12 ((((27 : Int64) * (gJ s18 12)) + (Int32.toInt64 (gA s18 1 i26))) - (96 : Int64))) (fun s35 => j30 s35)))) (fun (j28 : Int32 → Option Rec) => (if v17 = 0 then j28 (0 : Int32) else BD (m_isLetter (gA s18 1 i26)) (fun v37 => (if v37 = v14 then j28 (1 : Int32) else j28 (0 : Int32))))))) (fun (j25 : Unit → Option Rec) => (if v23 = 0 then BD (m_tapeAt s18 (gI s18 5)) (fun v39 => BD (m_isDigit v39) (fun v41 => (if v41 = 0 then (if v17 = 0 then LT (sI s18 7 (1 : Int32)) (fun s42 => some s42) else JN1 (fun (v43 : Int32) => (if ((gI s18 5) - (gI s18 6)) ≤ v43 then (if v14 = 0 then LT (sI s18 7 (3 : Int32)) (fun s45 => some s45) else LT (sI s18 7 (2 : Int32)) (fun s46 => some s46)) else LT (sI s18 7 (1 : Int32)) (fun s47 => some s47))) (fun (j44 : Int32 → Option Rec) => (if v14 = 0 then j44 (3 : Int32) else j44 (7 : Int32)))) else j25 ()))) else j25 ()))))
def goT (s5 : Rec) : Option Rec := (if (gI s5 5) < (gI s5 3) then IX (gI s5 5) 940 (fun i8 => BD (m_isLetter (gA s5 1 i8)) (fun v10 => JN1 (fun (u11 : Unit) => BD (m_isLetter (gA s5 1 i8)) (fun v14 => LT (sJ s5 12 (0 : Int64)) (fun s15 => LT (sI s15 8 (0 : Int32)) (fun s16 => LP2 (grB v14) FU (1 : Int32) s16)))) (fun (j12 : Unit → Option Rec) => (if v10 = 0 then BD (m_isDigit (gA s5 1 i8)) (fun v49 => (if v49 = 0 then JN1 (fun (v50 : Int32) => LT (sI s5 7 v50) (fun s52 => LT (sI s52 9 (gA s5 1 i8)) (fun s53 => LT (sI s53 5 ((gI s53 5) + (1 : Int32))) (fun s54 => some s54)))) (fun (j51 : Int32 → Option Rec) => (if (gA s5 1 i8) = (59 : Int32) then j51 (4 : Int32) else (if (gA s5 1 i8) = (60 : Int32) then j51 (4 : Int32) else (if (gA s5 1 i8) = (61 : Int32) then j51 (4 : Int32) else (if (gA s5 1 i8) = (62 : Int32) then j51 (4 : Int32) else (if (gA s5 1 i8) = (40 : Int32) then j51 (4 : Int32) else (if (gA s5 1 i8) = (41 : Int32) then j51 (4 : Int32) else j51 (1 : Int32)))))))) else j12 ())) else j12 ())))) else LT (sI s5 7 (0 : Int32)) (fun s55 => some s55))
def goB : (Rec → Option Rec) → Rec → Option Rec := fun (rec2 : Rec → Option Rec) (s1 : Rec) => JN1 (fun (u3 : Unit) => LT (sI s1 6 (gI s1 5)) (fun s5 => JN1 (fun (u6 : Unit) => goT s5) (fun (j7 : Unit → Option Rec) => (if (gI s5 3) ≤ (gI s5 4) then j7 () else (if (gI s5 6) < (gI s5 4) then j7 () else LT (sI s5 6 (gI s5 4)) (fun s56 => LT (sI s56 7 (1 : Int32)) (fun s57 => some s57))))))) (fun (j4 : Unit → Option Rec) => (if (gI s1 3) ≤ (gI s1 5) then j4 () else IX (gI s1 5) 940 (fun i58 => JN1 (fun (u59 : Unit) => LT (sI s1 5 ((gI s1 5) + (1 : Int32))) (fun s61 => rec2 s61)) (fun (j60 : Unit → Option Rec) => (if (gA s1 1 i58) = (32 : Int32) then j60 () else (if (gA s1 1 i58) = (10 : Int32) then j60 () else j4 ()))))))
theorem nx_eq (j : Nat) (s : Rec) : x5_next j s = LP1 (nxB j) FU s := rfl
theorem rn_eq (j : Nat) (s : Rec) (x1 : Int32) : x5_run j s x1 = LP2 (rnB j x1) FU 1 (sJ (sI s (rb j + 4) 0) (rb j + 6) 0) := by
  unfold x5_run rnB
  rw [LT, LT]
theorem go_eq (s : Rec) : m_go s = LP1 goB FU s := rfl
theorem rb_le (j : Nat) : 100 ≤ rb j ∧ rb j ≤ 140 := by
  unfold rb; split <;> omega
def mk (k : Nat) : Nat := match k with | 0 => 0 | 1 => 2 | 2 => 3 | 3 => 4 | _ => 1
def FRc (j : Nat) (c s : Rec) : Prop := s.2.1 = c.2.1 ∧ s.2.2.2 = c.2.2.2 ∧ ∀ k, (k ≤ rb j ∨ rb j + 6 ≤ k) → gI s k = gI c k
def FRn (m s : Rec) : Prop := s.2.1 = m.2.1 ∧ s.2.2.2 = m.2.2.2 ∧ ∀ k, (k < 5 ∨ 9 < k) → gI s k = gI m k
theorem FRc.refl (j : Nat) (c : Rec) : FRc j c c := ⟨rfl, rfl, fun _ _ => rfl⟩
theorem FRn.refl (m : Rec) : FRn m m := ⟨rfl, rfl, fun _ _ => rfl⟩
theorem FRc.trans {j : Nat} {a b c : Rec} (h : FRc j a b) (h2 : FRc j b c) : FRc j a c := ⟨h2.1.trans h.1, h2.2.1.trans h.2.1, fun k hk => (h2.2.2 k hk).trans (h.2.2 k hk)⟩
theorem FRn.trans {a b c : Rec} (h : FRn a b) (h2 : FRn b c) : FRn a c := ⟨h2.1.trans h.1, h2.2.1.trans h.2.1, fun k hk => (h2.2.2 k hk).trans (h.2.2 k hk)⟩
theorem FRc_sI {j : Nat} {c s : Rec} (h : FRc j c s) {k : Nat} (v : Int32) (h1 : rb j < k) (h2 : k < rb j + 6) : FRc j c (sI s k v) := ⟨h.1, h.2.1, fun i hi => by rw [gI_sIn _ _ (by omega)]; exact h.2.2 i hi⟩
theorem FRc_sJ {j : Nat} {c s : Rec} (h : FRc j c s) (k : Nat) (v : Int64) : FRc j c (sJ s k v) := ⟨h.1, h.2.1, h.2.2⟩
theorem FRn_sI {c s : Rec} (h : FRn c s) {k : Nat} (v : Int32) (h1 : 5 ≤ k) (h2 : k ≤ 9) : FRn c (sI s k v) := ⟨h.1, h.2.1, fun i hi => by rw [gI_sIn _ _ (by omega)]; exact h.2.2 i hi⟩
theorem FRn_sJ {c s : Rec} (h : FRn c s) (k : Nat) (v : Int64) : FRn c (sJ s k v) := ⟨h.1, h.2.1, h.2.2⟩
theorem FRc.gA {j : Nat} {c s : Rec} (h : FRc j c s) (k : Nat) : gA s k = gA c k := congrFun h.1 k
theorem FRn.gA {c s : Rec} (h : FRn c s) (k : Nat) : gA s k = gA c k := congrFun h.1 k
theorem FRc.gP {j : Nat} {c s : Rec} (h : FRc j c s) (k : Nat) : gP s k = gP c k := congrArg (fun r : (Nat → Nat → Int64) × (Nat → Option Nat) × (Nat → Nat → Option Nat) => r.2.1 k) h.2.1
theorem FRc.gQ {j : Nat} {c s : Rec} (h : FRc j c s) (k : Nat) : gQ s k = gQ c k := congrArg (fun r : (Nat → Nat → Int64) × (Nat → Option Nat) × (Nat → Nat → Option Nat) => r.2.2 k) h.2.1
theorem FRn.gL {c s : Rec} (h : FRn c s) (k : Nat) : gL s k = gL c k := congrArg (fun r : (Nat → Nat → Int64) × (Nat → Option Nat) × (Nat → Nat → Option Nat) => r.1 k) h.2.1
/-- the tape, as both have it -/
def TPE (T : Nat → Nat) (c m : Rec) : Prop := ∀ i, i < 940 → T i < 256 ∧ gA m 1 i = nI (T i) ∧ gA c 0 i = (nI (T i)).toInt8.toInt32
theorem TPE_ext {T : Nat → Nat} {c m c' m' : Rec} (h : TPE T c m) (h1 : gA c' 0 = gA c 0) (h2 : gA m' 1 = gA m 1) : TPE T c' m' := fun i hi => by rw [h1, h2]; exact h i hi
def isL (t : Nat) : Bool := decide (97 ≤ t) && decide (t ≤ 122)
def isD (t : Nat) : Bool := decide (48 ≤ t) && decide (t ≤ 57)
theorem inn_r {t a b : Nat} (ht : t < 256) (ha : a < 256) (hb : b < 256) : inn (nI t) (nI a) (nI b) = (decide (a ≤ t) && decide (t ≤ b)) := by
  unfold inn
  by_cases h1 : a ≤ t <;> by_cases h2 : t ≤ b
  · simp [h1, h2, nI_nlt h1 (by omega), nI_nlt h2 (by omega)]
  · simp [h2, nI_lt (Nat.lt_of_not_le h2) (show t < 2 ^ 31 by omega)]
  · simp [h1, nI_lt (Nat.lt_of_not_le h1) (show a < 2 ^ 31 by omega)]
  · simp [h1, nI_lt (Nat.lt_of_not_le h1) (show a < 2 ^ 31 by omega)]
theorem x5_isLetter_v (j : Nat) (s : Rec) {t : Nat} (ht : t < 256) : x5_isLetter j s (nI t) = some (bI (isL t)) := by
  unfold x5_isLetter; rw [x1_isIn_v, BD_some, BZ_b]
  exact congrArg (fun b => some (bI b)) (inn_r ht (a := 97) (b := 122) (by omega) (by omega))
theorem x5_isDigit_v (j : Nat) (s : Rec) {t : Nat} (ht : t < 256) : x5_isDigit j s (nI t) = some (bI (isD t)) := by
  unfold x5_isDigit; rw [x1_isIn_v, BD_some, BZ_b]
  exact congrArg (fun b => some (bI b)) (inn_r ht (a := 48) (b := 57) (by omega) (by omega))
theorem m_isLetter_v {t : Nat} (ht : t < 256) : m_isLetter (nI t) = some (bI (isL t)) := by
  have e : m_isLetter (nI t) = m_isIn (nI t) 97 122 := rfl
  rw [e, m_isIn_v]
  exact congrArg (fun b => some (bI b)) (inn_r ht (a := 97) (b := 122) (by omega) (by omega))
theorem m_isDigit_v {t : Nat} (ht : t < 256) : m_isDigit (nI t) = some (bI (isD t)) := by
  have e : m_isDigit (nI t) = m_isIn (nI t) 48 57 := rfl
  rw [e, m_isIn_v]
  exact congrArg (fun b => some (bI b)) (inn_r ht (a := 48) (b := 57) (by omega) (by omega))
theorem x5_isLetter_M (j : Nat) (s : Rec) : x5_isLetter j s M1 = some (nI 0) := rfl
theorem x5_isDigit_M (j : Nat) (s : Rec) : x5_isDigit j s M1 = some (nI 0) := rfl
/-- letters, the last first; a number -/
def rl (T : Nat → Nat) (q : Nat) : Nat → List Nat
  | 0 => []
  | n + 1 => T (q + n) :: rl T q n
def nmb (T : Nat → Nat) (q : Nat) : Nat → Nat
  | 0 => 0
  | n + 1 => 10 * nmb T q n + (T (q + n) - 48)
def alN (T : Nat → Nat) (q : Nat) (small : Bool) : Nat → Bool
  | 0 => true
  | n + 1 => alN T q small n && (isL (T (q + n)) == small)
theorem rl_len (T : Nat → Nat) (q : Nat) : ∀ n, (rl T q n).length = n := by
  intro n
  induction n with
  | zero => rfl
  | succ n ih => show (rl T q n).length + 1 = _; rw [ih]
theorem rl_get (T : Nat → Nat) (q : Nat) : ∀ n i, i < n → (rl T q n).reverse.getD i 0 = T (q + i) := by
  intro n
  induction n with
  | zero => intro i hi; omega
  | succ n ih =>
    intro i hi
    show (T (q + n) :: rl T q n).reverse.getD i 0 = _
    rw [List.reverse_cons]
    by_cases e : i < n
    · have := ih i e
      simp only [List.getD] at this ⊢
      rw [List.getElem?_append_left (by rw [List.length_reverse, rl_len]; exact e)]; exact this
    · have e2 : i = n := by omega
      subst e2
      simp only [List.getD]
      rw [List.getElem?_append_right (by rw [List.length_reverse, rl_len]; omega), List.length_reverse, rl_len]
      simp
theorem al_all {T : Nat → Nat} {q : Nat} {small : Bool} : ∀ {n : Nat}, alN T q small n = true → ∀ i, i < n → isL (T (q + i)) = small := by
  intro n
  induction n with
  | zero => intro _ i hi; omega
  | succ n ih =>
    intro h i hi
    have h' : (alN T q small n && (isL (T (q + n)) == small)) = true := h
    simp only [Bool.and_eq_true, beq_iff_eq] at h'
    by_cases e : i = n
    · subst e; exact h'.2
    · exact ih h'.1 i (by omega)
theorem al_mono {T : Nat → Nat} {q : Nat} {small : Bool} {n : Nat} (h : alN T q small (n + 1) = true) : alN T q small n = true := by
  have h' : (alN T q small n && (isL (T (q + n)) == small)) = true := h
  simp only [Bool.and_eq_true] at h'
  exact h'.1
theorem rl_mem {T : Nat → Nat} {q : Nat} : ∀ {n : Nat}, (∀ i, i < n → isL (T (q + i)) = true) → ∀ c ∈ rl T q n, 97 ≤ c ∧ c ≤ 122 := by
  intro n
  induction n with
  | zero => intro _ c hc; cases hc
  | succ n ih =>
    intro h c hc
    have hc' : c ∈ T (q + n) :: rl T q n := hc
    rcases List.mem_cons.mp hc' with rfl | h2
    · have := h n (by omega)
      unfold isL at this
      simp only [Bool.and_eq_true, decide_eq_true_eq] at this
      exact this
    · exact ih (fun i hi => h i (by omega)) c h2
theorem nmb_le {T : Nat → Nat} {q : Nat} : ∀ {n : Nat}, n ≤ 3 → (∀ i, i < n → isD (T (q + i)) = true) → nmb T q n < 10 ^ n := by
  intro n
  induction n with
  | zero => intro _ _; exact Nat.one_pos
  | succ n ih =>
    intro h3 h
    have h1 := ih (by omega) (fun i hi => h i (by omega))
    have h2 := h n (by omega)
    unfold isD at h2
    simp only [Bool.and_eq_true, decide_eq_true_eq] at h2
    show 10 * nmb T q n + (T (q + n) - 48) < 10 ^ (n + 1)
    rw [Nat.pow_succ]; omega
section LEX
variable {j : Nat} {T : Nat → Nat} {N : Nat} {c m : Rec}
theorem peek_in {s : Rec} {p : Nat} (hT : TPE T s m) (hN : N ≤ 940) (h2 : gI s 2 = nI N) (hp : gI s (rb j + 1) = nI p) (h : p < N) : x5_peek j s = some (nI (T p)) := by
  unfold x5_peek
  obtain ⟨t1, -, t3⟩ := hT p (by omega)
  rw [h2, hp, if_neg (nI_ge h (by omega)), IX_nI _ (by omega) (by omega), t3, tb_and _ t1]
theorem peek_out {s : Rec} {p : Nat} (hN : N ≤ 940) (h2 : gI s 2 = nI N) (hp : gI s (rb j + 1) = nI p) (h : N ≤ p) (hp2 : p ≤ 940) : x5_peek j s = some M1 := by
  unfold x5_peek
  rw [h2, hp, if_pos (nI_le h (by omega))]; rfl
/-- a run of letters and digits: one more, the component -/
theorem rn_step {s : Rec} {p a : Nat} {small fl : Bool} (rec : Int32 → Rec → Option Rec) (hT : TPE T s m) (hN : N ≤ 940) (h2 : gI s 2 = nI N) (hp : gI s (rb j + 1) = nI p) (ha : gI s (rb j + 2) = nI a) (hap : a ≤ p) (h : p < N) (hal : isL (T p) = true ∨ isD (T p) = true) : ∃ s', rnB j (bI small) rec (bI fl) s = rec (bI (fl && (isL (T p) == small))) s' ∧ FRc j s s' ∧ gI s' (rb j + 1) = nI (p + 1) ∧ gI s' (rb j + 2) = nI a ∧ gJ s' (rb j + 6) = (if 7 ≤ p - a then gJ s (rb j + 6) else (gJ s (rb j + 6)) <<< (Int32.toInt64 8 &&& 63) ||| lN (T p)) ∧ gI s' (rb j + 4) = (if 3 ≤ p - a then gI s (rb j + 4) else nI 10 * gI s (rb j + 4) + nI (T p) - nI 48) := by
  have hr := rb_le j
  obtain ⟨t1, t2, t3⟩ := hT p (by omega)
  have pk := peek_in hT hN h2 hp h
  have il : Int32.toInt64 (nI (T p)) = lN (T p) := nI_l (by omega)
  have pk1 : ∀ w : Int64, x5_peek j (sJ s (rb j + 6) w) = some (nI (T p)) := fun w => pk
  have fb : (if bI (isL (T p)) = bI small then (1 : Int32) else 0) = bI (isL (T p) == small) := by
    cases isL (T p) <;> cases small <;> rfl
  refine ⟨sI (if 3 ≤ p - a then (if 7 ≤ p - a then s else sJ s (rb j + 6) ((gJ s (rb j + 6)) <<< (Int32.toInt64 8 &&& 63) ||| lN (T p))) else sI (if 7 ≤ p - a then s else sJ s (rb j + 6) ((gJ s (rb j + 6)) <<< (Int32.toInt64 8 &&& 63) ||| lN (T p))) (rb j + 4) (nI 10 * gI s (rb j + 4) + nI (T p) - nI 48)) (rb j + 1) (nI (p + 1)), ?_, ?_, ?_, ?_, ?_, ?_⟩
  · unfold rnB
    rw [pk, BD_some, x5_isLetter_v j s t1, BD_some]
    have hal2 : ∀ {X Y : Option Rec}, (if bI (isL (T p)) = 0 then BD (some (nI (T p))) (fun v30 => BD (x5_isDigit j s v30) (fun v32 => (if v32 = 0 then X else Y))) else Y) = Y := by
      intro X Y
      cases e : isL (T p)
      · rw [if_pos (show bI false = (0 : Int32) from rfl), BD_some, x5_isDigit_v j s t1, BD_some]
        rcases hal with h1 | h1
        · rw [e] at h1; cases h1
        · rw [h1]; exact if_neg (by decide)
      · exact if_neg (by decide)
    rw [JN1]
    refine hal2.trans ?_
    have tail : ∀ f : Int32, (JN1 (fun (s14 : Rec) => JN1 (fun (s16 : Rec) => LT (sI s16 (rb j + 1) ((gI s16 (rb j + 1)) + (1 : Int32))) (fun s18 => rec f s18)) (fun (j17 : Rec → Option Rec) => (if (3 : Int32) ≤ ((gI s14 (rb j + 1)) - (gI s14 (rb j + 2))) then j17 s14 else BD (x5_peek j s14) (fun v20 => LT (sI s14 (rb j + 4) ((((10 : Int32) * (gI s14 (rb j + 4))) + v20) - (48 : Int32))) (fun s21 => j17 s21))))) (fun (j15 : Rec → Option Rec) => (if (7 : Int32) ≤ ((gI s (rb j + 1)) - (gI s (rb j + 2))) then j15 s else BD (some (nI (T p))) (fun v23 => LT (sJ s (rb j + 6) (((gJ s (rb j + 6)) <<< (Int32.toInt64 (8 : Int32) &&& 63)) ||| (Int32.toInt64 v23))) (fun s24 => j15 s24))))) = rec f (sI (if 3 ≤ p - a then (if 7 ≤ p - a then s else sJ s (rb j + 6) ((gJ s (rb j + 6)) <<< (Int32.toInt64 8 &&& 63) ||| lN (T p))) else sI (if 7 ≤ p - a then s else sJ s (rb j + 6) ((gJ s (rb j + 6)) <<< (Int32.toInt64 8 &&& 63) ||| lN (T p))) (rb j + 4) (nI 10 * gI s (rb j + 4) + nI (T p) - nI 48)) (rb j + 1) (nI (p + 1))) := by
      intro f
      by_cases g7 : 7 ≤ p - a
      · rw [if_pos (show 3 ≤ p - a by omega), if_pos g7]
        simp (disch := omega) only [Nat.zero_add, LT, BD_some, BD2_some, JN1, JN2, IX_nI, nI_add, pk_mul, pk_sub, leT, leF, ltT, ltF, eqT, eqF, M1_lit, bI_true, bI_false, BZ_n0, BZ_n1, BZ_b, ↓reduceIte, l_0, l_1, l_2, l_3, l_4, l_5, l_6, l_7, l_8, l_9, l_10, l_11, l_12, l_13, l_14, l_15, l_16, l_17, l_18, l_19, l_20, l_21, l_22, l_23, l_24, l_25, l_26, l_27, l_28, l_29, l_30, l_31, l_32, l_33, l_34, l_35, l_36, l_37, l_38, l_39, l_40, l_41, l_42, l_43, l_44, l_45, l_46, l_47, l_48, l_49, l_50, l_51, l_52, l_53, l_54, l_55, l_56, l_57, l_58, l_59, l_60, l_61, l_62, l_63, l_64, l_72, l_74, l_86, l_97, l_99, l_100, l_122, l_140, l_158, l_160, l_164, l_200, l_240, l_255, l_400, l_406, l_900, l_940, l_980, l_999, l_1120, l_1000, l_100000, gI_sIs, gI_sIn, gI_sA, gI_sJ, gI_sL, gI_sP, gI_sQ, gI_sB, gA_sAs, gA_sAi, gA_sAn, gA_sI, gA_sJ, gA_sL, gA_sP, gA_sQ, gA_sBs, gA_sBn, gJ_sJs, gJ_sJn, gJ_sI, gJ_sA, gJ_sB, gJ_sL, gL_sI, gL_sA, gL_sJ, gL_sB, gL_sLs, gL_sLi, gL_sLn, gP_sI, gP_sA, gP_sB, gP_sJ, gP_sL, gP_sPs, gP_sPn, gQ_sI, gQ_sA, gQ_sB, gQ_sJ, gQ_sL, gQ_sP, gQ_sQs, gQ_sQi, gQ_sQn, hp, ha]
      · by_cases g3 : 3 ≤ p - a
        · rw [if_pos g3, if_neg g7]
          simp (disch := omega) only [Nat.zero_add, LT, BD_some, BD2_some, JN1, JN2, IX_nI, nI_add, pk_mul, pk_sub, leT, leF, ltT, ltF, eqT, eqF, M1_lit, bI_true, bI_false, BZ_n0, BZ_n1, BZ_b, ↓reduceIte, l_0, l_1, l_2, l_3, l_4, l_5, l_6, l_7, l_8, l_9, l_10, l_11, l_12, l_13, l_14, l_15, l_16, l_17, l_18, l_19, l_20, l_21, l_22, l_23, l_24, l_25, l_26, l_27, l_28, l_29, l_30, l_31, l_32, l_33, l_34, l_35, l_36, l_37, l_38, l_39, l_40, l_41, l_42, l_43, l_44, l_45, l_46, l_47, l_48, l_49, l_50, l_51, l_52, l_53, l_54, l_55, l_56, l_57, l_58, l_59, l_60, l_61, l_62, l_63, l_64, l_72, l_74, l_86, l_97, l_99, l_100, l_122, l_140, l_158, l_160, l_164, l_200, l_240, l_255, l_400, l_406, l_900, l_940, l_980, l_999, l_1120, l_1000, l_100000, gI_sIs, gI_sIn, gI_sA, gI_sJ, gI_sL, gI_sP, gI_sQ, gI_sB, gA_sAs, gA_sAi, gA_sAn, gA_sI, gA_sJ, gA_sL, gA_sP, gA_sQ, gA_sBs, gA_sBn, gJ_sJs, gJ_sJn, gJ_sI, gJ_sA, gJ_sB, gJ_sL, gL_sI, gL_sA, gL_sJ, gL_sB, gL_sLs, gL_sLi, gL_sLn, gP_sI, gP_sA, gP_sB, gP_sJ, gP_sL, gP_sPs, gP_sPn, gQ_sI, gQ_sA, gQ_sB, gQ_sJ, gQ_sL, gQ_sP, gQ_sQs, gQ_sQi, gQ_sQn, hp, ha, il]
        · rw [if_neg g3, if_neg g7]
          simp (disch := omega) only [Nat.zero_add, LT, BD_some, BD2_some, JN1, JN2, IX_nI, nI_add, pk_mul, pk_sub, leT, leF, ltT, ltF, eqT, eqF, M1_lit, bI_true, bI_false, BZ_n0, BZ_n1, BZ_b, ↓reduceIte, l_0, l_1, l_2, l_3, l_4, l_5, l_6, l_7, l_8, l_9, l_10, l_11, l_12, l_13, l_14, l_15, l_16, l_17, l_18, l_19, l_20, l_21, l_22, l_23, l_24, l_25, l_26, l_27, l_28, l_29, l_30, l_31, l_32, l_33, l_34, l_35, l_36, l_37, l_38, l_39, l_40, l_41, l_42, l_43, l_44, l_45, l_46, l_47, l_48, l_49, l_50, l_51, l_52, l_53, l_54, l_55, l_56, l_57, l_58, l_59, l_60, l_61, l_62, l_63, l_64, l_72, l_74, l_86, l_97, l_99, l_100, l_122, l_140, l_158, l_160, l_164, l_200, l_240, l_255, l_400, l_406, l_900, l_940, l_980, l_999, l_1120, l_1000, l_100000, gI_sIs, gI_sIn, gI_sA, gI_sJ, gI_sL, gI_sP, gI_sQ, gI_sB, gA_sAs, gA_sAi, gA_sAn, gA_sI, gA_sJ, gA_sL, gA_sP, gA_sQ, gA_sBs, gA_sBn, gJ_sJs, gJ_sJn, gJ_sI, gJ_sA, gJ_sB, gJ_sL, gL_sI, gL_sA, gL_sJ, gL_sB, gL_sLs, gL_sLi, gL_sLn, gP_sI, gP_sA, gP_sB, gP_sJ, gP_sL, gP_sPs, gP_sPn, gQ_sI, gQ_sA, gQ_sB, gQ_sJ, gQ_sL, gQ_sP, gQ_sQs, gQ_sQi, gQ_sQn, hp, ha, il, pk1]
    rw [JN1]
    cases fl
    · refine (if_pos rfl).trans ?_
      exact tail 0
    · refine (if_neg (by decide)).trans ?_
      rw [BD_some, x5_isLetter_v j s t1, BD_some]
      by_cases e : bI (isL (T p)) = bI small
      · have e2 : (isL (T p) == small) = true := by revert e; cases isL (T p) <;> cases small <;> simp [bI]
        rw [if_pos e, e2]
        exact tail 1
      · have e2 : (isL (T p) == small) = false := by revert e; cases isL (T p) <;> cases small <;> simp [bI]
        rw [if_neg e, e2]
        exact tail 0
  · refine FRc_sI ?_ _ (by omega) (by omega)
    split
    · split
      · exact FRc.refl j s
      · exact FRc_sJ (FRc.refl j s) _ _
    · split
      · exact FRc_sI (FRc.refl j s) _ (by omega) (by omega)
      · exact FRc_sI (FRc_sJ (FRc.refl j s) _ _) _ (by omega) (by omega)
  · exact gI_sIs _ _ _
  · rw [gI_sIn _ _ (by omega)]
    split
    · split
      · exact ha
      · exact ha
    · rw [gI_sIn _ _ (by omega)]
      split
      · exact ha
      · exact ha
  · rw [gJ_sI]
    split
    · split
      · rfl
      · exact gJ_sJs _ _ _
    · rw [gJ_sI]
      split
      · rfl
      · exact gJ_sJs _ _ _
  · rw [gI_sIn _ _ (by omega)]
    split
    · split
      · rfl
      · rfl
    · exact gI_sIs _ _ _
end LEX
