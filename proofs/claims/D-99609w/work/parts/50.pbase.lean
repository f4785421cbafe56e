/-! PURE: loops run to their end, numbers as nI of a Nat, booleans as bI, rows as RF of a Nat row -/
theorem FU_split (e : Nat) (h : e ≤ 5000) : ∃ n, FU = n + 1 + e := ⟨100000 - 1 - e, by unfold FU; omega⟩
theorem LP1_run {A1 R : Type} {body : (A1 → Option R) → A1 → Option R} {r : Option R} (f1 : Nat → A1) (s0 e : Nat) (he : e ≤ 5000) {a1 : A1} (h1 : a1 = f1 s0) (hs : ∀ i, s0 ≤ i → i < s0 + e → ∀ rec : A1 → Option R, body rec (f1 i) = rec (f1 (i + 1))) (hx : ∀ rec : A1 → Option R, body rec (f1 (s0 + e)) = r) : LP1 body FU a1 = r := by
  obtain ⟨n, hn⟩ := FU_split e he
  rw [hn, h1, LP1_go f1 e (n + 1) s0 (fun i h1 h2 rec => hs i h1 h2 rec), LP1_s]
  exact hx _
theorem LP2_run {A1 A2 R : Type} {body : (A1 → A2 → Option R) → A1 → A2 → Option R} {r : Option R} (f1 : Nat → A1) (f2 : Nat → A2) (s0 e : Nat) (he : e ≤ 5000) {a1 : A1} {a2 : A2} (h1 : a1 = f1 s0) (h2 : a2 = f2 s0) (hs : ∀ i, s0 ≤ i → i < s0 + e → ∀ rec : A1 → A2 → Option R, body rec (f1 i) (f2 i) = rec (f1 (i + 1)) (f2 (i + 1))) (hx : ∀ rec : A1 → A2 → Option R, body rec (f1 (s0 + e)) (f2 (s0 + e)) = r) : LP2 body FU a1 a2 = r := by
  obtain ⟨n, hn⟩ := FU_split e he
  rw [hn, h1, h2, LP2_go f1 f2 e (n + 1) s0 (fun i h1 h2 rec => hs i h1 h2 rec), LP2_s]
  exact hx _
theorem LP3_run {A1 A2 A3 R : Type} {body : (A1 → A2 → A3 → Option R) → A1 → A2 → A3 → Option R} {r : Option R} (f1 : Nat → A1) (f2 : Nat → A2) (f3 : Nat → A3) (s0 e : Nat) (he : e ≤ 5000) {a1 : A1} {a2 : A2} {a3 : A3} (h1 : a1 = f1 s0) (h2 : a2 = f2 s0) (h3 : a3 = f3 s0) (hs : ∀ i, s0 ≤ i → i < s0 + e → ∀ rec : A1 → A2 → A3 → Option R, body rec (f1 i) (f2 i) (f3 i) = rec (f1 (i + 1)) (f2 (i + 1)) (f3 (i + 1))) (hx : ∀ rec : A1 → A2 → A3 → Option R, body rec (f1 (s0 + e)) (f2 (s0 + e)) (f3 (s0 + e)) = r) : LP3 body FU a1 a2 a3 = r := by
  obtain ⟨n, hn⟩ := FU_split e he
  rw [hn, h1, h2, h3, LP3_go f1 f2 f3 e (n + 1) s0 (fun i h1 h2 rec => hs i h1 h2 rec), LP3_s]
  exact hx _
theorem LP4_run {A1 A2 A3 A4 R : Type} {body : (A1 → A2 → A3 → A4 → Option R) → A1 → A2 → A3 → A4 → Option R} {r : Option R} (f1 : Nat → A1) (f2 : Nat → A2) (f3 : Nat → A3) (f4 : Nat → A4) (s0 e : Nat) (he : e ≤ 5000) {a1 : A1} {a2 : A2} {a3 : A3} {a4 : A4} (h1 : a1 = f1 s0) (h2 : a2 = f2 s0) (h3 : a3 = f3 s0) (h4 : a4 = f4 s0) (hs : ∀ i, s0 ≤ i → i < s0 + e → ∀ rec : A1 → A2 → A3 → A4 → Option R, body rec (f1 i) (f2 i) (f3 i) (f4 i) = rec (f1 (i + 1)) (f2 (i + 1)) (f3 (i + 1)) (f4 (i + 1))) (hx : ∀ rec : A1 → A2 → A3 → A4 → Option R, body rec (f1 (s0 + e)) (f2 (s0 + e)) (f3 (s0 + e)) (f4 (s0 + e)) = r) : LP4 body FU a1 a2 a3 a4 = r := by
  obtain ⟨n, hn⟩ := FU_split e he
  rw [hn, h1, h2, h3, h4, LP4_go f1 f2 f3 f4 e (n + 1) s0 (fun i h1 h2 rec => hs i h1 h2 rec), LP4_s]
  exact hx _
theorem LP5_run {A1 A2 A3 A4 A5 R : Type} {body : (A1 → A2 → A3 → A4 → A5 → Option R) → A1 → A2 → A3 → A4 → A5 → Option R} {r : Option R} (f1 : Nat → A1) (f2 : Nat → A2) (f3 : Nat → A3) (f4 : Nat → A4) (f5 : Nat → A5) (s0 e : Nat) (he : e ≤ 5000) {a1 : A1} {a2 : A2} {a3 : A3} {a4 : A4} {a5 : A5} (h1 : a1 = f1 s0) (h2 : a2 = f2 s0) (h3 : a3 = f3 s0) (h4 : a4 = f4 s0) (h5 : a5 = f5 s0) (hs : ∀ i, s0 ≤ i → i < s0 + e → ∀ rec : A1 → A2 → A3 → A4 → A5 → Option R, body rec (f1 i) (f2 i) (f3 i) (f4 i) (f5 i) = rec (f1 (i + 1)) (f2 (i + 1)) (f3 (i + 1)) (f4 (i + 1)) (f5 (i + 1))) (hx : ∀ rec : A1 → A2 → A3 → A4 → A5 → Option R, body rec (f1 (s0 + e)) (f2 (s0 + e)) (f3 (s0 + e)) (f4 (s0 + e)) (f5 (s0 + e)) = r) : LP5 body FU a1 a2 a3 a4 a5 = r := by
  obtain ⟨n, hn⟩ := FU_split e he
  rw [hn, h1, h2, h3, h4, h5, LP5_go f1 f2 f3 f4 f5 e (n + 1) s0 (fun i h1 h2 rec => hs i h1 h2 rec), LP5_s]
  exact hx _
theorem LP6_run {A1 A2 A3 A4 A5 A6 R : Type} {body : (A1 → A2 → A3 → A4 → A5 → A6 → Option R) → A1 → A2 → A3 → A4 → A5 → A6 → Option R} {r : Option R} (f1 : Nat → A1) (f2 : Nat → A2) (f3 : Nat → A3) (f4 : Nat → A4) (f5 : Nat → A5) (f6 : Nat → A6) (s0 e : Nat) (he : e ≤ 5000) {a1 : A1} {a2 : A2} {a3 : A3} {a4 : A4} {a5 : A5} {a6 : A6} (h1 : a1 = f1 s0) (h2 : a2 = f2 s0) (h3 : a3 = f3 s0) (h4 : a4 = f4 s0) (h5 : a5 = f5 s0) (h6 : a6 = f6 s0) (hs : ∀ i, s0 ≤ i → i < s0 + e → ∀ rec : A1 → A2 → A3 → A4 → A5 → A6 → Option R, body rec (f1 i) (f2 i) (f3 i) (f4 i) (f5 i) (f6 i) = rec (f1 (i + 1)) (f2 (i + 1)) (f3 (i + 1)) (f4 (i + 1)) (f5 (i + 1)) (f6 (i + 1))) (hx : ∀ rec : A1 → A2 → A3 → A4 → A5 → A6 → Option R, body rec (f1 (s0 + e)) (f2 (s0 + e)) (f3 (s0 + e)) (f4 (s0 + e)) (f5 (s0 + e)) (f6 (s0 + e)) = r) : LP6 body FU a1 a2 a3 a4 a5 a6 = r := by
  obtain ⟨n, hn⟩ := FU_split e he
  rw [hn, h1, h2, h3, h4, h5, h6, LP6_go f1 f2 f3 f4 f5 f6 e (n + 1) s0 (fun i h1 h2 rec => hs i h1 h2 rec), LP6_s]
  exact hx _
theorem l_0 : (0 : Int32) = nI 0 := rfl
theorem l_1 : (1 : Int32) = nI 1 := rfl
theorem l_2 : (2 : Int32) = nI 2 := rfl
theorem l_3 : (3 : Int32) = nI 3 := rfl
theorem l_4 : (4 : Int32) = nI 4 := rfl
theorem l_5 : (5 : Int32) = nI 5 := rfl
theorem l_6 : (6 : Int32) = nI 6 := rfl
theorem l_7 : (7 : Int32) = nI 7 := rfl
theorem l_8 : (8 : Int32) = nI 8 := rfl
theorem l_9 : (9 : Int32) = nI 9 := rfl
theorem l_10 : (10 : Int32) = nI 10 := rfl
theorem l_11 : (11 : Int32) = nI 11 := rfl
theorem l_12 : (12 : Int32) = nI 12 := rfl
theorem l_13 : (13 : Int32) = nI 13 := rfl
theorem l_14 : (14 : Int32) = nI 14 := rfl
theorem l_15 : (15 : Int32) = nI 15 := rfl
theorem l_16 : (16 : Int32) = nI 16 := rfl
theorem l_17 : (17 : Int32) = nI 17 := rfl
theorem l_18 : (18 : Int32) = nI 18 := rfl
theorem l_19 : (19 : Int32) = nI 19 := rfl
theorem l_20 : (20 : Int32) = nI 20 := rfl
theorem l_21 : (21 : Int32) = nI 21 := rfl
theorem l_22 : (22 : Int32) = nI 22 := rfl
theorem l_23 : (23 : Int32) = nI 23 := rfl
theorem l_24 : (24 : Int32) = nI 24 := rfl
theorem l_25 : (25 : Int32) = nI 25 := rfl
theorem l_26 : (26 : Int32) = nI 26 := rfl
theorem l_27 : (27 : Int32) = nI 27 := rfl
theorem l_28 : (28 : Int32) = nI 28 := rfl
theorem l_29 : (29 : Int32) = nI 29 := rfl
theorem l_30 : (30 : Int32) = nI 30 := rfl
theorem l_31 : (31 : Int32) = nI 31 := rfl
theorem l_32 : (32 : Int32) = nI 32 := rfl
theorem l_33 : (33 : Int32) = nI 33 := rfl
theorem l_34 : (34 : Int32) = nI 34 := rfl
theorem l_35 : (35 : Int32) = nI 35 := rfl
theorem l_36 : (36 : Int32) = nI 36 := rfl
theorem l_37 : (37 : Int32) = nI 37 := rfl
theorem l_38 : (38 : Int32) = nI 38 := rfl
theorem l_39 : (39 : Int32) = nI 39 := rfl
theorem l_40 : (40 : Int32) = nI 40 := rfl
theorem l_41 : (41 : Int32) = nI 41 := rfl
theorem l_42 : (42 : Int32) = nI 42 := rfl
theorem l_43 : (43 : Int32) = nI 43 := rfl
theorem l_44 : (44 : Int32) = nI 44 := rfl
theorem l_45 : (45 : Int32) = nI 45 := rfl
theorem l_46 : (46 : Int32) = nI 46 := rfl
theorem l_47 : (47 : Int32) = nI 47 := rfl
theorem l_48 : (48 : Int32) = nI 48 := rfl
theorem l_49 : (49 : Int32) = nI 49 := rfl
theorem l_50 : (50 : Int32) = nI 50 := rfl
theorem l_51 : (51 : Int32) = nI 51 := rfl
theorem l_52 : (52 : Int32) = nI 52 := rfl
theorem l_53 : (53 : Int32) = nI 53 := rfl
theorem l_54 : (54 : Int32) = nI 54 := rfl
theorem l_55 : (55 : Int32) = nI 55 := rfl
theorem l_56 : (56 : Int32) = nI 56 := rfl
theorem l_57 : (57 : Int32) = nI 57 := rfl
theorem l_58 : (58 : Int32) = nI 58 := rfl
theorem l_59 : (59 : Int32) = nI 59 := rfl
theorem l_60 : (60 : Int32) = nI 60 := rfl
theorem l_61 : (61 : Int32) = nI 61 := rfl
theorem l_62 : (62 : Int32) = nI 62 := rfl
theorem l_63 : (63 : Int32) = nI 63 := rfl
theorem l_64 : (64 : Int32) = nI 64 := rfl
theorem l_72 : (72 : Int32) = nI 72 := rfl
theorem l_74 : (74 : Int32) = nI 74 := rfl
theorem l_86 : (86 : Int32) = nI 86 := rfl
theorem l_97 : (97 : Int32) = nI 97 := rfl
theorem l_99 : (99 : Int32) = nI 99 := rfl
theorem l_100 : (100 : Int32) = nI 100 := rfl
theorem l_122 : (122 : Int32) = nI 122 := rfl
theorem l_140 : (140 : Int32) = nI 140 := rfl
theorem l_158 : (158 : Int32) = nI 158 := rfl
theorem l_160 : (160 : Int32) = nI 160 := rfl
theorem l_164 : (164 : Int32) = nI 164 := rfl
theorem l_200 : (200 : Int32) = nI 200 := rfl
theorem l_240 : (240 : Int32) = nI 240 := rfl
theorem l_255 : (255 : Int32) = nI 255 := rfl
theorem l_400 : (400 : Int32) = nI 400 := rfl
theorem l_406 : (406 : Int32) = nI 406 := rfl
theorem l_900 : (900 : Int32) = nI 900 := rfl
theorem l_940 : (940 : Int32) = nI 940 := rfl
theorem l_980 : (980 : Int32) = nI 980 := rfl
theorem l_999 : (999 : Int32) = nI 999 := rfl
theorem l_1120 : (1120 : Int32) = nI 1120 := rfl
theorem l_1000 : (1000 : Int32) = nI 1000 := rfl
theorem l_100000 : (100000 : Int32) = nI 100000 := rfl
def M1 : Int32 := -1
theorem M1_lit : -(nI 1) = M1 := rfl
theorem M1_d : (-1 : Int32) = M1 := rfl
theorem leT {a b : Nat} (h : a ≤ b) (hb : b < 2 ^ 31) : (nI a ≤ nI b) = True := eq_true (nI_le h hb)
theorem leF {a b : Nat} (h : b < a) (hb : a < 2 ^ 31) : (nI a ≤ nI b) = False := eq_false (nI_ge h hb)
theorem ltT {a b : Nat} (h : a < b) (hb : b < 2 ^ 31) : (nI a < nI b) = True := eq_true (nI_lt h hb)
theorem ltF {a b : Nat} (h : b ≤ a) (hb : a < 2 ^ 31) : (nI a < nI b) = False := eq_false (nI_nlt h hb)
theorem eqT {a b : Nat} (h : a = b) : (nI a = nI b) = True := by subst h; exact eq_self _
theorem eqF {a b : Nat} (h : a ≠ b) (ha : a < 2 ^ 31) (hb : b < 2 ^ 31) : (nI a = nI b) = False := eq_false (fun e => h ((nI_eq ha hb).mp e))
theorem toInt_M1 : M1.toInt = -1 := by decide
theorem nI_M1 {n : Nat} (h : n < 2 ^ 31) : (nI n = M1) = False := eq_false (fun e => by
  have h1 := congrArg Int32.toInt e
  rw [nI_toInt h, toInt_M1] at h1; omega)
theorem M1_eq {n : Nat} (h : n < 2 ^ 31) : (M1 = nI n) = False := eq_false (fun e => (nI_M1 h).mp e.symm)
theorem M1_M1 : (M1 = M1) = True := eq_self _
theorem M1_lt {n : Nat} (h : n < 2 ^ 31) : (M1 < nI n) = True := eq_true (Int32.lt_iff_toInt_lt.mpr (by rw [nI_toInt h, toInt_M1]; omega))
theorem M1_le {n : Nat} (h : n < 2 ^ 31) : (M1 ≤ nI n) = True := eq_true (Int32.le_iff_toInt_le.mpr (by rw [nI_toInt h, toInt_M1]; omega))
theorem lt_M1 {n : Nat} (h : n < 2 ^ 31) : (nI n < M1) = False := eq_false (fun e => by
  have h1 := Int32.lt_iff_toInt_lt.mp e
  rw [nI_toInt h, toInt_M1] at h1; omega)
theorem le_M1 {n : Nat} (h : n < 2 ^ 31) : (nI n ≤ M1) = False := eq_false (fun e => by
  have h1 := Int32.le_iff_toInt_le.mp e
  rw [nI_toInt h, toInt_M1] at h1; omega)
/-- a boolean as the machine has it -/
def bI (b : Bool) : Int32 := cond b 1 0
theorem bI_true : bI true = nI 1 := rfl
theorem bI_false : bI false = nI 0 := rfl
theorem bI_01 (b : Bool) : bI b = 0 ∨ bI b = 1 := by cases b <;> simp [bI]
theorem BZ_n0 {β : Type} (k : Option β) : BZ (nI 0) k = k := rfl
theorem BZ_n1 {β : Type} (k : Option β) : BZ (nI 1) k = k := rfl
theorem BZ_b {β : Type} (b : Bool) (k : Option β) : BZ (bI b) k = k := by cases b <;> rfl
theorem bI_z (b : Bool) : (bI b = nI 0) = (b = false) := by
  cases b
  · simp [bI_false]
  · rw [bI_true, eqF (by omega) (by omega) (by omega)]; simp
/-- has -/
def hs (x k : Int32) : Bool := decide (((x >>> (k &&& 31)) &&& 1) = 1)
theorem m_has_v (x k : Int32) : m_has x k = some (bI (hs x k)) := by
  unfold m_has hs
  by_cases h : ((x >>> (k &&& 31)) &&& 1) = 1 <;> simp [h, bI]
theorem x1_has_v (x k : Int32) : x1_has x k = some (bI (hs x k)) := m_has_v x k
/-- isIn -/
def inn (x a b : Int32) : Bool := decide (¬ x < a ∧ ¬ b < x)
theorem m_isIn_v (x a b : Int32) : m_isIn x a b = some (bI (inn x a b)) := by
  unfold m_isIn inn
  by_cases h : x < a <;> by_cases h2 : b < x <;> simp [h, h2, bI]
theorem x1_isIn_v (x a b : Int32) : x1_isIn x a b = some (bI (inn x a b)) := m_isIn_v x a b
theorem inn_T {k a b : Nat} (h1 : a ≤ k) (h2 : k ≤ b) (hb : b < 2 ^ 31) : inn (nI k) (nI a) (nI b) = true := by
  unfold inn; simp [nI_nlt h1 (by omega), nI_nlt h2 hb]
/-- an index among N: one of them, or not -/
theorem inn_cases (x : Int32) (a b : Nat) (ha : a < 2 ^ 31) (hb : b < 2 ^ 31) : (inn x (nI a) (nI b) = true ∧ ∃ k, a ≤ k ∧ k ≤ b ∧ x = nI k) ∨ inn x (nI a) (nI b) = false := by
  by_cases h : inn x (nI a) (nI b) = true
  · refine Or.inl ⟨h, ?_⟩
    unfold inn at h
    rw [decide_eq_true_eq] at h
    have h0 : ¬ x < 0 := fun hx => h.1 (by
      have h1 := Int32.lt_iff_toInt_lt.mp hx
      exact Int32.lt_iff_toInt_lt.mpr (by rw [nI_toInt ha]; simp at h1; omega))
    obtain ⟨j, hj, rfl⟩ := nI_of h0
    refine ⟨j, ?_, ?_, rfl⟩
    · exact Nat.le_of_not_lt (fun hh => h.1 (nI_lt hh ha))
    · exact Nat.le_of_not_lt (fun hh => h.2 (nI_lt hh hj))
  · exact Or.inr (by simpa using h)
theorem inn_count (x : Int32) (N : Nat) (hN : N < 2 ^ 30) : (inn x 0 (nI N - 1) = true ∧ ∃ p, p < N ∧ x = nI p) ∨ inn x 0 (nI N - 1) = false := by
  cases N with
  | zero =>
    refine Or.inr ?_
    unfold inn
    rw [decide_eq_false_iff_not]
    rintro ⟨h1, h2⟩
    have a1 : ¬ x.toInt < 0 := fun hx => h1 (Int32.lt_iff_toInt_lt.mpr (by simpa using hx))
    have a2 : ¬ (-1 : Int) < x.toInt := fun hx => h2 (Int32.lt_iff_toInt_lt.mpr (by
      have e : (nI 0 - 1).toInt = -1 := by decide
      rw [e]; exact hx))
    omega
  | succ N =>
    rw [nI_pred]
    rcases inn_cases x 0 N (by omega) (by omega) with ⟨h, k, -, hk, rfl⟩ | h
    · exact Or.inl ⟨h, k, by omega, rfl⟩
    · exact Or.inr h
/-- records read behind a write -/
theorem gI_sIs (r : Rec) (k : Nat) (v : Int32) : gI (sI r k v) k = v := by rw [gI_sI, if_pos rfl]
theorem gI_sIn (r : Rec) {k j : Nat} (v : Int32) (h : j ≠ k) : gI (sI r k v) j = gI r j := by rw [gI_sI, if_neg h]
theorem gA_sAs (r : Rec) (k i : Nat) (v : Int32) : gA (sA r k i v) k i = v := by rw [gA_sA2, if_pos ⟨rfl, rfl⟩]
theorem gA_sAi (r : Rec) (k : Nat) {i q : Nat} (v : Int32) (h : q ≠ i) : gA (sA r k i v) k q = gA r k q := by rw [gA_sA2, if_neg (fun e => h e.2)]
theorem gA_sAn (r : Rec) {k j : Nat} (i : Nat) (v : Int32) (h : j ≠ k) : gA (sA r k i v) j = gA r j := by rw [gA_sA, if_neg h]
theorem gA_sBs (r : Rec) (k : Nat) (f : Nat → Int32) : gA (sB r k f) k = f := by rw [gA_sB, if_pos rfl]
theorem gA_sBn (r : Rec) {k j : Nat} (f : Nat → Int32) (h : j ≠ k) : gA (sB r k f) j = gA r j := by rw [gA_sB, if_neg h]
theorem gJ_sJs (r : Rec) (k : Nat) (v : Int64) : gJ (sJ r k v) k = v := by rw [gJ_sJ, if_pos rfl]
theorem gJ_sJn (r : Rec) {k j : Nat} (v : Int64) (h : j ≠ k) : gJ (sJ r k v) j = gJ r j := by rw [gJ_sJ, if_neg h]
theorem gL_sLs (r : Rec) (k i : Nat) (v : Int64) : gL (sL r k i v) k i = v := by rw [gL_sL2, if_pos ⟨rfl, rfl⟩]
theorem gL_sLi (r : Rec) (k : Nat) {i q : Nat} (v : Int64) (h : q ≠ i) : gL (sL r k i v) k q = gL r k q := by rw [gL_sL2, if_neg (fun e => h e.2)]
theorem gL_sLn (r : Rec) {k j : Nat} (i : Nat) (v : Int64) (h : j ≠ k) : gL (sL r k i v) j = gL r j := by rw [gL_sL, if_neg h]
theorem gP_sPs (r : Rec) (k : Nat) (v : Option Nat) : gP (sP r k v) k = v := by rw [gP_sP, if_pos rfl]
theorem gP_sPn (r : Rec) {k j : Nat} (v : Option Nat) (h : j ≠ k) : gP (sP r k v) j = gP r j := by rw [gP_sP, if_neg h]
theorem gQ_sQs (r : Rec) (k i : Nat) (v : Option Nat) : gQ (sQ r k i v) k i = v := by rw [gQ_sQ2, if_pos ⟨rfl, rfl⟩]
theorem gQ_sQi (r : Rec) (k : Nat) {i q : Nat} (v : Option Nat) (h : q ≠ i) : gQ (sQ r k i v) k q = gQ r k q := by rw [gQ_sQ2, if_neg (fun e => h e.2)]
theorem gQ_sQn (r : Rec) {k j : Nat} (i : Nat) (v : Option Nat) (h : j ≠ k) : gQ (sQ r k i v) j = gQ r j := by rw [gQ_sQ, if_neg h]
theorem sA_B (r : Rec) (j i : Nat) (v : Int32) : sA r j i v = sB r j (va_up (gA r j) i v) := rfl
theorem sB_sB (r : Rec) (j : Nat) (f g : Nat → Int32) : sB (sB r j f) j g = sB r j g := by
  obtain ⟨a, b, c⟩ := r
  show (a, va_up (va_up b j f) j g, c) = (a, va_up b j g, c)
  rw [bx_uu]
theorem sB_swap (r : Rec) {j k : Nat} (f g : Nat → Int32) (h : j ≠ k) : sB (sB r j f) k g = sB (sB r k g) j f := by
  obtain ⟨a, b, c⟩ := r
  show (a, va_up (va_up b j f) k g, c) = (a, va_up (va_up b k g) j f, c)
  have e : va_up (va_up b j f) k g = va_up (va_up b k g) j f := by
    funext q
    by_cases h1 : q = j
    · subst h1; simp [va_up, h]
    · by_cases h2 : q = k
      · subst h2; simp [va_up, h1]
      · simp [va_up, h1, h2]
  rw [e]
theorem cpy_0 {α : Type} (f g : Nat → α) (sp dp : Nat) : va_cpy f g sp dp 0 = g := by
  funext q; unfold va_cpy; rw [if_neg (by omega)]
theorem cpy_s {α : Type} (f g : Nat → α) (sp dp n : Nat) : va_up (va_cpy f g sp dp n) (dp + n) (f (sp + n)) = va_cpy f g sp dp (n + 1) := by
  funext q
  unfold va_up va_cpy
  by_cases h : q = dp + n
  · rw [if_pos h, if_pos (by omega), h]; congr 1; omega
  · rw [if_neg h]
    by_cases h2 : dp ≤ q ∧ q < dp + n
    · rw [if_pos h2, if_pos (by omega)]
    · rw [if_neg h2, if_neg (by omega)]
/-- a leaf as the row has it: 0 none, n + 1 the day n -/
def lf (n : Nat) : Int32 := nI n - 1
theorem lf_0 : lf 0 = M1 := by decide
theorem lf_s (n : Nat) : lf (n + 1) = nI n := nI_pred n
theorem lf_M1 {n : Nat} (h : 0 < n) (h2 : n < 2 ^ 31) : (lf n = M1) = False := by
  obtain ⟨k, rfl⟩ : ∃ k, n = k + 1 := ⟨n - 1, by omega⟩
  rw [lf_s]; exact nI_M1 (by omega)
theorem lf_toInt {n : Nat} (h : n < 2 ^ 31) : (lf n).toInt = (n : Int) - 1 := by
  cases n with
  | zero => decide
  | succ n => rw [lf_s, nI_toInt (by omega)]; omega
theorem lf_ltT {a n : Nat} (h : a + 1 < n) (h2 : n < 2 ^ 31) : (nI a < lf n) = True := eq_true (Int32.lt_iff_toInt_lt.mpr (by rw [nI_toInt (by omega), lf_toInt h2]; omega))
theorem lf_ltF {a n : Nat} (h : n ≤ a + 1) (h2 : a < 2 ^ 30) : (nI a < lf n) = False := eq_false (fun e => by
  have h1 := Int32.lt_iff_toInt_lt.mp e
  rw [nI_toInt (by omega), lf_toInt (by omega)] at h1; omega)
theorem lf_leT {a n : Nat} (h : n ≤ a + 1) (h2 : a < 2 ^ 30) : (lf n ≤ nI a) = True := eq_true (Int32.le_iff_toInt_le.mpr (by rw [nI_toInt (by omega), lf_toInt (by omega)]; omega))
theorem lf_leF {a n : Nat} (h : a + 1 < n) (h2 : n < 2 ^ 31) : (lf n ≤ nI a) = False := eq_false (fun e => by
  have h1 := Int32.le_iff_toInt_le.mp e
  rw [nI_toInt (by omega), lf_toInt (by omega)] at h1; omega)
theorem lf_lfT {a n : Nat} (h : a < n) (h2 : n < 2 ^ 31) : (lf a < lf n) = True := eq_true (Int32.lt_iff_toInt_lt.mpr (by rw [lf_toInt (by omega), lf_toInt h2]; omega))
theorem lf_lfF {a n : Nat} (h : n ≤ a) (h2 : a < 2 ^ 31) : (lf a < lf n) = False := eq_false (fun e => by
  have h1 := Int32.lt_iff_toInt_lt.mp e
  rw [lf_toInt (by omega), lf_toInt (by omega)] at h1; omega)
theorem lf_eqF {a n : Nat} (h : n ≠ a) (h2 : a < 2 ^ 31) (h3 : n < 2 ^ 31) : (lf n = lf a) = False := eq_false (fun e => by
  have h1 := congrArg Int32.toInt e
  rw [lf_toInt (by omega), lf_toInt (by omega)] at h1; omega)
/-- the row of the model out of a row of Nats -/
def RF (d : Nat → Nat) : Nat → Int32 := fun k => if 86 ≤ k ∧ k < 164 then lf (d k) else nI (d k)
theorem RF_a {d : Nat → Nat} {k : Nat} (h : k < 86) : RF d k = nI (d k) := by unfold RF; rw [if_neg (by omega)]
theorem RF_z {d : Nat → Nat} {k : Nat} (h : 164 ≤ k) : RF d k = nI (d k) := by unfold RF; rw [if_neg (by omega)]
theorem RF_l {d : Nat → Nat} {k : Nat} (h : 86 ≤ k) (h2 : k < 164) : RF d k = lf (d k) := by unfold RF; rw [if_pos ⟨h, h2⟩]
theorem RF_up {d : Nat → Nat} {k v : Nat} (h : k < 86 ∨ 164 ≤ k) : va_up (RF d) k (nI v) = RF (va_up d k v) := by
  funext q
  by_cases hq : q = k
  · subst hq; rw [up_s]; unfold RF; rw [if_neg (by omega), up_s]
  · rw [up_n _ _ hq]; unfold RF; rw [up_n _ _ hq]
theorem RF_upl {d : Nat → Nat} {k v : Nat} (h : 86 ≤ k) (h2 : k < 164) : va_up (RF d) k (lf v) = RF (va_up d k v) := by
  funext q
  by_cases hq : q = k
  · subst hq; rw [up_s]; unfold RF; rw [if_pos ⟨h, h2⟩, up_s]
  · rw [up_n _ _ hq]; unfold RF; rw [up_n _ _ hq]
theorem RF_cpy {d e : Nat → Nat} {f : Nat → Int32} {sp dp n : Nat} (h : ∀ k, k < n → f (sp + k) = RF e (dp + k)) : va_cpy f (RF d) sp dp n = RF (va_cpy e d dp dp n) := by
  funext q
  by_cases hq : dp ≤ q ∧ q < dp + n
  · have e1 : va_cpy e d dp dp n q = e q := by rw [pk_cpy_in hq.1 hq.2]; congr 1; omega
    rw [pk_cpy_in hq.1 hq.2, h _ (by omega), show dp + (q - dp) = q by omega]
    unfold RF; rw [e1]
  · have e1 : va_cpy e d dp dp n q = d q := pk_cpy_out (by omega)
    rw [pk_cpy_out (by omega)]
    unfold RF; rw [e1]
