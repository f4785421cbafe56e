/-! PURE: words that are known; names -/
/-- the texts as rows of Nats -/
def SN (i : Nat) : List Nat := (strs.getD i []).map (fun x => x.toNatClampNeg)
theorem SN_ok : ∀ i, i < 41 → strs.getD i [] = (SN i).map nI ∧ (SN i).length ≤ 10 ∧ ∀ t ∈ SN i, t < 128 := by decide +kernel
/-- the words of the model, by its numbers -/
def WL (n : Nat) : List Nat := SN (if n < 7 then n else if n < 15 then n + 1 else if n = 15 then 7 else n)
theorem WL_ok : ∀ n, n < 22 → m_wordOf (nI n) = some (lN (p27 (WL n).reverse)) ∧ 1 ≤ (WL n).length ∧ (WL n).length ≤ 7 ∧ ∀ t ∈ WL n, 97 ≤ t ∧ t ≤ 122 := by decide +kernel
theorem getD_mem {x : List Nat} {i : Nat} (h : i < x.length) : x.getD i 0 ∈ x := by
  have e : x.getD i 0 = x[i] := by simp [List.getD, h]
  rw [e]; exact List.getElem_mem h
section WORDS
variable {j : Nat} {T : Nat → Nat} {N : Nat} {c m : Rec} {p a k v : Nat} {l : List Nat}
/-- the token is this word -/
def isW (k : Nat) (l w : List Nat) : Bool := decide (k = 1) && decide (l.reverse = w)
theorem list_eq_get {x y : List Nat} (h : x.length = y.length) : (x = y) ↔ ∀ i, i < x.length → x.getD i 0 = y.getD i 0 := by
  constructor
  · intro e i _; rw [e]
  · intro hh
    refine List.ext_getElem h (fun i h1 h2 => ?_)
    have := hh i h1
    simpa [List.getD, h1, h2] using this
theorem x5_is_v (hT : TPE T c m) (hX : LX j T N c m p a k v l) {i : Nat} (hi : i < 41) : x5_is j c i = some (bI (isW k l (SN i))) := by
  obtain ⟨x1, x2, x3, x4, x5, x6, x7, x8, x9, x10, x11, x12, x13, x14, -, -⟩ := hX
  obtain ⟨s1, s2, s3⟩ := SN_ok i hi
  have hl : slen i = (SN i).length := by unfold slen; rw [s1, List.length_map]
  have hs : ∀ t, t < (SN i).length → sch i t = nI ((SN i).getD t 0) := fun t ht => by
    unfold sch; rw [s1]; simp [List.getD, ht]
  unfold x5_is isW
  rw [x12]
  by_cases hk : k = 1
  · subst hk
    obtain ⟨w1, w2, w3, w4, w5, w6⟩ := x14 rfl
    rw [if_pos (show nI 1 = (1 : Int32) from rfl), w2, hl]
    by_cases hlen : l.length = (SN i).length
    · rw [if_pos (by rw [hlen])]
      have hrl : l.reverse.length = (SN i).length := by rw [List.length_reverse]; exact hlen
      have hl7 := w1.2.1
      have tv : ∀ t, t < l.length → gA c 0 (a + t) = nI (l.reverse.getD t 0) ∧ l.reverse.getD t 0 < 128 := fun t ht => by
        have h1 := (hT (a + t) (by omega)).2.2
        have h2 := w6 t ht
        have hm : l.reverse.getD t 0 ∈ l := by
          have : t < l.reverse.length := by rw [List.length_reverse]; exact ht
          exact List.mem_reverse.mp (getD_mem this)
        have h3 := w1.2.2 _ hm
        refine ⟨?_, by omega⟩
        rw [h1, h2, b7 _ (by omega)]
      have sv : ∀ t, t < (SN i).length → (SN i).getD t 0 < 128 := fun t ht => by
        have e : (SN i).getD t 0 = (SN i)[t] := by simp [List.getD, ht]
        rw [e]; exact s3 _ (List.getElem_mem ht)
      rcases least_cases (fun t => !decide (l.reverse.getD t 0 = (SN i).getD t 0)) l.length with ⟨q, q1, q2, q3⟩ | hn
      · have hne : ¬ l.reverse = SN i := fun e => by
          have q2' : ¬ l.reverse.getD q 0 = (SN i).getD q 0 := by simpa using q2
          exact q2' (by rw [e])
        rw [decide_eq_false hne]
        refine LP1_run (fun t => nI t) 0 q (by omega) rfl (fun t _ ht rec => ?_) (fun rec => ?_)
        · have e : l.reverse.getD t 0 = (SN i).getD t 0 := by simpa using q3 t (by omega)
          show (if nI l.length ≤ nI t then _ else _) = rec (nI (t + 1))
          rw [if_neg (nI_ge (by omega) (by omega)), x8, nI_add, IX_nI _ (by omega) (by omega), IX_nI _ (by omega) (by omega), (tv t (by omega)).1, hs t (by omega), e, if_pos rfl, nI_1]
        · rw [Nat.zero_add]
          have q2' : ¬ l.reverse.getD q 0 = (SN i).getD q 0 := by simpa using q2
          have h1 := (tv q q1).2
          have h2 := sv q (by omega)
          show (if nI l.length ≤ nI q then _ else _) = _
          rw [if_neg (nI_ge (by omega) (by omega)), x8, nI_add, IX_nI _ (by omega) (by omega), IX_nI _ (by omega) (by omega), (tv q q1).1, hs q (by omega), if_neg (fun e => q2' ((nI_eq (by omega) (by omega)).mp e))]
          rfl
      · have heq : l.reverse = SN i := (list_eq_get hrl).mpr (fun t ht => by
          rw [List.length_reverse] at ht
          simpa using hn t ht)
        rw [decide_eq_true heq]
        refine LP1_run (fun t => nI t) 0 l.length (by omega) rfl (fun t _ ht rec => ?_) (fun rec => ?_)
        · have e : l.reverse.getD t 0 = (SN i).getD t 0 := by simpa using hn t (by omega)
          show (if nI l.length ≤ nI t then _ else _) = rec (nI (t + 1))
          rw [if_neg (nI_ge (by omega) (by omega)), x8, nI_add, IX_nI _ (by omega) (by omega), IX_nI _ (by omega) (by omega), (tv t (by omega)).1, hs t (by omega), e, if_pos rfl, nI_1]
        · rw [Nat.zero_add]
          exact if_pos (nI_le (Nat.le_refl _) (by omega))
    · have hne : ¬ l.reverse = SN i := fun e => hlen (by rw [← e, List.length_reverse])
      rw [if_neg (fun e => hlen ((nI_eq (by have := w1.2.1; omega) (by omega)).mp e)), decide_eq_false hne]; rfl
  · rw [if_neg (show ¬ nI k = (1 : Int32) from fun e => hk ((nI_eq (b := 1) (by omega) (by omega)).mp e)), decide_eq_false hk]; rfl
theorem m_isWord_v (hX : LX j T N c m p a k v l) {n : Nat} (hn : n < 22) : m_isWord m (nI n) = some (bI (isW k l (WL n))) := by
  obtain ⟨x1, x2, x3, x4, x5, x6, x7, x8, x9, x10, x11, x12, x13, x14, -, -⟩ := hX
  obtain ⟨s1, s2, s3, s4⟩ := WL_ok n hn
  unfold m_isWord isW
  rw [x13]
  have hmk : (nI (mk k) = 2) ↔ k = 1 := by
    rcases (show k = 0 ∨ k = 1 ∨ k = 2 ∨ k = 3 ∨ k = 4 by omega) with rfl | rfl | rfl | rfl | rfl <;> decide
  by_cases hk : k = 1
  · obtain ⟨w1, w2, w3, w4, w5, w6⟩ := x14 hk
    rw [if_pos (hmk.mpr hk), s1, BD_some, w4]
    have hwr : ∀ t ∈ (WL n).reverse, 97 ≤ t ∧ t ≤ 122 := fun t ht => s4 t (List.mem_reverse.mp ht)
    have hb1 := WD.p27 w1
    have hb2 : p27 (WL n).reverse < 2 ^ 56 := WD.p27 ⟨by rw [List.length_reverse]; exact s2, by rw [List.length_reverse]; exact s3, hwr⟩
    have hiff : (lg_cmp (lN (p27 l)) (lN (p27 (WL n).reverse)) = 0) ↔ l.reverse = WL n := by
      rw [lg_cmp_eq, pk_lEQ (by omega) (by omega)]
      constructor
      · intro e
        have := p27_inj w1.2.2 hwr e
        rw [this, List.reverse_reverse]
      · intro e
        rw [← e, List.reverse_reverse]
    rw [decide_eq_true hk]
    by_cases g : l.reverse = WL n
    · rw [if_pos (hiff.mpr g), decide_eq_true g]; rfl
    · rw [if_neg (fun e => g (hiff.mp e)), decide_eq_false g]; rfl
  · rw [if_neg (fun e => hk (hmk.mp e)), decide_eq_false hk]; rfl
/-- the first of n: 0 none, i + 1 the one at i -/
def fdc (c : Nat → Bool) : Nat → Nat
  | 0 => 0
  | n + 1 => if fdc c n ≠ 0 then fdc c n else if c n = true then n + 1 else 0
theorem fdc_none {c : Nat → Bool} : ∀ {n : Nat}, (∀ i, i < n → c i = false) → fdc c n = 0 := by
  intro n
  induction n with
  | zero => intro _; rfl
  | succ n ih =>
    intro h
    have h1 := ih (fun i hi => h i (by omega))
    show (if fdc c n ≠ 0 then _ else _) = 0
    rw [if_neg (by omega), if_neg (by rw [h n (by omega)]; simp)]
theorem fdc_at {c : Nat → Bool} {k : Nat} (h1 : c k = true) (h2 : ∀ i, i < k → c i = false) : ∀ {n : Nat}, k < n → fdc c n = k + 1 := by
  intro n
  induction n with
  | zero => intro h; omega
  | succ n ih =>
    intro h
    show (if fdc c n ≠ 0 then _ else _) = k + 1
    by_cases e : k = n
    · subst e
      rw [fdc_none h2, if_neg (by omega), if_pos h1]
    · have := ih (by omega)
      rw [if_pos (by omega)]; exact this
theorem fdc_le (c : Nat → Bool) : ∀ n, fdc c n ≤ n := by
  intro n
  rcases least_cases c n with ⟨k, h1, h2, h3⟩ | h
  · rw [fdc_at h2 h3 h1]; omega
  · rw [fdc_none h]; omega
theorem x5_find_v (hT : TPE T c m) (hX : LX j T N c m p a k v l) {o n : Nat} (ho : o + n ≤ 41) : x5_find j c (fun i => i + o) n = some (lf (fdc (fun i => isW k l (SN (i + o))) n)) := by
  have step : ∀ i, i < n → x5_is j c (i + o) = some (bI (isW k l (SN (i + o)))) := fun i hi => x5_is_v hT hX (by omega)
  unfold x5_find
  rcases least_cases (fun i => isW k l (SN (i + o))) n with ⟨q, q1, q2, q3⟩ | hn
  · rw [fdc_at q2 q3 q1, lf_s]
    refine LP1_run (fun i => nI i) 0 q (by omega) rfl (fun i _ hi rec => ?_) (fun rec => ?_)
    · show (if nI n ≤ nI i then _ else _) = rec (nI (i + 1))
      have e := q3 i (by omega)
      have e' : isW k l (SN (i + o)) = false := e
      rw [if_neg (nI_ge (by omega) (by omega)), IX_nI _ (by omega) (by omega), step i (by omega), e', BD_some, if_pos (show bI false = (0 : Int32) from rfl), nI_1]
    · rw [Nat.zero_add]
      have e' : isW k l (SN (q + o)) = true := q2
      show (if nI n ≤ nI q then _ else _) = _
      rw [if_neg (nI_ge (by omega) (by omega)), IX_nI _ (by omega) (by omega), step q q1, e', BD_some, if_neg (show ¬ bI true = (0 : Int32) by decide)]
  · rw [fdc_none hn, lf_0]
    refine LP1_run (fun i => nI i) 0 n (by omega) rfl (fun i _ hi rec => ?_) (fun rec => ?_)
    · show (if nI n ≤ nI i then _ else _) = rec (nI (i + 1))
      have e' : isW k l (SN (i + o)) = false := hn i (by omega)
      rw [if_neg (nI_ge (by omega) (by omega)), IX_nI _ (by omega) (by omega), step i (by omega), e', BD_some, if_pos (show bI false = (0 : Int32) from rfl), nI_1]
    · rw [Nat.zero_add]
      exact if_pos (nI_le (Nat.le_refl _) (by omega))
/-- a word that is no name -/
def kwd (l : List Nat) : Bool := (List.range 22).any (fun i => decide (l.reverse = SN i))
theorem kwd_W (l : List Nat) : kwd l = (List.range 22).any (fun n => decide (l.reverse = WL n)) := by
  unfold kwd
  apply Bool.eq_iff_iff.mpr
  simp only [List.any_eq_true, List.mem_range, decide_eq_true_eq]
  constructor
  · rintro ⟨i, h1, h2⟩
    by_cases g1 : i < 7
    · exact ⟨i, h1, by unfold WL; rw [if_pos g1]; exact h2⟩
    · by_cases g2 : i = 7
      · exact ⟨15, by omega, by rw [h2, g2]; rfl⟩
      · by_cases g3 : i < 16
        · refine ⟨i - 1, by omega, ?_⟩
          unfold WL
          rw [if_neg (by omega), if_pos (by omega), show i - 1 + 1 = i by omega]; exact h2
        · refine ⟨i, h1, ?_⟩
          unfold WL
          rw [if_neg (by omega), if_neg (by omega), if_neg (by omega)]; exact h2
  · rintro ⟨n, h1, h2⟩
    unfold WL at h2
    by_cases g1 : n < 7
    · rw [if_pos g1] at h2; exact ⟨n, h1, h2⟩
    · rw [if_neg g1] at h2
      by_cases g2 : n < 15
      · rw [if_pos g2] at h2; exact ⟨n + 1, by omega, h2⟩
      · rw [if_neg g2] at h2
        by_cases g3 : n = 15
        · rw [if_pos g3] at h2; exact ⟨7, by omega, h2⟩
        · rw [if_neg g3] at h2; exact ⟨n, h1, h2⟩
theorem x5_isName_v (hT : TPE T c m) (hX : LX j T N c m p a k v l) : x5_isName j c = some (bI (decide (k = 1) && !kwd l)) := by
  have f1 := x5_find_v hT hX (o := 0) (n := 7) (by omega)
  have f2 := x5_find_v hT hX (o := 7) (n := 15) (by omega)
  have hk4 : k ≤ 4 := hX.2.2.2.2.2.2.2.2.2.2.1
  have htok : gI c (rb j + 3) = nI k := hX.2.2.2.2.2.2.2.2.2.2.2.1
  unfold x5_isName
  rw [htok]
  by_cases hk : k = 1
  · rw [if_pos (show nI k = (1 : Int32) by rw [hk]; rfl), f1, f2, BD_some, BD_some, decide_eq_true hk, Bool.true_and]
    have isw : ∀ i, isW k l (SN i) = decide (l.reverse = SN i) := fun i => by unfold isW; rw [decide_eq_true hk, Bool.true_and]
    have l1 := fdc_le (fun i => isW k l (SN (i + 0))) 7
    have l2 := fdc_le (fun i => isW k l (SN (i + 7))) 15
    rcases least_cases (fun i => isW k l (SN (i + 0))) 7 with ⟨q, q1, q2, q3⟩ | hn
    · have hkw : kwd l = true := by
        unfold kwd
        rw [List.any_eq_true]
        refine ⟨q, List.mem_range.mpr (by omega), ?_⟩
        rw [← isw]; exact q2
      rw [fdc_at q2 q3 q1, lf_s, if_neg (show ¬ nI q = (-1 : Int32) from fun e => (nI_M1 (n := q) (by omega)).mp e), hkw]; rfl
    · rw [fdc_none hn, lf_0, if_pos (show M1 = (-1 : Int32) from rfl)]
      rcases least_cases (fun i => isW k l (SN (i + 7))) 15 with ⟨q, q1, q2, q3⟩ | hn2
      · have hkw : kwd l = true := by
          unfold kwd
          rw [List.any_eq_true]
          refine ⟨q + 7, List.mem_range.mpr (by omega), ?_⟩
          rw [← isw]; exact q2
        rw [fdc_at q2 q3 q1, lf_s, if_neg (show ¬ nI q = (-1 : Int32) from fun e => (nI_M1 (n := q) (by omega)).mp e), hkw]; rfl
      · have hkw : kwd l = false := by
          unfold kwd
          rw [List.any_eq_false]
          intro i hi
          have hi' := List.mem_range.mp hi
          rw [← isw]
          by_cases g : i < 7
          · have e : isW k l (SN (i + 0)) = false := hn i g
            rw [Nat.add_zero] at e
            rw [e]; simp
          · have e : isW k l (SN (i - 7 + 7)) = false := hn2 (i - 7) (by omega)
            rw [show i - 7 + 7 = i by omega] at e
            rw [e]; simp
        rw [fdc_none hn2, lf_0, if_pos (show M1 = (-1 : Int32) from rfl), hkw]; rfl
  · rw [if_neg (show ¬ nI k = (1 : Int32) from fun e => hk ((nI_eq (b := 1) (by omega) (by omega)).mp e)), decide_eq_false hk]; rfl
theorem m_isName_v (hX : LX j T N c m p a k v l) : m_isName m = some (bI (decide (k = 1) && !kwd l)) := by
  have mw : ∀ n, n < 22 → m_isWord m (nI n) = some (bI (isW k l (WL n))) := fun n hn => m_isWord_v hX hn
  have hk4 : k ≤ 4 := hX.2.2.2.2.2.2.2.2.2.2.1
  have htok : gI m 7 = nI (mk k) := hX.2.2.2.2.2.2.2.2.2.2.2.2.1
  have hmk : (nI (mk k) = 2) ↔ k = 1 := by
    rcases (show k = 0 ∨ k = 1 ∨ k = 2 ∨ k = 3 ∨ k = 4 by omega) with rfl | rfl | rfl | rfl | rfl <;> decide
  unfold m_isName
  rw [htok]
  by_cases hk : k = 1
  · have isw : ∀ w, isW k l w = decide (l.reverse = w) := fun w => by unfold isW; rw [decide_eq_true hk, Bool.true_and]
    rw [if_pos (hmk.mpr hk), decide_eq_true hk, Bool.true_and, kwd_W]
    have st : ∀ n, n < 22 → (if (lg_cmp (gJ m 12) (lN (p27 (WL n).reverse))) = 0 then some (1 : Int32) else some (0 : Int32)) = some (bI (isW k l (WL n))) := fun n hn => by
      have h1 := mw n hn
      unfold m_isWord at h1
      rw [htok, if_pos (hmk.mpr hk), (WL_ok n hn).1, BD_some] at h1
      exact h1
    have yes : ∀ n, n < 22 → isW k l (WL n) = true → lg_cmp (gJ m 12) (lN (p27 (WL n).reverse)) = 0 := fun n hn he => by
      have h1 := st n hn
      rw [he] at h1
      by_cases g : lg_cmp (gJ m 12) (lN (p27 (WL n).reverse)) = 0
      · exact g
      · rw [if_neg g] at h1; exact absurd h1 (by decide)
    have no : ∀ n, n < 22 → isW k l (WL n) = false → ¬ lg_cmp (gJ m 12) (lN (p27 (WL n).reverse)) = 0 := fun n hn he g => by
      have h1 := st n hn
      rw [he, if_pos g] at h1; exact absurd h1 (by decide)
    rcases least_cases (fun n => isW k l (WL n)) 22 with ⟨q, q1, q2, q3⟩ | hn
    · have ha : (List.range 22).any (fun n => decide (l.reverse = WL n)) = true := by
        rw [List.any_eq_true]
        refine ⟨q, List.mem_range.mpr q1, ?_⟩
        rw [← isw]; exact q2
      rw [ha]
      refine LP1_run (fun i => nI i) 0 q (by omega) rfl (fun i _ hi rec => ?_) (fun rec => ?_)
      · refine (if_neg (show ¬ (21 : Int32) < nI i from nI_nlt (a := 21) (b := i) (by omega) (by omega))).trans ?_
        rw [(WL_ok i (by omega)).1, BD_some, if_neg (no i (by omega) (q3 i (by omega))), nI_1]
      · rw [Nat.zero_add]
        refine (if_neg (show ¬ (21 : Int32) < nI q from nI_nlt (a := 21) (b := q) (by omega) (by omega))).trans ?_
        rw [(WL_ok q q1).1, BD_some, if_pos (yes q q1 q2)]; rfl
    · have ha : (List.range 22).any (fun n => decide (l.reverse = WL n)) = false := by
        rw [List.any_eq_false]
        intro i hi
        have e : isW k l (WL i) = false := hn i (List.mem_range.mp hi)
        rw [← isw, e]; simp
      rw [ha]
      refine LP1_run (fun i => nI i) 0 22 (by omega) rfl (fun i _ hi rec => ?_) (fun rec => ?_)
      · refine (if_neg (show ¬ (21 : Int32) < nI i from nI_nlt (a := 21) (b := i) (by omega) (by omega))).trans ?_
        rw [(WL_ok i (by omega)).1, BD_some, if_neg (no i (by omega) (hn i (by omega))), nI_1]
      · exact if_pos (show (21 : Int32) < nI (0 + 22) by decide)
  · rw [if_neg (fun e => hk (hmk.mp e)), decide_eq_false hk]; rfl
end WORDS
