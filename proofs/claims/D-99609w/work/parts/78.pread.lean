/-! PURE: readers: what stays, what fails, numbers, signs, names -/
/-- strong frames of the readers' small steps -/
def FR2 (c c' : Rec) : Prop := c'.2.1 = c.2.1 ∧ c'.2.2.2 = c.2.2.2 ∧ ∀ k, (k < 40 ∨ k = 109 ∨ k = 129 ∨ k = 150) → gI c' k = gI c k
def FM2 (m m' : Rec) : Prop := m'.2.1 = m.2.1 ∧ m'.2.2.2 = m.2.2.2 ∧ ∀ k, (k < 5 ∨ 13 < k) → gI m' k = gI m k
theorem FR2.refl (c : Rec) : FR2 c c := ⟨rfl, rfl, fun _ _ => rfl⟩
theorem FM2.refl (m : Rec) : FM2 m m := ⟨rfl, rfl, fun _ _ => rfl⟩
theorem FR2.trans {a b c : Rec} (h : FR2 a b) (h2 : FR2 b c) : FR2 a c := ⟨h2.1.trans h.1, h2.2.1.trans h.2.1, fun k hk => (h2.2.2 k hk).trans (h.2.2 k hk)⟩
theorem FM2.trans {a b c : Rec} (h : FM2 a b) (h2 : FM2 b c) : FM2 a c := ⟨h2.1.trans h.1, h2.2.1.trans h.2.1, fun k hk => (h2.2.2 k hk).trans (h.2.2 k hk)⟩
theorem rb_in (j : Nat) : rb j = 100 ∨ rb j = 120 ∨ rb j = 140 := by
  unfold rb
  split <;> omega
theorem FRc.fr2 {j : Nat} {c c' : Rec} (h : FRc j c c') : FR2 c c' := ⟨h.1, h.2.1, fun k hk => h.2.2 k (by have := rb_in j; omega)⟩
theorem FRn.fm2 {m m' : Rec} (h : FRn m m') : FM2 m m' := ⟨h.1, h.2.1, fun k hk => h.2.2 k (by omega)⟩
theorem FR2_sI (c : Rec) {k : Nat} (v : Int32) (h : k = 40 ∨ k = 41) : FR2 c (sI c k v) := ⟨rfl, rfl, fun i hi => gI_sIn _ _ (by omega)⟩
theorem FM2_sI (m : Rec) {k : Nat} (v : Int32) (h : 5 ≤ k ∧ k ≤ 13) : FM2 m (sI m k v) := ⟨rfl, rfl, fun i hi => gI_sIn _ _ (by omega)⟩
theorem FR2.gA {c s : Rec} (h : FR2 c s) (k : Nat) : gA s k = gA c k := congrFun h.1 k
theorem FM2.gA {c s : Rec} (h : FM2 c s) (k : Nat) : gA s k = gA c k := congrFun h.1 k
theorem FR2.gP {c s : Rec} (h : FR2 c s) (k : Nat) : gP s k = gP c k := congrArg (fun r : (Nat → Nat → Int64) × (Nat → Option Nat) × (Nat → Nat → Option Nat) => r.2.1 k) h.2.1
theorem FR2.gQ {c s : Rec} (h : FR2 c s) (k : Nat) : gQ s k = gQ c k := congrArg (fun r : (Nat → Nat → Int64) × (Nat → Option Nat) × (Nat → Nat → Option Nat) => r.2.2 k) h.2.1
theorem FM2.gL {c s : Rec} (h : FM2 c s) (k : Nat) : gL s k = gL c k := congrArg (fun r : (Nat → Nat → Int64) × (Nat → Option Nat) × (Nat → Nat → Option Nat) => r.1 k) h.2.1
theorem FR2.tpe {T : Nat → Nat} {c c' m m' : Rec} (h : FR2 c c') (h2 : FM2 m m') (hT : TPE T c m) : TPE T c' m' := TPE_ext hT (congrFun h.1 0) (h2.gA 1)
/-- a fault, as both have it -/
def ER (c m : Rec) : Prop := ∃ e a, 1 ≤ e ∧ e ≤ 4 ∧ a ≤ 940 ∧ gI c 40 = nI e ∧ gI c 41 = nI a ∧ gI m 10 = nI e ∧ gI m 11 = nI a
def OC {α : Type} (j : Nat) (T : Nat → Nat) (N : Nat) (c m : Rec) (p0 : Nat) (oc : Option (Option α × Rec)) (om : Option (Int32 × Rec)) (P : α → Rec → Rec → Nat → Prop) : Prop :=
  (∃ x c' m' p a k v l, oc = some (some x, c') ∧ om = some (1, m') ∧ FR2 c c' ∧ FM2 m m' ∧ TPE T c' m' ∧ LX j T N c' m' p a k v l ∧ p0 ≤ p ∧ P x c' m' p) ∨ (∃ c' m', oc = some (none, c') ∧ om = some (0, m') ∧ FR2 c c' ∧ FM2 m m' ∧ ER c' m')
section READ
variable {j : Nat} {T : Nat → Nat} {N : Nat} {c m : Rec} {p a k v : Nat} {l : List Nat}
theorem LX.tok (hX : LX j T N c m p a k v l) : k ≤ 4 ∧ gI c (rb j + 3) = nI k ∧ gI m 7 = nI (mk k) := ⟨hX.2.2.2.2.2.2.2.2.2.2.1, hX.2.2.2.2.2.2.2.2.2.2.2.1, hX.2.2.2.2.2.2.2.2.2.2.2.2.1⟩
theorem LX.at (hX : LX j T N c m p a k v l) : gI c (rb j + 2) = nI a ∧ gI m 6 = nI a ∧ a ≤ 940 := ⟨hX.2.2.2.2.2.2.2.1, hX.2.2.2.2.2.2.2.2.1, hX.2.2.2.2.2.2.2.2.2.1⟩
theorem LX.pos (hX : LX j T N c m p a k v l) : gI c (rb j + 1) = nI p ∧ gI m 5 = nI p ∧ p ≤ N := ⟨hX.2.2.2.2.1, hX.2.2.2.2.2.1, hX.2.2.2.2.2.2.1⟩
theorem LX.wd (hX : LX j T N c m p a k v l) (hk : k = 1) : WD l ∧ gI c (rb j + 5) = nI l.length ∧ gJ c (rb j + 6) = lN (p8 l) ∧ gJ m 12 = lN (p27 l) := ⟨(hX.2.2.2.2.2.2.2.2.2.2.2.2.2.1 hk).1, (hX.2.2.2.2.2.2.2.2.2.2.2.2.2.1 hk).2.1, (hX.2.2.2.2.2.2.2.2.2.2.2.2.2.1 hk).2.2.1, (hX.2.2.2.2.2.2.2.2.2.2.2.2.2.1 hk).2.2.2.1⟩
theorem LX.nu (hX : LX j T N c m p a k v l) (hk : k = 2) : v ≤ 999 ∧ gI c (rb j + 4) = nI v ∧ gI m 8 = nI v := hX.2.2.2.2.2.2.2.2.2.2.2.2.2.2.1 hk
theorem LX.sg (hX : LX j T N c m p a k v l) (hk : k = 3) : v < 256 ∧ gI c (rb j + 4) = nI v ∧ gI m 9 = nI v := hX.2.2.2.2.2.2.2.2.2.2.2.2.2.2.2.1 hk
theorem LX.f10 (hX : LX j T N c m p a k v l) : gI m 10 = 0 := hX.2.2.2.2.2.2.2.2.2.2.2.2.2.2.2.2
/-- fields of no token are written: the token stays -/
theorem LX_ext (hX : LX j T N c m p a k v l) {c' m' : Rec} (h1 : ∀ i, (i = 2 ∨ (rb j < i ∧ i < rb j + 6)) → gI c' i = gI c i) (h2 : gJ c' (rb j + 6) = gJ c (rb j + 6)) (h3 : ∀ i, 3 ≤ i → i ≤ 10 → gI m' i = gI m i) (h4 : gJ m' 12 = gJ m 12) : LX j T N c' m' p a k v l := by
  unfold LX at hX ⊢
  rw [h1 2 (by omega), h1 (rb j + 1) (by omega), h1 (rb j + 2) (by omega), h1 (rb j + 3) (by omega), h1 (rb j + 4) (by omega), h1 (rb j + 5) (by omega), h2, h3 3 (by omega) (by omega), h3 4 (by omega) (by omega), h3 5 (by omega) (by omega), h3 6 (by omega) (by omega), h3 7 (by omega) (by omega), h3 8 (by omega) (by omega), h3 9 (by omega) (by omega), h3 10 (by omega) (by omega), h4]
  exact hX
/-- the next token -/
theorem next_v (hT : TPE T c m) (hX : LX j T N c m p a k v l) : ∃ c' m' p' a' k' v' l', x5_next j c = some c' ∧ m_go m = some m' ∧ FRc j c c' ∧ FRn m m' ∧ TPE T c' m' ∧ LX j T N c' m' p' a' k' v' l' ∧ p ≤ p' ∧ (1 ≤ k' → k' ≤ 3 → p < p') := by
  obtain ⟨x1, x2, x3, x4, x5, x6, x7, -⟩ := id hX
  have x10 := hX.2.2.2.2.2.2.2.2.2.2.2.2.2.2.2.2
  obtain ⟨c', m', p', a', k', v', l', h1, h2, h3, h4, h5, h6, h7⟩ := lex_v hT x3 x1 x2 x4 x5 x6 x7 x10
  exact ⟨c', m', p', a', k', v', l', h1, h2, h3, h4, h3.fr2.tpe h4.fm2 hT, h5, h6, h7⟩
theorem mk_1 {k : Nat} (hk : k ≤ 4) : (nI (mk k) = 1) ↔ k = 4 := by
  rcases (show k = 0 ∨ k = 1 ∨ k = 2 ∨ k = 3 ∨ k = 4 by omega) with rfl | rfl | rfl | rfl | rfl <;> decide
theorem mk_3 {k : Nat} (hk : k ≤ 4) : (nI (mk k) = 3) ↔ k = 2 := by
  rcases (show k = 0 ∨ k = 1 ∨ k = 2 ∨ k = 3 ∨ k = 4 by omega) with rfl | rfl | rfl | rfl | rfl <;> decide
theorem mk_4 {k : Nat} (hk : k ≤ 4) : (nI (mk k) = 4) ↔ k = 3 := by
  rcases (show k = 0 ∨ k = 1 ∨ k = 2 ∨ k = 3 ∨ k = 4 by omega) with rfl | rfl | rfl | rfl | rfl <;> decide
theorem mk_0 {k : Nat} (hk : k ≤ 4) : (nI (mk k) = 0) ↔ k = 0 := by
  rcases (show k = 0 ∨ k = 1 ∨ k = 2 ∨ k = 3 ∨ k = 4 by omega) with rfl | rfl | rfl | rfl | rfl <;> decide
/-- it fails -/
theorem fail_v (hX : LX j T N c m p a k v l) {e : Nat} (he : 1 ≤ e) (he4 : e ≤ 4) (hw : k = 4 → e = 1) : ∃ c' m', x5_must j c 0 (nI e) = some (none, c') ∧ m_bad m (nI e) = some (0, m') ∧ FR2 c c' ∧ FM2 m m' ∧ ER c' m' := by
  have hr := rb_le j
  obtain ⟨k4, tc, tm⟩ := hX.tok
  obtain ⟨ac, am, a9⟩ := hX.at
  refine ⟨sI (sI c 40 (nI e)) 41 (nI a), sI (sI m 10 (nI e)) 11 (nI a), ?_, ?_, (FR2_sI c _ (by omega)).trans (FR2_sI _ _ (by omega)), (FM2_sI m _ (by omega)).trans (FM2_sI _ _ (by omega)), ⟨e, a, he, he4, a9, rfl, rfl, rfl, rfl⟩⟩
  · unfold x5_must x5_wrong
    rw [if_pos rfl, LT, gI_sIn _ _ (by omega), ac, LT, BD_some]
  · unfold m_bad
    rw [JN1, tm]
    have e6 : gI (sI m 10 (nI e)) 6 = nI a := am
    by_cases g : k = 4
    · have := hw g
      subst this
      rw [if_pos ((mk_1 k4).mpr g)]
      show LT (sI m 10 (nI 1)) _ = _
      rw [LT, e6, LT]
    · rw [if_neg (fun h => g ((mk_1 k4).mp h))]
      show LT (sI m 10 (nI e)) _ = _
      rw [LT, e6, LT]
theorem must_1 (e : Int32) : x5_must j c 1 e = some (some (), c) := rfl
/-- a number is read -/
theorem number_v (hT : TPE T c m) (hX : LX j T N c m p a k v l) {lo hi : Nat} (hlo : lo ≤ 1000) (hhi : hi ≤ 1000) : OC j T N c m p (x5_number j c (nI lo) (nI hi)) (m_readNumber m (nI lo) (nI hi)) (fun x _ m' p' => ∃ u, x = nI u ∧ lo ≤ u ∧ u ≤ hi ∧ gI m' 13 = nI u ∧ k = 2) := by
  obtain ⟨k4, tc, tm⟩ := hX.tok
  unfold x5_number m_readNumber
  rw [JN1, tc, tm]
  by_cases hk : k = 2
  · obtain ⟨v9, vc, vm⟩ := hX.nu hk
    rw [if_pos (show nI k = (2 : Int32) by rw [hk]; rfl), if_pos ((mk_3 k4).mpr hk)]
    dsimp only
    rw [must_1, BX_r, vc, x1_isIn_v, BD_some, vm, m_isIn_v, BD_some]
    rcases inn_cases (nI v) lo hi (by omega) (by omega) with ⟨h1, u, u1, u2, u3⟩ | h1
    · have hu : v = u := (nI_eq (by omega) (by omega)).mp u3
      subst hu
      rw [h1, show bI true = (1 : Int32) from rfl, must_1, BX_r, if_neg (show ¬ (1 : Int32) = 0 by decide), LT]
      have hX2 : LX j T N c (sI m 13 (nI v)) p a k v l := LX_ext hX (fun _ _ => rfl) rfl (fun i h1 h2 => gI_sIn _ _ (by omega)) rfl
      obtain ⟨c', m', p', a', k', v', l', n1, n2, n3, n4, n5, n6, n7, n8⟩ := next_v (m := sI m 13 (nI v)) (TPE_ext hT rfl rfl) hX2
      rw [n1, n2, BD_some, BD_some]
      refine Or.inl ⟨nI v, c', m', p', a', k', v', l', by rw [vc], rfl, n3.fr2, (FM2_sI m _ (by omega)).trans n4.fm2, n5, n6, n7, v, rfl, u1, u2, ?_, hk⟩
      rw [n4.2.2 13 (by omega), gI_sIs]
    · obtain ⟨c', m', f1, f2, f3, f4, f5⟩ := fail_v hX (e := 2) (by omega) (by omega) (by omega)
      rw [h1, show bI false = (0 : Int32) from rfl, show (2 : Int32) = nI 2 from rfl, f1, BX_t, if_pos rfl, f2, BD2_some, BZ_0]
      exact Or.inr ⟨c', m', rfl, rfl, f3, f4, f5⟩
  · obtain ⟨c', m', f1, f2, f3, f4, f5⟩ := fail_v hX (e := 1) (by omega) (by omega) (by omega)
    rw [if_neg (show ¬ nI k = (2 : Int32) from fun e => hk ((nI_eq (b := 2) (by omega) (by omega)).mp e)), if_neg (fun e => hk ((mk_3 k4).mp e))]
    dsimp only
    rw [show (1 : Int32) = nI 1 from rfl, f1, BX_t, f2, BD2_some, BZ_0]
    exact Or.inr ⟨c', m', rfl, rfl, f3, f4, f5⟩
theorem is2_v (hX : LX j T N c m p a k v l) {t : Nat} (ht : t < 256) : x5_is_2 j c (nI t) = some (bI (decide (k = 3) && decide (v = t))) ∧ m_isSign m (nI t) = some (bI (decide (k = 3) && decide (v = t))) := by
  obtain ⟨k4, tc, tm⟩ := hX.tok
  unfold x5_is_2 m_isSign
  rw [tc, tm]
  by_cases hk : k = 3
  · obtain ⟨v2, vc, vm⟩ := hX.sg hk
    rw [if_pos (show nI k = (3 : Int32) by rw [hk]; rfl), if_pos ((mk_4 k4).mpr hk), vc, vm, decide_eq_true hk]
    by_cases g : v = t
    · rw [if_pos (by rw [g]), decide_eq_true g]; exact ⟨rfl, rfl⟩
    · rw [if_neg (fun e => g ((nI_eq (by omega) (by omega)).mp e)), decide_eq_false g]; exact ⟨rfl, rfl⟩
  · rw [if_neg (show ¬ nI k = (3 : Int32) from fun e => hk ((nI_eq (b := 3) (by omega) (by omega)).mp e)), if_neg (fun e => hk ((mk_4 k4).mp e)), decide_eq_false hk]; exact ⟨rfl, rfl⟩
/-- the end of a line: p grows -/
theorem end_v (hT : TPE T c m) (hX : LX j T N c m p a k v l) : OC j T N c m p (x5_sign j c (59 : Int32)) (m_readEnd m) (fun _ _ _ _ => True) := by
  obtain ⟨s1, s2⟩ := is2_v hX (t := 59) (by omega)
  unfold x5_sign m_readEnd
  rw [show (59 : Int32) = nI 59 from rfl, s1, s2, BD_some, BD_some]
  cases h : (decide (k = 3) && decide (v = 59))
  · obtain ⟨c', m', f1, f2, f3, f4, f5⟩ := fail_v hX (e := 1) (by omega) (by omega) (by omega)
    rw [show bI false = (0 : Int32) from rfl, show (1 : Int32) = nI 1 from rfl, f1, BX_t, if_pos rfl, f2, BD2_some, BZ_0]
    exact Or.inr ⟨c', m', rfl, rfl, f3, f4, f5⟩
  · obtain ⟨c', m', p', a', k', v', l', n1, n2, n3, n4, n5, n6, n7, n8⟩ := next_v hT hX
    rw [show bI true = (1 : Int32) from rfl, must_1, BX_r, if_neg (show ¬ (1 : Int32) = 0 by decide), n1, n2, BD_some, BD_some]
    exact Or.inl ⟨(), c', m', p', a', k', v', l', rfl, rfl, n3.fr2, n4.fm2, n5, n6, n7, trivial⟩
/-- which of the names -/
theorem of_v {row w : Nat → Int64} {R base n : Nat} (hn : ∀ i, i < n → NM1 (row i) (w (base + i))) (hl : WD l) (hnR : n ≤ R) (hR : R ≤ 20) (hb : base + n ≤ 20) (hc : gJ c (rb j + 6) = lN (p8 l)) : x5_of j c row R (nI n) = some (lf (fdc (fun i => decide (row i = lN (p8 l))) n)) ∧ m_findIn w 20 (nI base) (nI n) (lN (p27 l)) = some (lf (fdc (fun i => decide (row i = lN (p8 l))) n)) := by
  have hiff : ∀ i, i < n → (w (base + i) = lN (p27 l) ↔ row i = lN (p8 l)) := fun i hi => by
    obtain ⟨l', w1, e1, e2⟩ := hn i hi
    rw [e1, e2, pk_lEQ (by have := WD.p27 w1; omega) (by have := WD.p27 hl; omega), pk_lEQ (by have := WD.p8 w1; omega) (by have := WD.p8 hl; omega)]
    constructor
    · intro h; rw [p27_inj w1.2.2 hl.2.2 h]
    · intro h; rw [p8_inj w1.2.2 hl.2.2 h]
  unfold x5_of m_findIn
  rw [hc]
  rcases least_cases (fun i => decide (row i = lN (p8 l))) n with ⟨q, q1, q2, q3⟩ | hno
  · rw [fdc_at q2 q3 q1, lf_s]
    have q2' : row q = lN (p8 l) := by simpa using q2
    refine ⟨LP1_run (fun i => nI i) 0 q (by omega) rfl (fun i _ hi rec => ?_) (fun rec => ?_), LP1_run (fun i => nI i) 0 q (by omega) rfl (fun i _ hi rec => ?_) (fun rec => ?_)⟩
    · have q3' : ¬ row i = lN (p8 l) := by simpa using q3 i (by omega)
      show (if nI n ≤ nI i then _ else _) = rec (nI (i + 1))
      rw [if_neg (nI_ge (by omega) (by omega)), IX_nI _ (by omega) (by omega), if_neg (fun e => q3' ((lg_cmp_eq _ _).mp e)), nI_1]
    · rw [Nat.zero_add]
      show (if nI n ≤ nI q then _ else _) = _
      rw [if_neg (nI_ge (by omega) (by omega)), IX_nI _ (by omega) (by omega), if_pos ((lg_cmp_eq _ _).mpr q2')]
    · have q3' : ¬ row i = lN (p8 l) := by simpa using q3 i (by omega)
      show (if nI n ≤ nI i then _ else _) = rec (nI (i + 1))
      rw [if_neg (nI_ge (by omega) (by omega)), nI_add, IX_nI _ (by omega) (by omega), if_neg (fun e => q3' ((hiff i (by omega)).mp ((lg_cmp_eq _ _).mp e))), nI_1]
    · rw [Nat.zero_add]
      show (if nI n ≤ nI q then _ else _) = _
      rw [if_neg (nI_ge (by omega) (by omega)), nI_add, IX_nI _ (by omega) (by omega), if_pos ((lg_cmp_eq _ _).mpr ((hiff q q1).mpr q2'))]
  · rw [fdc_none hno, lf_0]
    refine ⟨LP1_run (fun i => nI i) 0 n (by omega) rfl (fun i _ hi rec => ?_) (fun rec => ?_), LP1_run (fun i => nI i) 0 n (by omega) rfl (fun i _ hi rec => ?_) (fun rec => ?_)⟩
    · have q3' : ¬ row i = lN (p8 l) := by simpa using hno i (by omega)
      show (if nI n ≤ nI i then _ else _) = rec (nI (i + 1))
      rw [if_neg (nI_ge (by omega) (by omega)), IX_nI _ (by omega) (by omega), if_neg (fun e => q3' ((lg_cmp_eq _ _).mp e)), nI_1]
    · rw [Nat.zero_add]
      exact if_pos (nI_le (Nat.le_refl _) (by omega))
    · have q3' : ¬ row i = lN (p8 l) := by simpa using hno i (by omega)
      show (if nI n ≤ nI i then _ else _) = rec (nI (i + 1))
      rw [if_neg (nI_ge (by omega) (by omega)), nI_add, IX_nI _ (by omega) (by omega), if_neg (fun e => q3' ((hiff i (by omega)).mp ((lg_cmp_eq _ _).mp e))), nI_1]
    · rw [Nat.zero_add]
      exact if_pos (nI_le (Nat.le_refl _) (by omega))
theorem nI_ne_m1 {n : Nat} (h : n < 2 ^ 31) : ¬ nI n = (-1 : Int32) := fun e => (nI_M1 h).mp e
/-- a name is looked for -/
theorem look_v (hT : TPE T c m) (hX : LX j T N c m p a k v l) {row w : Nat → Int64} {R base n : Nat} (hn : ∀ i, i < n → NM1 (row i) (w (base + i))) (hnR : n ≤ R) (hR : R ≤ 20) (hb : base + n ≤ 20) :
    (∃ q, q < n ∧ x5_look j c row R (nI n) = some (some (nI q), c) ∧ m_isName m = some 1 ∧ m_findIn w 20 (nI base) (nI n) (gJ m 12) = some (nI q)) ∨
    (∃ c' m', x5_look j c row R (nI n) = some (none, c') ∧ m_isName m = some 0 ∧ m_bad m (1 : Int32) = some (0, m') ∧ FR2 c c' ∧ FM2 m m' ∧ ER c' m') ∨
    (∃ c' m', x5_look j c row R (nI n) = some (none, c') ∧ m_isName m = some 1 ∧ m_findIn w 20 (nI base) (nI n) (gJ m 12) = some (-1) ∧ m_bad (sI m 13 (-1)) (3 : Int32) = some (0, m') ∧ FR2 c c' ∧ FM2 m m' ∧ ER c' m') := by
  unfold x5_look
  rw [x5_isName_v hT hX, m_isName_v hX, BD_some]
  cases h : (decide (k = 1) && !kwd l)
  · obtain ⟨c', m', f1, f2, f3, f4, f5⟩ := fail_v hX (e := 1) (by omega) (by omega) (by omega)
    refine Or.inr (Or.inl ⟨c', m', ?_, rfl, f2, f3, f4, f5⟩)
    rw [show bI false = (0 : Int32) from rfl, show (1 : Int32) = nI 1 from rfl, f1, BX_t]
  · have hk : k = 1 := by
      rw [Bool.and_eq_true] at h
      exact of_decide_eq_true h.1
    obtain ⟨w1, w2, w3, w4⟩ := hX.wd hk
    obtain ⟨o1, o2⟩ := of_v (c := c) (j := j) hn w1 hnR hR hb w3
    rw [show bI true = (1 : Int32) from rfl, must_1, BX_r, o1, BD_some, w4, o2]
    by_cases g : fdc (fun i => decide (row i = lN (p8 l))) n = 0
    · rw [g, show lf 0 = (-1 : Int32) from by decide]
      have hX2 : LX j T N c (sI m 13 (-1)) p a k v l := LX_ext hX (fun _ _ => rfl) rfl (fun i h1 h2 => gI_sIn _ _ (by omega)) rfl
      obtain ⟨c', m', f1, f2, f3, f4, f5⟩ := fail_v hX2 (e := 3) (by omega) (by omega) (by omega)
      refine Or.inr (Or.inr ⟨c', m', ?_, rfl, rfl, f2, f3, (FM2_sI m _ (by omega)).trans f4, f5⟩)
      rw [if_pos rfl, show (3 : Int32) = nI 3 from rfl, f1, BX_t]
    · have g2 := fdc_le (fun i => decide (row i = lN (p8 l))) n
      refine Or.inl ⟨fdc (fun i => decide (row i = lN (p8 l))) n - 1, by omega, ?_, rfl, by rw [lf_p (by omega)]⟩
      rw [if_neg (show ¬ lf (fdc (fun i => decide (row i = lN (p8 l))) n) = (-1 : Int32) from fun e => by
        have := lf_M1 (n := fdc (fun i => decide (row i = lN (p8 l))) n) (by omega) (by omega)
        exact this.mp e), must_1, BX_r, lf_p (by omega)]
/-- a known name is read -/
theorem named_v (hT : TPE T c m) (hX : LX j T N c m p a k v l) {row : Nat → Int64} {R base n : Nat} (hn : ∀ i, i < n → NM1 (row i) (gL m 19 (base + i))) (hnR : n ≤ R) (hR : R ≤ 20) (hb : base + n ≤ 20) : OC j T N c m p (x5_known j c row R (nI n)) (m_readNamed m (nI base) (nI n)) (fun x _ m' _ => ∃ q, q < n ∧ x = nI q ∧ gI m' 13 = nI q) := by
  unfold x5_known m_readNamed
  rcases look_v hT hX hn hnR hR hb with ⟨q, q1, q2, q3, q4⟩ | ⟨c', m', f1, f2, f3, f4, f5, f6⟩ | ⟨c', m', f1, f2, f3, f4, f5, f6, f7⟩
  · have hX2 : LX j T N c (sI m 13 (nI q)) p a k v l := LX_ext hX (fun _ _ => rfl) rfl (fun i h1 h2 => gI_sIn _ _ (by omega)) rfl
    obtain ⟨c', m', p', a', k', v', l', n1, n2, n3, n4, n5, n6, n7, n8⟩ := next_v (m := sI m 13 (nI q)) (TPE_ext hT rfl rfl) hX2
    rw [q2, BX_r, n1, BD_some, q3, BD_some, if_neg (show ¬ (1 : Int32) = 0 by decide), q4, BD_some, LT, gI_sIs, if_neg (nI_ne_m1 (by omega)), n2, BD_some]
    refine Or.inl ⟨nI q, c', m', p', a', k', v', l', rfl, rfl, n3.fr2, (FM2_sI m _ (by omega)).trans n4.fm2, n5, n6, n7, q, q1, rfl, ?_⟩
    rw [n4.2.2 13 (by omega), gI_sIs]
  · rw [f1, BX_t, f2, BD_some, if_pos rfl, f3, BD2_some, BZ_0]
    exact Or.inr ⟨c', m', rfl, rfl, f4, f5, f6⟩
  · rw [f1, BX_t, f2, BD_some, if_neg (show ¬ (1 : Int32) = 0 by decide), f3, BD_some, LT, gI_sIs, if_pos rfl, f4, BD2_some, BZ_0]
    exact Or.inr ⟨c', m', rfl, rfl, f5, f6, f7⟩
end READ
