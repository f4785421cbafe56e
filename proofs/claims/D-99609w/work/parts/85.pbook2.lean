/-! PURE: a book is read: all its lines -/
theorem BD2_BD2 {α β γ δ ε : Type} (o : Option (α × β)) (f : α → β → Option (γ × δ)) (g : γ → δ → Option ε) : BD2 (BD2 o f) g = BD2 o (fun a b => BD2 (f a b) g) := by
  cases o <;> rfl
/-- a line's end -/
def bEnd (om : Option (Int32 × Rec)) : Option (Int32 × Rec) := BD2 om (fun v s => if v = 0 then some ((0 : Int32), s) else BD2 (m_readEnd s) (fun v34 s35 => (if v34 = 0 then some ((0 : Int32), s35) else some ((1 : Int32), s35))))
theorem bEnd_0 (s : Rec) : bEnd (some (0, s)) = some (0, s) := by
  unfold bEnd
  rw [BD2_some, if_pos rfl]
section BOOK
variable {x : Nat} {W : Wd} {T : Nat → Nat} {N : Nat} {c m e : Rec} {p a k v b i : Nat} {l : List Nat} {d : Nat → Nat}
theorem OB.any {P Q : Prop} {oc : Option (Option Nat × Wd)} {om : Option (Int32 × Rec)} (h : OB x W T N c m p P i d oc om) (hQ : P → Q) : OB x W T N c m p Q i d oc om := by
  rcases h with ⟨q, W', c', m', p, a, k, v, l, a1, a2, a3, a4, a5, a6, a7, a8, a9, b1⟩ | h
  · exact Or.inl ⟨q, W', c', m', p, a, k, v, l, a1, a2, a3, a4, a5, a6, a7, a8, a9, hQ b1⟩
  · exact Or.inr h
theorem mbR_go {v2 v4 v6 v7 cd pv : Int32} (h38 : gI m 38 = nI i) (hi : i < 40) (hcd : (if v2 = 0 then (if v4 = 0 then (3 : Int32) else 2) else 1) = cd) (hpv : (v7 = 0 ∧ pv = 0) ∨ (¬ v7 = 0 ∧ m_findIn (gL m 19) 20 (11 : Int32) (gA m 14 2) (gJ m 12) = some pv)) : mbR m v2 v4 v6 v7 = BD (m_go (sA (sA (sA (sA m 36 (4 * i) cd) 36 (4 * i + 1) pv) 36 (4 * i + 2) 0) 36 (4 * i + 3) 0)) (fun s24 => mbT m v2 v6 v7 s24) := by
  have e1 : (4 : Int32) * nI i = nI (4 * i) := pk_mul 4 i
  have e2 : nI (4 * i) + (1 : Int32) = nI (4 * i + 1) := nI_add _ _
  have e3 : nI (4 * i) + (2 : Int32) = nI (4 * i + 2) := nI_add _ _
  have e4 : nI (4 * i) + (3 : Int32) = nI (4 * i + 3) := nI_add _ _
  have K : ∀ c1 (p1 : Int32), (fun (v11 : Int32) => IX (nI (4 * i)) 160 (fun i13 => LT (sA m 36 i13 v11) (fun s14 => JN1 (fun (v15 : Int32) => IX (nI (4 * i + 1)) 160 (fun i17 => LT (sA s14 36 i17 v15) (fun s18 => IX (nI (4 * i + 2)) 160 (fun i19 => LT (sA s18 36 i19 (0 : Int32)) (fun s20 => IX (nI (4 * i + 3)) 160 (fun i21 => LT (sA s20 36 i21 (0 : Int32)) (fun s22 => BD (m_go s22) (fun s24 => mbT m v2 v6 v7 s24)))))))) (fun (j16 : Int32 → Option (Int32 × Rec)) => (if v7 = 0 then j16 (0 : Int32) else BD (m_findIn (gL s14 19) 20 (11 : Int32) (gA s14 14 2) (gJ s14 12)) (fun v58 => j16 v58)))))) c1 = (if v7 = 0 then BD (m_go (sA (sA (sA (sA m 36 (4 * i) c1) 36 (4 * i + 1) 0) 36 (4 * i + 2) 0) 36 (4 * i + 3) 0)) (fun s24 => mbT m v2 v6 v7 s24) else BD (m_findIn (gL m 19) 20 (11 : Int32) (gA m 14 2) (gJ m 12)) (fun p1 => BD (m_go (sA (sA (sA (sA m 36 (4 * i) c1) 36 (4 * i + 1) p1) 36 (4 * i + 2) 0) 36 (4 * i + 3) 0)) (fun s24 => mbT m v2 v6 v7 s24))) := by
    intro c1 p1
    dsimp only
    rw [IX_nI _ (by omega) (by omega), LT, JN1]
    have q : ∀ p1, (fun (v15 : Int32) => IX (nI (4 * i + 1)) 160 (fun i17 => LT (sA (sA m 36 (4 * i) c1) 36 i17 v15) (fun s18 => IX (nI (4 * i + 2)) 160 (fun i19 => LT (sA s18 36 i19 (0 : Int32)) (fun s20 => IX (nI (4 * i + 3)) 160 (fun i21 => LT (sA s20 36 i21 (0 : Int32)) (fun s22 => BD (m_go s22) (fun s24 => mbT m v2 v6 v7 s24)))))))) p1 = BD (m_go (sA (sA (sA (sA m 36 (4 * i) c1) 36 (4 * i + 1) p1) 36 (4 * i + 2) 0) 36 (4 * i + 3) 0)) (fun s24 => mbT m v2 v6 v7 s24) := by
      intro p1
      dsimp only
      rw [IX_nI _ (by omega) (by omega), LT, IX_nI _ (by omega) (by omega), LT, IX_nI _ (by omega) (by omega), LT]
    rw [show gL (sA m 36 (4 * i) c1) 19 = gL m 19 from rfl, show gA (sA m 36 (4 * i) c1) 14 = gA m 14 from gA_sAn _ _ _ (by omega), show gJ (sA m 36 (4 * i) c1) 12 = gJ m 12 from rfl]
    by_cases h7 : v7 = 0
    · rw [if_pos h7, if_pos h7]; exact q 0
    · rw [if_neg h7, if_neg h7]
      congr 1
      funext p2
      exact q p2
  unfold mbR
  rw [h38, if_neg (fun e => by have := (nI_eq (a := i) (b := 40) (by omega) (by omega)).mp e; omega), JN1, e1, e2, e3, e4]
  have K2 : ∀ c1, c1 = cd → (if v7 = 0 then BD (m_go (sA (sA (sA (sA m 36 (4 * i) c1) 36 (4 * i + 1) 0) 36 (4 * i + 2) 0) 36 (4 * i + 3) 0)) (fun s24 => mbT m v2 v6 v7 s24) else BD (m_findIn (gL m 19) 20 (11 : Int32) (gA m 14 2) (gJ m 12)) (fun p1 => BD (m_go (sA (sA (sA (sA m 36 (4 * i) c1) 36 (4 * i + 1) p1) 36 (4 * i + 2) 0) 36 (4 * i + 3) 0)) (fun s24 => mbT m v2 v6 v7 s24))) = BD (m_go (sA (sA (sA (sA m 36 (4 * i) cd) 36 (4 * i + 1) pv) 36 (4 * i + 2) 0) 36 (4 * i + 3) 0)) (fun s24 => mbT m v2 v6 v7 s24) := by
    intro c1 hc1
    subst hc1
    rcases hpv with ⟨h7, hp⟩ | ⟨h7, hp⟩
    · rw [if_pos h7, hp]
    · rw [if_neg h7, hp, BD_some]
  by_cases h2 : v2 = 0
  · rw [if_pos h2] at hcd ⊢
    by_cases h4 : v4 = 0
    · rw [if_pos h4] at hcd ⊢
      exact (K 3 0).trans (K2 3 hcd)
    · rw [if_neg h4] at hcd ⊢
      exact (K 2 0).trans (K2 2 hcd)
  · rw [if_neg h2] at hcd ⊢
    exact (K 1 0).trans (K2 1 hcd)
/-- the line behind its first word -/
theorem R_v (hW : XW x W W c 0) (hT : TPE T c m) (hX : LX 1 T N c m p a k v l) (hk : k = 1) (hi : i ≤ 40) (h129 : gI c 129 = nI i) (h38 : gI m 38 = nI i) {v2 v4 v6 v7 cd pv u4 u7 u10 u11 : Int32} (hcd : (if v2 = 0 then (if v4 = 0 then (3 : Int32) else 2) else 1) = cd) (hpv : (v7 = 0 ∧ pv = 0) ∨ (¬ v7 = 0 ∧ m_findIn (gL m 19) 20 (11 : Int32) (gA m 14 2) (gJ m 12) = some pv))
    (tail : i < 40 → ∀ c1 m1 p1 a1 k1 v1 l1, XW x (wp W x 0 c1) (wp W x 0 c1) c1 0 → TPE T c1 m1 → LX 1 T N c1 m1 p1 a1 k1 v1 l1 → FR2 c c1 → FMk i m m1 → gA m1 36 (4 * i) = cd → gA m1 36 (4 * i + 1) = pv → ∃ om, mbT m v2 v6 v7 m1 = bEnd om ∧ OB x (wp W x 0 c1) T N c1 m1 p1 (k1 = 1 ∨ k1 = 2) i d (x7T x u4 u7 u10 u11 c1 (wp W x 0 c1)) om) :
    ∃ om, mbR m v2 v4 v6 v7 = bEnd om ∧ OB x W T N c m (p + 1) (i < 40) i d (x7R x u4 u7 u10 u11 W) om := by
  unfold x7R
  rw [RD_of _ hW.1, JN1]
  by_cases h40 : i = 40
  · obtain ⟨c', m', f1, f2, f3, f4, f5⟩ := fail_v hX (e := 4) (by omega) (by omega) (by omega)
    refine ⟨some (0, m'), ?_, Or.inr ⟨wp W x 0 c', c', m', ?_, rfl, (hW.wr c').mono (by omega), f3, FM2.tok f4, f5⟩⟩
    · unfold mbR
      rw [h38, if_pos (by rw [h40]; rfl), show (4 : Int32) = nI 4 from rfl, f2, BD2_some, BZ_0, bEnd_0]
    · rw [h129, if_pos (show (40 : Int32) ≤ nI i from nI_le (a := 40) (by omega) (by omega))]
      dsimp only
      rw [RD_of _ hW.1, show (4 : Int32) = nI 4 from rfl, f1, BX_t]
  · have hi' : i < 40 := by omega
    have hT1 : TPE T c (sA (sA (sA (sA m 36 (4 * i) cd) 36 (4 * i + 1) pv) 36 (4 * i + 2) 0) 36 (4 * i + 3) 0) := TPE_ext hT rfl (by rw [gA_sAn _ _ _ (by omega), gA_sAn _ _ _ (by omega), gA_sAn _ _ _ (by omega), gA_sAn _ _ _ (by omega)])
    have hX1 : LX 1 T N c (sA (sA (sA (sA m 36 (4 * i) cd) 36 (4 * i + 1) pv) 36 (4 * i + 2) 0) 36 (4 * i + 3) 0) p a k v l := LX_ext hX (fun _ _ => rfl) rfl (fun _ _ _ => rfl) rfl
    have F1 : FMk i m (sA (sA (sA (sA m 36 (4 * i) cd) 36 (4 * i + 1) pv) 36 (4 * i + 2) 0) 36 (4 * i + 3) 0) := (FMk_sA i m _ (by omega) (by omega)).trans ((FMk_sA i _ _ (by omega) (by omega)).trans ((FMk_sA i _ _ (by omega) (by omega)).trans (FMk_sA i _ _ (by omega) (by omega))))
    have e0 : gA (sA (sA (sA (sA m 36 (4 * i) cd) 36 (4 * i + 1) pv) 36 (4 * i + 2) 0) 36 (4 * i + 3) 0) 36 (4 * i) = cd := by rw [gA_sAi _ _ _ (by omega), gA_sAi _ _ _ (by omega), gA_sAi _ _ _ (by omega), gA_sAs]
    have e1 : gA (sA (sA (sA (sA m 36 (4 * i) cd) 36 (4 * i + 1) pv) 36 (4 * i + 2) 0) 36 (4 * i + 3) 0) 36 (4 * i + 1) = pv := by rw [gA_sAi _ _ _ (by omega), gA_sAi _ _ _ (by omega), gA_sAs]
    rw [mbR_go h38 hi' hcd hpv]
    generalize sA (sA (sA (sA m 36 (4 * i) cd) 36 (4 * i + 1) pv) 36 (4 * i + 2) 0) 36 (4 * i + 3) 0 = M at *
    obtain ⟨c1, m1, p1, a1, k1, v1, l1, n1, n2, n3, n4, n5, n6, n7, n8⟩ := next_v hT1 hX1
    have X1 : XW x W (wp W x 0 c1) c1 0 := hW.wr c1
    have X1' : XW x (wp W x 0 c1) (wp W x 0 c1) c1 0 := ⟨X1.1, fun _ _ _ _ h => h, X1.2.2.1, Nat.le_refl _, Nat.le_refl _⟩
    obtain ⟨om, o1, o2⟩ := tail hi' c1 m1 p1 a1 k1 v1 l1 X1' n5 n6 n3.fr2 (F1.trans (FM2.tok n4.fm2)) (by rw [n4.gA 36]; exact e0) (by rw [n4.gA 36]; exact e1)
    refine ⟨om, ?_, ?_⟩
    · rw [n2, BD_some]; exact o1
    · rw [h129, if_neg (show ¬ (40 : Int32) ≤ nI i from nI_ge (b := 40) hi' (by omega))]
      dsimp only
      rw [RD_of _ hW.1, must_1, BX_r, LT, n1, BD_some, LT, wp_wp]
      exact (o2.pre X1 n3.fr2 (F1.trans (FM2.tok n4.fm2)) n8).any (fun _ => hi')
/-- a name looked for, and no word kept -/
theorem look2_v {j : Nat} (hT : TPE T c m) (hX : LX j T N c m p a k v l) {row w : Nat → Int64} {R base n : Nat} (hn : ∀ i, i < n → NM1 (row i) (w (base + i))) (hnR : n ≤ R) (hR : R ≤ 20) (hb : base + n ≤ 20) :
    (∃ q, q < n ∧ k = 1 ∧ x5_look j c row R (nI n) = some (some (nI q), c) ∧ m_isName m = some 1 ∧ m_findIn w 20 (nI base) (nI n) (gJ m 12) = some (nI q)) ∨
    (∃ c' m', x5_look j c row R (nI n) = some (none, c') ∧ m_isName m = some 0 ∧ m_bad m (1 : Int32) = some (0, m') ∧ FR2 c c' ∧ FM2 m m' ∧ ER c' m') ∨
    (∃ c' m', x5_look j c row R (nI n) = some (none, c') ∧ m_isName m = some 1 ∧ m_findIn w 20 (nI base) (nI n) (gJ m 12) = some (-1) ∧ m_bad m (3 : Int32) = some (0, m') ∧ FR2 c c' ∧ FM2 m m' ∧ ER c' m') := by
  unfold x5_look
  rw [x5_isName_v hT hX, m_isName_v hX, BD_some]
  cases h : (decide (k = 1) && !kwd l)
  · obtain ⟨c', m', f1, f2, f3, f4, f5⟩ := fail_v hX (e := 1) (by omega) (by omega) (by omega)
    refine Or.inr (Or.inl ⟨c', m', ?_, rfl, f2, f3, f4, f5⟩)
    rw [show bI false = (0 : Int32) from rfl, show (1 : Int32) = nI 1 from rfl, f1, BX_t]
  · have hk : k = 1 := by
      rw [Bool.and_eq_true] at h
      exact of_decide_eq_true h.1
    obtain ⟨w1, w2, w3, w4⟩ := hX.wd hk
    obtain ⟨o1, o2⟩ := of_v (c := c) (j := j) hn w1 hnR hR hb w3
    rw [show bI true = (1 : Int32) from rfl, must_1, BX_r, o1, BD_some, w4, o2]
    by_cases g : fdc (fun i => decide (row i = lN (p8 l))) n = 0
    · rw [g, show lf 0 = (-1 : Int32) from by decide]
      obtain ⟨c', m', f1, f2, f3, f4, f5⟩ := fail_v hX (e := 3) (by omega) (by omega) (by omega)
      refine Or.inr (Or.inr ⟨c', m', ?_, rfl, rfl, f2, f3, f4, f5⟩)
      rw [if_pos rfl, show (3 : Int32) = nI 3 from rfl, f1, BX_t]
    · have g2 := fdc_le (fun i => decide (row i = lN (p8 l))) n
      refine Or.inl ⟨fdc (fun i => decide (row i = lN (p8 l))) n - 1, by omega, hk, ?_, rfl, by rw [lf_p (by omega)]⟩
      rw [if_neg (show ¬ lf (fdc (fun i => decide (row i = lN (p8 l))) n) = (-1 : Int32) from fun e => by
        have := lf_M1 (n := fdc (fun i => decide (row i = lN (p8 l))) n) (by omega) (by omega)
        exact this.mp e), must_1, BX_r, lf_p (by omega)]
theorem isW_ne {k : Nat} {l w w' : List Nat} (h : isW k l w = true) (hn : ¬ w = w') : isW k l w' = false := by
  unfold isW at h ⊢
  rw [Bool.and_eq_true, decide_eq_true_eq, decide_eq_true_eq] at h
  rw [Bool.and_eq_false_iff, decide_eq_false_iff_not, decide_eq_false_iff_not]
  exact Or.inr (fun e => hn (h.2.symm.trans e))
theorem bEnd_if {v : Int32} {s : Rec} {o : Option (Int32 × Rec)} : bEnd (if v = 0 then some ((0 : Int32), s) else o) = if v = 0 then some ((0 : Int32), s) else bEnd o := by
  by_cases h : v = 0
  · rw [if_pos h, if_pos h, bEnd_0]
  · rw [if_neg h, if_neg h]
theorem book_line (hW : XW x W W c 0) (hT : TPE T c m) (hX : LX 1 T N c m p a k v l) (hB' : HB W c m b e d) (hi : i ≤ 40) (h129 : gI c 129 = nI i) (h38 : gI m 38 = nI i) : ∃ om, m_readBookLine m = bEnd om ∧ OB x W T N c m (p + 1) (i < 40) i d (x7_line W x) om := by
  have hbx : b ≠ x := kd_ne hB'.2.1 hW.1 (by omega)
  have e1 : (4 : Int32) * nI i = nI (4 * i) := pk_mul 4 i
  have e2 : nI (4 * i) + (1 : Int32) = nI (4 * i + 1) := nI_add _ _
  have e3 : nI (4 * i) + (2 : Int32) = nI (4 * i + 2) := nI_add _ _
  have z1 : ¬ (1 : Int32) = 0 := by decide
  rw [x7_line_B, m_readBookLine_B, RD_of _ hW.1, x5_is_v hT hX (by omega), x5_is_v hT hX (by omega), x5_is_v hT hX (by omega), W7.2.1, W7.2.2.1, W7.2.2.2, show (8 : Int32) = nI 8 from rfl, show (9 : Int32) = nI 9 from rfl, show (10 : Int32) = nI 10 from rfl, m_isWord_v hX (by omega), m_isWord_v hX (by omega), m_isWord_v hX (by omega), BD_some, BD_some, BD_some, BD_some, BD_some, BD_some, JN2, JN1]
  have nHB : ∀ {c1 m1 : Rec}, FR2 c c1 → FMk i m m1 → HB (wp W x 0 c1) c1 m1 b e d := fun {c1 m1} f g => hB'.ext (f.gP 6) (by rw [wp_ne hbx]; exact hB'.2.1) (g.gL 19) (g.1 14 (by omega))
  cases hsp : isW k l (WL 8)
  · cases hca : isW k l (WL 9)
    · cases hdy : isW k l (WL 10)
      · -- a person
        rw [show bI false = (0 : Int32) from rfl, if_pos rfl, if_pos rfl, if_pos rfl, if_pos rfl, if_pos rfl, if_pos rfl]
        dsimp only
        rw [JN1, if_neg z1, hB'.1, BD_some, RD_of _ hB'.2.1, BD_some, RD_of _ hB'.2.1, hB'.2.2.1.2.2.1, hB'.2.2.2.2.1, RF_a (by omega)]
        have dd := hB'.2.2.2.2.2.2.2.1
        rcases look2_v hT hX (row := gL e 2) (w := gL m 19) (R := 4) (base := 11) (n := d 2) hB'.2.2.2.1.2.2.1 dd (by omega) (by omega) with ⟨q, q1, q0, q2, q3, q4⟩ | ⟨c', m', f1, f2, f3, f4, f5, f6⟩ | ⟨c', m', f1, f2, f3, f4, f5, f6, f7⟩
        · rw [q2, BX_r, LT, wp_id hW.1, q3, BD_some, if_neg z1, show m_findIn (gL m 19) 20 (11 : Int32) (nI (d 2)) (gJ m 12) = some (nI q) from q4, BD_some, if_neg (nI_ne_m1 (by omega))]
          refine R_v hW hT hX q0 hi h129 h38 (cd := 3) (pv := nI q) rfl (Or.inr ⟨z1, by rw [hB'.2.2.2.2.1, RF_a (by omega)]; exact q4⟩) (fun hi' c1 m1 p1 a1 k1 v1 l1 t1 t2 t3 t4 t5 t6 t7 => ⟨m_readDoes m1 (nI (4 * i)), ?_, ?_⟩)
          · unfold mbT
            rw [if_neg z1, h38, e1]
            rfl
          · have o := bk_does t1 t2 t3 (nHB t4 t5) hi' q1 t7
            unfold x7T
            rw [if_pos rfl, if_pos rfl, if_pos rfl]
            exact o
        · rw [f1, BX_t, f2, BD_some, if_pos rfl, f3, BD2_some, BZ_0]
          exact ⟨some (0, m'), (bEnd_0 m').symm, Or.inr ⟨_, c', m', rfl, rfl, (hW.wr c').mono (by omega), f4, FM2.tok f5, f6⟩⟩
        · rw [f1, BX_t, f2, BD_some, if_neg z1, show m_findIn (gL m 19) 20 (11 : Int32) (nI (d 2)) (gJ m 12) = some (-1) from f3, BD_some, if_pos rfl, f4, BD2_some, BZ_0]
          exact ⟨some (0, m'), (bEnd_0 m').symm, Or.inr ⟨_, c', m', rfl, rfl, (hW.wr c').mono (by omega), f5, FM2.tok f6, f7⟩⟩
      · -- days
        rw [show bI false = (0 : Int32) from rfl, show bI true = (1 : Int32) from rfl, if_pos rfl, if_pos rfl, if_neg z1, if_pos rfl, if_pos rfl, if_neg z1]
        dsimp only
        rw [JN1, if_pos rfl]
        refine R_v hW hT hX (isW_1 hdy) hi h129 h38 (cd := 3) (pv := 0) rfl (Or.inl ⟨rfl, rfl⟩) (fun hi' c1 m1 p1 a1 k1 v1 l1 t1 t2 t3 t4 t5 t6 t7 => ⟨BD2 (m_readNumber m1 (1 : Int32) (60 : Int32)) (fun v43 s44 => m_keep s44 (nI (4 * i + 1)) v43), ?_, ?_⟩)
        · unfold mbT bEnd
          rw [if_pos rfl, if_neg z1, h38, e1, e2, BD2_BD2]
        · unfold x7T
          rw [if_neg z1]
          exact bk_day t1 t2 t3 hi' t6
    · -- a plant is carried
      have hdy := isW_ne hca (w' := WL 10) (by decide +kernel)
      rw [hdy, show bI false = (0 : Int32) from rfl, show bI true = (1 : Int32) from rfl, if_pos rfl, if_neg z1, if_pos rfl, if_neg z1]
      dsimp only
      rw [JN1, if_pos rfl]
      refine R_v hW hT hX (isW_1 hca) hi h129 h38 (cd := 2) (pv := 0) rfl (Or.inl ⟨rfl, rfl⟩) (fun hi' c1 m1 p1 a1 k1 v1 l1 t1 t2 t3 t4 t5 t6 t7 => ⟨BD2 (m_readPlantName m1) (fun v26 s27 => BD2 (m_keep s27 (nI (4 * i + 1)) v26) (fun v29 s30 => (if v29 = 0 then some ((0 : Int32), s30) else BD2 (m_readParlourName s30) (fun v37 s38 => m_keep s38 (nI (4 * i + 2)) v37)))), ?_, ?_⟩)
      · unfold mbT
        rw [if_pos rfl, if_pos rfl, h38, e1, e2, e3]
        unfold bEnd
        rw [BD2_BD2]
        congr 1
        funext v26 s27
        rw [BD2_BD2]
        congr 1
        funext v29 s30
        show _ = bEnd _
        rw [bEnd_if]
        by_cases h : v29 = 0
        · rw [if_pos h, if_pos h]
        · rw [if_neg h, if_neg h, JN1, if_pos rfl]
          unfold bEnd
          rw [BD2_BD2]
      · unfold x7T
        rw [if_pos rfl, if_pos rfl, if_neg z1]
        exact bk_carry t1 t2 t3 (nHB t4 t5) hi' t6
  · -- a sponge
    have hca := isW_ne hsp (w' := WL 9) (by decide +kernel)
    have hdy := isW_ne hsp (w' := WL 10) (by decide +kernel)
    rw [hca, hdy, show bI false = (0 : Int32) from rfl, show bI true = (1 : Int32) from rfl, if_neg z1, if_neg z1]
    dsimp only
    rw [JN1, if_pos rfl]
    refine R_v hW hT hX (isW_1 hsp) hi h129 h38 (cd := 1) (pv := 0) rfl (Or.inl ⟨rfl, rfl⟩) (fun hi' c1 m1 p1 a1 k1 v1 l1 t1 t2 t3 t4 t5 t6 t7 => ⟨BD2 (m_readPlantName m1) (fun v26 s27 => m_keep s27 (nI (4 * i + 1)) v26), ?_, ?_⟩)
    · unfold mbT
      rw [if_pos rfl, if_pos rfl, h38, e1, e2]
      unfold bEnd
      rw [BD2_BD2]
      congr 1
    · unfold x7T
      rw [if_pos rfl, if_neg z1]
      exact bk_sponge t1 t2 t3 (nHB t4 t5) hi' t6
end BOOK
