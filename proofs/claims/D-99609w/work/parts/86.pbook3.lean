/-! PURE: a book is read and lived -/
theorem LP11_inv {A B R S : Type} {body : (A → Option R) → A → Option R} {bodyM : (B → Option S) → B → Option S} (I : Nat → A → B → Prop) (Q : Option R → Option S → Prop) (hs : ∀ (i : Nat) (a : A) (b : B) (rec : A → Option R) (recM : B → Option S), I i a b → (∃ j x y, j < i ∧ I j x y ∧ body rec a = rec x ∧ bodyM recM b = recM y) ∨ Q (body rec a) (bodyM recM b)) : ∀ (F i : Nat) (a : A) (b : B), i < F → I i a b → Q (LP1 body F a) (LP1 bodyM F b) := by
  intro F
  induction F with
  | zero => intro i a b h; omega
  | succ F ih =>
    intro i a b h hI
    rw [LP1_s, LP1_s]
    rcases hs i a b (LP1 body F) (LP1 bodyM F) hI with ⟨j, x, y, hj, hI2, e1, e2⟩ | hq
    · rw [e1, e2]
      exact ih j x y (by omega) hI2
    · exact hq
/-- frames of a book's reading -/
def FRb (c c' : Rec) : Prop := c'.2.1 = c.2.1 ∧ (∀ k, gP c' k = gP c k) ∧ (∀ k, k ≠ 128 → gQ c' k = gQ c k) ∧ ∀ k, k < 40 → gI c' k = gI c k
def FMb (m m' : Rec) : Prop := (∀ k, k ≠ 36 → gA m' k = gA m k) ∧ m'.2.2.2 = m.2.2.2 ∧ ∀ k, (k < 5 ∨ 13 < k) → k ≠ 38 → gI m' k = gI m k
theorem FRb.trans {a b c : Rec} (h : FRb a b) (h2 : FRb b c) : FRb a c := ⟨h2.1.trans h.1, fun k => (h2.2.1 k).trans (h.2.1 k), fun k hk => (h2.2.2.1 k hk).trans (h.2.2.1 k hk), fun k hk => (h2.2.2.2 k hk).trans (h.2.2.2 k hk)⟩
theorem FMb.trans {a b c : Rec} (h : FMb a b) (h2 : FMb b c) : FMb a c := ⟨fun k hk => (h2.1 k hk).trans (h.1 k hk), h2.2.1.trans h.2.1, fun k hk hk2 => (h2.2.2 k hk hk2).trans (h.2.2 k hk hk2)⟩
theorem FR2.tob {a b : Rec} (h : FR2 a b) : FRb a b := ⟨h.1, h.gP, fun k _ => h.gQ k, fun k hk => h.2.2 k (by omega)⟩
theorem FMk.tob {i : Nat} {a b : Rec} (h : FMk i a b) : FMb a b := ⟨h.1, h.2.2.1, fun k hk _ => h.2.2.2 k hk⟩
theorem FRb.refl (a : Rec) : FRb a a := ⟨rfl, fun _ => rfl, fun _ _ => rfl, fun _ _ => rfl⟩
theorem FMb.refl (a : Rec) : FMb a a := ⟨fun _ _ => rfl, rfl, fun _ _ _ => rfl⟩
theorem FMb.gL {c s : Rec} (h : FMb c s) (k : Nat) : gL s k = gL c k := congrArg (fun r : (Nat → Nat → Int64) × (Nat → Option Nat) × (Nat → Nat → Option Nat) => r.1 k) h.2.1
theorem FRb.gA {c s : Rec} (h : FRb c s) (k : Nat) : gA s k = gA c k := congrFun h.1 k
/-- the lines read so far -/
def LNS (d : Nat → Nat) (W : Wd) (c m : Rec) (n : Nat) : Prop := ∀ j, j < n → ∃ q, gQ c 128 j = some q ∧ LNR d W q (gA m 36) (4 * j)
section BOOK
variable {x : Nat} {W : Wd} {T : Nat → Nat} {N : Nat} {c m e : Rec} {p a k v b i : Nat} {l : List Nat} {d : Nat → Nat}
/-- how the reading of a book ends -/
def OK7 (x : Nat) (W : Wd) (c m : Rec) (d : Nat → Nat) (x1 : Int32) (oc : Option (Option Unit × Wd)) (om : Option (Int32 × Rec)) : Prop :=
  (∃ W' c' m' n, oc = some (some (), W') ∧ om = BD (m_layAside m') (fun s10 => LP3 (mbL x1) FU (0 : Int32) (0 : Int32) s10) ∧ XW x W W' c' 41 ∧ FRb c c' ∧ FMb m m' ∧ LNS d W' c' m' n ∧ gI c' 129 = nI n ∧ gI m' 38 = nI n ∧ n ≤ 40 ∧ gI m' 10 = 0) ∨
  (∃ W' c' m', oc = some (none, W') ∧ om = some ((-2 : Int32) - gI m' 11, m') ∧ XW x W W' c' 41 ∧ FRb c c' ∧ FMb m m' ∧ ER c' m')
theorem LNK_of {β : Type} {G : Wd} {q : Nat} {f : Nat → Int32} {o : Nat} (k : Option β) (h : LNR d G q f o) : LNK G q k = k := by
  unfold LNK
  rcases h with ⟨r, t, a, -⟩ | ⟨r, t, a, -⟩ | ⟨r, t, u, a, -⟩ | ⟨r, t, u, w, a, -⟩ <;> rw [a] <;> exact if_pos (by simp)
theorem bloop_v (x1 : Int32) (hW : XW x W W c 0) (hT : TPE T c m) (hX : LX 1 T N c m p a k v l) (hB' : HB W c m b e d) (h129 : gI c 129 = 0) (h38 : gI m 38 = 0) : OK7 x W c m d x1 (LP1 (x7B x) FU W) (LP1 (mbB x1) FU m) := by
  have hbx : b ≠ x := kd_ne hB'.2.1 hW.1 (by omega)
  refine LP11_inv (fun i W' m' => ∃ n c' p a k v l, XW x W W' c' n ∧ FRb c c' ∧ FMb m m' ∧ LNS d W' c' m' n ∧ gI c' 129 = nI n ∧ gI m' 38 = nI n ∧ n ≤ 40 ∧ TPE T c' m' ∧ LX 1 T N c' m' p a k v l ∧ i = 1000 - p) (OK7 x W c m d x1) (fun i W1 m1 rec recM hI => ?_) FU (1000 - p) W m (by unfold FU; omega) ⟨0, c, p, a, k, v, l, hW, FRb.refl c, FMb.refl m, fun j hj => absurd hj (Nat.not_lt_zero j), h129, h38, by omega, hT, hX, rfl⟩
  obtain ⟨n, c1, p, a, k, v, l, w1, w2, w3, w4, w5, w6, w7, w8, w9, rfl⟩ := hI
  obtain ⟨k4, tc, tm⟩ := w9.tok
  unfold x7B mbB
  rw [RD_of _ w1.1]
  by_cases hk : k = 0
  · rw [if_pos (show gI c1 123 = 0 from tc.trans (by rw [hk]; rfl)), if_pos (show gI m1 7 = 0 from tm.trans (by rw [hk]; rfl))]
    exact Or.inr (Or.inl ⟨W1, c1, m1, n, rfl, rfl, w1.mono (by omega), w2, w3, w4, w5, w6, w7, w9.f10⟩)
  · rw [if_neg (show ¬ gI c1 123 = 0 from fun e => hk ((nI_eq (b := 0) (by omega) (by omega)).mp (tc.symm.trans e))), if_neg (show ¬ gI m1 7 = 0 from fun e => hk ((mk_0 k4).mp (tm.symm.trans e)))]
    have X1 : XW x W1 W1 c1 0 := ⟨w1.1, fun _ _ _ _ h => h, w1.2.2.1, Nat.le_refl _, Nat.le_refl _⟩
    have B1 : HB W1 c1 m1 b e d := hB'.ext (w2.2.1 6) (w1.2.1 b 2 e hbx hB'.2.1) (w3.gL 19) (w3.1 14 (by omega))
    obtain ⟨om, o1, o2⟩ := book_line (i := n) X1 w8 w9 B1 w7 w5 w6
    rw [o1]
    rcases o2 with ⟨q, W2, c2, m2, p2, a2, k2, v2, l2, r1, r2, r3, r4, r5, r6, r7, r8, r9, hn⟩ | ⟨W2, c2, m2, r1, r2, r3, r4, r5, r6⟩
    · rw [r1, r2]
      unfold bEnd
      rw [BD2_some, if_neg (show ¬ (1 : Int32) = 0 by decide)]
      show (∃ j x_1 y, _ ∧ _ ∧ MG W1 W2 (RD W2 x 0 _) = _ ∧ _) ∨ OK7 _ _ _ _ _ _ (MG W1 W2 (RD W2 x 0 _)) _
      rw [MG_of _ r3.2.2.2.1, RD_of _ r3.1]
      have wT := w1.trans r3
      rcases end_v r6 r7 with ⟨y, c3, m3, p3, a3, k3, v3, l3, g1, g2, g3, g4, g5, g6, g7, -⟩ | ⟨c3, m3, g1, g2, g3, g4, g5⟩
      · have e129 : gI c3 129 = nI n := ((r4.trans g3).2.2 129 (by omega)).trans w5
        have e38 : gI m3 38 = nI n := (g4.2.2 38 (by omega)).trans ((r5.2.2.2 38 (by omega)).trans w6)
        have qx : q ≠ x := by
          intro e
          rcases r9 with ⟨r, t, a, -⟩ | ⟨r, t, a, -⟩ | ⟨r, t, u, a, -⟩ | ⟨r, t, u, w, a, -⟩ <;> rw [e, r3.1] at a <;> cases a
        have R9 : LNR d (wp W2 x 0 c3) q (gA m3 36) (4 * n) := r9.ext (fun kd r _ h => by rw [wp_ne qx]; exact h) (fun i _ => by rw [g4.gA 36])
        rw [g1, g2, BX_r, LT, e129, IX_nI _ hn (by omega), LNK_of _ R9, LT, LT, LT, LT, BD2_some, if_neg (show ¬ (1 : Int32) = 0 by decide), BD2_some, if_neg (show ¬ (1 : Int32) = 0 by decide), LT, wp_wp, wp_wp, gI_sQ, e129, e38, nI_1]
        refine Or.inl ⟨1000 - p3, _, _, ?_, ⟨n + 1, sI (sQ c3 128 n (some q)) 129 (nI (n + 1)), p3, a3, k3, v3, l3, wT.wr _, ?_, ?_, ?_, gI_sIs _ _ _, gI_sIs _ _ _, by omega, ?_, ?_, rfl⟩, rfl, rfl⟩
        · have := g6.pos.2.2
          have := g6.2.2.1
          omega
        · refine w2.trans ((r4.trans g3).tob.trans ⟨rfl, fun _ => rfl, fun k hk => ?_, fun k hk => ?_⟩)
          · rw [gQ_sI, gQ_sQn _ _ _ hk]
          · rw [gI_sIn _ _ (by omega), gI_sQ]
        · refine w3.trans ((r5.tob.trans (FM2.tok (i := n) g4).tob).trans ⟨fun _ _ => rfl, rfl, fun k hk hk2 => gI_sIn _ _ hk2⟩)
        · intro j hj
          by_cases ej : j = n
          · subst ej
            refine ⟨q, gQ_sQs _ _ _ _, R9.ext (fun kd r _ h => by rw [wp_ne qx] at h ⊢; exact h) (fun i _ => rfl)⟩
          · obtain ⟨q2, h1, h2⟩ := w4 j (by omega)
            refine ⟨q2, ?_, h2.ext (fun kd r hk h => ?_) (fun i hi => ?_)⟩
            · rw [gQ_sI, gQ_sQi _ _ _ ej, (r4.trans g3).gQ 128]; exact h1
            · have hx2 : q2 ≠ x := kd_ne h w1.1 (by omega)
              rw [wp_ne hx2]; exact r3.2.1 q2 kd r hx2 h
            · show gA m3 36 _ = _
              rw [g4.gA 36]
              exact r5.2.1 _ (by omega)
        · exact TPE_ext g5 rfl rfl
        · exact LX_ext g6 (fun i hi => by rw [gI_sIn _ _ (by have : rb 1 = 120 := rfl; omega), gI_sQ]) rfl (fun i h1 h2 => gI_sIn _ _ (by omega)) rfl
      · rw [g1, g2, BX_t, BD2_some, if_pos rfl, BD2_some, if_pos rfl]
        exact Or.inr (Or.inr ⟨_, c3, m3, rfl, rfl, (wT.wr c3).mono (by omega), w2.trans (r4.trans g3).tob, w3.trans (r5.trans (FM2.tok g4)).tob, g5⟩)
    · rw [r1, r2, bEnd_0, BD2_some, if_pos rfl]
      show (∃ j x_1 y, _ ∧ _ ∧ MG W1 W2 _ = _ ∧ _) ∨ OK7 _ _ _ _ _ _ (MG W1 W2 _) _
      rw [MG_of _ r3.2.2.2.1]
      exact Or.inr (Or.inr ⟨W2, c2, m2, rfl, rfl, (w1.trans r3).mono (by omega), w2.trans r4.tob, w3.trans r5.tob, r6⟩)
/-- one line is lived, or can't be -/
theorem line_v {s y : Rec} {f : Nat → Int32} {q o : Nat} {d' : Nat → Nat} (hL : LNR d W q f o) (hf : ∀ i, i < 4 → gA s 36 (o + i) = f (o + i)) (ho : o + 3 < 160) (h2 : W.2 b = some (2, e)) (h3 : W.2 (x + 21) = some (3, y)) (hH : HS e d') (hz : ZS y d') (hG : GD d') (hK : KH d d') :
    (∃ w : Int32, ¬ w = 0 ∧ ln_why W q b (x + 21) = some (w, W) ∧ m_goBy (sB s 14 (RF d')) (nI o) = some (w, sB s 14 (RF d'))) ∨
    (ln_why W q b (x + 21) = some (0, W) ∧ ∃ y' d'', ln_live W q b (x + 21) = some (wp W (x + 21) 3 y') ∧ m_goBy (sB s 14 (RF d')) (nI o) = some (0, sB s 14 (RF d'')) ∧ KH d' d'' ∧ GD d'' ∧ ZS y' d'') := by
  have hd := hG.1
  have hN := hd.N
  have hP := hd.P
  have hA := hd.acts
  have h24 := hd.day
  have A36 : gA (sB s 14 (RF d')) 36 = gA s 36 := gA_sBn _ _ (by omega)
  have A14 : gA (sB s 14 (RF d')) 14 = RF d' := gA_sBs _ _ _
  have f0 : gA s 36 o = f o := hf 0 (by omega)
  have f1 := hf 1 (by omega)
  have f2 := hf 2 (by omega)
  have f3 := hf 3 (by omega)
  have e1 : nI o + (1 : Int32) = nI (o + 1) := nI_add _ _
  have e2 : nI o + (2 : Int32) = nI (o + 2) := nI_add _ _
  have e3 : nI o + (3 : Int32) = nI (o + 3) := nI_add _ _
  have z1 : ¬ (1 : Int32) = 0 := by decide
  unfold m_goBy ln_why ln_live
  rw [e1, e2, e3, IX_nI _ (by omega) (by omega), IX_nI _ (by omega) (by omega), A36, A14, f0, f1, RF_a (by omega)]
  rcases hL with ⟨r, t, a1, a2, a3, a4, a5, a6⟩ | ⟨r, t, a1, a2, a3, a4, a5⟩ | ⟨r, t, u, a1, a2, a3, a4, a5, a6, a7, a8⟩ | ⟨r, t, u, w, a1, a2, a3, a4, a5, a6, a7, a8, a9, b1, b2⟩
  · rw [a1, a2, a4, if_pos (show nI 3 = (3 : Int32) from rfl)]
    show (∃ w : Int32, ¬ w = 0 ∧ x11_why W q b (x + 21) = some (w, W) ∧ _) ∨ (x11_why W q b (x + 21) = some (0, W) ∧ ∃ y' d'', x11_live W q b (x + 21) = _ ∧ _)
    unfold x11_why x11_live
    rw [RD_of _ h3, RD_of _ a1, RD_of _ a1, RD_of _ h3, RD_of _ h2, hz.1, a3, nI_add]
    by_cases g : d' 24 + t ≤ 400
    · rw [if_pos (show nI (d' 24 + t) ≤ (400 : Int32) from nI_le (b := 400) g (by omega)), if_pos (show nI (d' 24 + t) ≤ (400 : Int32) from nI_le (b := 400) g (by omega))]
      obtain ⟨z', q1, q2, q3⟩ := x4_days_v hH hz hG (n := t) a6
      obtain ⟨i1, i2, i3⟩ := itD_ok hG (min t (400 - d' 24)) (by omega)
      refine Or.inr ⟨rfl, z', itD d' (min t (400 - d' 24)), ?_, ?_, i2, i1, q2⟩
      · rw [q1, BD2_some, LT]
      · rw [m_passDays_v s hG a6, BD2_some]
    · rw [if_neg (show ¬ nI (d' 24 + t) ≤ (400 : Int32) from nI_ge (a := 400) (by omega) (by omega)), if_neg (show ¬ nI (d' 24 + t) ≤ (400 : Int32) from nI_ge (a := 400) (by omega) (by omega))]
      exact Or.inl ⟨31, by decide, rfl, rfl⟩
  · have t6 : t < d' 1 := by rw [hK.1 1 (by omega)]; exact a5
    rw [a1, a2, a4, if_neg (show ¬ nI 1 = (3 : Int32) by decide), IX_nI _ (by omega) (by omega), m_why1 s hd (by omega), BD_some, IX_nI _ (by omega) (by omega), m_live1 s (by omega), BD_some]
    show (∃ w : Int32, ¬ w = 0 ∧ x12_why W q b (x + 21) = some (w, W) ∧ _) ∨ (x12_why W q b (x + 21) = some (0, W) ∧ ∃ y' d'', x12_live W q b (x + 21) = _ ∧ _)
    unfold x12_why x12_live x10_coded
    rw [RD_of _ a1, RD_of _ h3, RD_of _ h3, RD_of _ a1, a3, x4_whySponge_v hz hd (by omega), BD_some, IX_nI _ (by omega) (by omega), LT, LT]
    by_cases g : d' (32 + t) = 0
    · rw [decide_eq_true g, show bI true = (1 : Int32) from rfl, if_neg z1, if_neg z1, BD2_some, MG_of _ (Nat.le_refl _)]
      exact Or.inl ⟨11, by decide, rfl, rfl⟩
    · rw [decide_eq_false g, show bI false = (0 : Int32) from rfl, if_pos rfl, if_pos rfl, BD2_some, MG_of _ (Nat.le_refl _)]
      exact Or.inr ⟨rfl, _, _, rfl, rfl, KH_up (by omega) (by omega), GD_dust hG (by omega) (by omega), ZS_A1 (v := 0) hz (by omega)⟩
  · have t6 : t < d' 1 := by rw [hK.1 1 (by omega)]; exact a7
    have u6 : u < d' 0 := by rw [hK.1 0 (by omega)]; exact a8
    rw [a1, a2, a5, if_neg (show ¬ nI 2 = (3 : Int32) by decide), IX_nI _ (by omega) (by omega), f2, a6, m_why2 s hd t6 (by omega), BD_some, IX_nI _ (by omega) (by omega), m_live2 s (by omega), BD_some]
    show (∃ w : Int32, ¬ w = 0 ∧ x13_why W q b (x + 21) = some (w, W) ∧ _) ∨ (x13_why W q b (x + 21) = some (0, W) ∧ ∃ y' d'', x13_live W q b (x + 21) = _ ∧ _)
    unfold x13_why x13_live x10_coded
    rw [RD_of _ a1, RD_of _ h3, RD_of _ h3, RD_of _ a1, a3, a4, x4_whyCarry_v hz hd t6 (by omega), BD_some, IX_nI _ (by omega) (by omega), LT, LT]
    by_cases g : d' (26 + t) = u
    · rw [decide_eq_true g, show bI true = (1 : Int32) from rfl, if_neg z1, if_neg z1, BD2_some, MG_of _ (Nat.le_refl _)]
      exact Or.inl ⟨21, by decide, rfl, rfl⟩
    · rw [decide_eq_false g, show bI false = (0 : Int32) from rfl, if_pos rfl, if_pos rfl, BD2_some, MG_of _ (Nat.le_refl _)]
      exact Or.inr ⟨rfl, _, _, rfl, rfl, KH_up (by omega) (by omega), GD_place hG (by omega) u6, ZS_A0 hz (by omega)⟩
  · have w6 : w < d' 0 := by rw [hK.1 0 (by omega)]; exact b2
    rw [a1, a2, a6, if_neg (show ¬ nI 0 = (3 : Int32) by decide), IX_nI _ (by omega) (by omega), f2, a7, m_why0 s hd, BD_some, IX_nI _ (by omega) (by omega), f3, a8]
    show (∃ w : Int32, ¬ w = 0 ∧ x14_why W q b (x + 21) = some (w, W) ∧ _) ∨ (x14_why W q b (x + 21) = some (0, W) ∧ ∃ y' d'', x14_live W q b (x + 21) = _ ∧ _)
    unfold x14_why x14_live
    rw [RD_of _ h3, x4_whyDo_v hz hd, BD_some, RD_of _ a1, RD_of _ h3, RD_of _ h2, a3, a4, a5]
    by_cases g : d' 25 = 12
    · rw [decide_eq_true g, show bI true = (1 : Int32) from rfl, if_neg z1]
      exact Or.inl ⟨1, by decide, rfl, rfl⟩
    · obtain ⟨z', q1, q2, q3⟩ := x4_does_v hH hz hd hG.2 (by omega) (w := t) (t := u) (l := w) (by omega)
      rw [decide_eq_false g, show bI false = (0 : Int32) from rfl, if_pos rfl, q1, BD_some, LT, m_live0 s hG (by omega) (by omega), BD_some]
      exact Or.inr ⟨rfl, z', _, rfl, rfl, KH_doD hd (by omega) t u w, GD_doD hG (by omega) t u w, q2⟩
/-- the lines are lived -/
theorem run_v (x1 : Int32) {s : Rec} {n : Nat} (hx : W.2 x = some (0, c)) (hn : n ≤ 40) (h129 : gI c 129 = nI n) (h38 : gI s 38 = nI n) (hL : LNS d W c s n) (hp : gP c 6 = some b) (h2 : W.2 b = some (2, e)) (hH : HS e d) (y0 : ∃ y, W.2 (x + 21) = some (3, y)) :
    ∀ (j i : Nat) (y : Rec) (d' : Nat → Nat) (F : Nat), i + j = n → j + 2 ≤ F → ZS y d' → GD d' → KH d d' →
    ∃ (v25 v26 : Int32) (kk : Nat) (y' : Rec) (d'' : Nat → Nat), LP5 (xbL x x1) F (-1 : Int32) (0 : Int32) (nI i) (nI i) (wp W (x + 21) 3 y) = xbE x x1 v25 v26 (nI kk) (wp W (x + 21) 3 y') ∧ LP3 (mbL x1) F (nI i) (0 : Int32) (sB s 14 (RF d')) = mbE x1 (nI kk) v26 (sB s 14 (RF d'')) ∧ kk ≤ 40 ∧ ZS y' d'' ∧ GD d'' ∧ KH d d'' ∧ ((v26 = 0 ∧ v25 = -1) ∨ (¬ v26 = 0 ∧ v25 = nI kk)) := by
  obtain ⟨y0, hy0⟩ := y0
  have hxx : x ≠ x + 21 := by omega
  have hb21 : b ≠ x + 21 := kd_ne h2 hy0 (by omega)
  intro j
  induction j with
  | zero =>
    intro i y d' F hi hF hz hG hK
    obtain ⟨F, rfl⟩ : ∃ f, F = f + 1 := ⟨F - 1, by omega⟩
    have gx : (wp W (x + 21) 3 y).2 x = some (0, c) := by rw [wp_ne hxx]; exact hx
    have h38' : gI (sB s 14 (RF d')) 38 = nI n := h38
    refine ⟨-1, 0, i, y, d', ?_, ?_, by omega, hz, hG, hK, Or.inl ⟨rfl, rfl⟩⟩
    · rw [LP5_s]
      unfold xbL
      rw [RD_of _ gx, JN1, h129, if_pos (nI_le (by omega) (by omega))]
    · rw [LP3_s]
      unfold mbL
      rw [JN1, h38', if_pos (nI_le (by omega) (by omega))]
  | succ j ih =>
    intro i y d' F hi hF hz hG hK
    obtain ⟨F, rfl⟩ : ∃ f, F = f + 1 := ⟨F - 1, by omega⟩
    have gx : (wp W (x + 21) 3 y).2 x = some (0, c) := by rw [wp_ne hxx]; exact hx
    have gb : (wp W (x + 21) 3 y).2 b = some (2, e) := by rw [wp_ne hb21]; exact h2
    have h38' : ∀ D, gI (sB s 14 (RF D)) 38 = nI n := fun _ => h38
    obtain ⟨q, q1, q2⟩ := hL i (by omega)
    have q3 : LNR d (wp W (x + 21) 3 y) q (gA s 36) (4 * i) := q2.ext (fun kd r hk h => by rw [wp_ne (kd_ne h hy0 (by omega))]; exact h) (fun _ _ => rfl)
    have e4 : (4 : Int32) * nI i = nI (4 * i) := pk_mul 4 i
    have nle : ¬ nI n ≤ nI i := nI_ge (by omega) (by omega)
    have key := line_v (x := x) (s := s) q3 (fun _ _ => rfl) (by omega) gb (wp_at _ _ _ _) (hH.keep hK) hz hG hK
    have cL : LP5 (xbL x x1) (F + 1) (-1 : Int32) (0 : Int32) (nI i) (nI i) (wp W (x + 21) 3 y) = BD2 (ln_why (wp W (x + 21) 3 y) q b (x + 21)) (fun v68 w65 => MG (wp W (x + 21) 3 y) w65 ((if v68 = 0 then RD w65 x 0 (fun s69 => BD (gP s69 6) (fun b70 => BD (ln_live w65 q b70 (x + 21)) (fun w71 => MG w65 w71 (LP5 (xbL x x1) F (-1 : Int32) v68 (nI i + (1 : Int32)) (nI i + (1 : Int32)) w71)))) else LP5 (xbL x x1) F (nI i) v68 (nI i) (nI i + (1 : Int32)) w65))) := by
      rw [LP5_s]
      show RD (wp W (x + 21) 3 y) x 0 _ = _
      rw [RD_of _ gx, JN1, h129, if_neg nle, if_pos rfl, IX_nI _ (by omega) (by omega), q1, BD_some, hp, BD_some]
    have mL : LP3 (mbL x1) (F + 1) (nI i) (0 : Int32) (sB s 14 (RF d')) = BD2 (m_goBy (sB s 14 (RF d')) (nI (4 * i))) (fun v29 s30 => (if v29 = 0 then LP3 (mbL x1) F (nI i + (1 : Int32)) v29 s30 else LP3 (mbL x1) F (nI i) v29 s30)) := by
      rw [LP3_s]
      show JN1 _ _ = _
      rw [JN1, h38', if_neg nle, if_pos rfl, e4]
    rw [cL, mL]
    rcases key with ⟨w, w0, w1, w2⟩ | ⟨w1, y', d'', w2, w3, w4, w5, w6⟩
    · obtain ⟨F, rfl⟩ : ∃ f, F = f + 1 := ⟨F - 1, by omega⟩
      refine ⟨nI i, w, i, y, d', ?_, ?_, by omega, hz, hG, hK, Or.inr ⟨w0, rfl⟩⟩
      · rw [w1, BD2_some, MG_of _ (Nat.le_refl _), if_neg w0, LP5_s]
        show RD (wp W (x + 21) 3 y) x 0 _ = _
        rw [RD_of _ gx, JN1, h129]
        by_cases g : nI n ≤ nI i + (1 : Int32)
        · rw [if_pos g]
        · rw [if_neg g, if_neg (nI_ne_m1 (by omega))]
      · rw [w2, BD2_some, if_neg w0, LP3_s]
        show JN1 _ _ = _
        rw [JN1, h38', if_neg nle, if_neg w0]
    · obtain ⟨v25, v26, kk, y2, d2, r1, r2, r3⟩ := ih (i + 1) y' d'' F (by omega) (by omega) w6 w5 (hK.trans w4)
      refine ⟨v25, v26, kk, y2, d2, ?_, ?_, r3⟩
      · rw [w1, BD2_some, MG_of _ (Nat.le_refl _), if_pos rfl, RD_of _ gx, hp, BD_some, w2, BD_some, MG_wp, wp_wp, nI_1]
        exact r1
      · rw [w3, BD2_some, if_pos rfl, nI_1]
        exact r2
end BOOK
