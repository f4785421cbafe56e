/-! PURE: a book is read: one line -/
/-- the world W' behind W: the main object is c, things were made, at most k -/
def XW (x : Nat) (W W' : Wd) (c : Rec) (k : Nat) : Prop := W'.2 x = some (0, c) ∧ (∀ a kd r, a ≠ x → W.2 a = some (kd, r) → W'.2 a = some (kd, r)) ∧ (∀ a, W'.1 ≤ a → W'.2 a = none) ∧ W.1 ≤ W'.1 ∧ W'.1 ≤ W.1 + k
theorem XW.trans {x : Nat} {A B C : Wd} {c c' : Rec} {j k : Nat} (h : XW x A B c j) (h2 : XW x B C c' k) : XW x A C c' (j + k) := ⟨h2.1, fun a kd r h1 h3 => h2.2.1 a kd r h1 (h.2.1 a kd r h1 h3), h2.2.2.1, Nat.le_trans h.2.2.2.1 h2.2.2.2.1, by have := h.2.2.2.2; have := h2.2.2.2.2; omega⟩
theorem XW.mono {x : Nat} {A B : Wd} {c : Rec} {j k : Nat} (h : XW x A B c j) (hk : j ≤ k) : XW x A B c k := ⟨h.1, h.2.1, h.2.2.1, h.2.2.2.1, by have := h.2.2.2.2; omega⟩
theorem XW.lt {x : Nat} {A B : Wd} {c : Rec} {k : Nat} (h : XW x A B c k) {a kd : Nat} {r : Rec} (ha : B.2 a = some (kd, r)) : a < B.1 := Nat.lt_of_not_le (fun hh => by rw [h.2.2.1 a hh] at ha; cases ha)
/-- the main object is written -/
theorem XW.wr {x : Nat} {A B : Wd} {c : Rec} {k : Nat} (h : XW x A B c k) (c' : Rec) : XW x A (wp B x 0 c') c' k := ⟨wp_at _ _ _ _, fun a kd r h1 h3 => by rw [wp_ne h1]; exact h.2.1 a kd r h1 h3, fun a ha => by
  have := h.lt h.1
  have hx : B.1 ≤ a := ha
  rw [wp_ne (by omega)]; exact h.2.2.1 a hx, h.2.2.2.1, h.2.2.2.2⟩
/-- a thing is made -/
theorem XW.mk {x : Nat} {A B : Wd} {c : Rec} {k : Nat} (h : XW x A B c k) (kd : Nat) (r : Rec) : XW x A (wn B kd r) c (k + 1) ∧ (wn B kd r).2 B.1 = some (kd, r) ∧ ∀ a, a ≠ B.1 → (wn B kd r).2 a = B.2 a := by
  have e : ∀ a, a ≠ B.1 → (wn B kd r).2 a = B.2 a := fun a ha => wp_ne ha
  have hx := h.lt h.1
  refine ⟨⟨(e x (by omega)).trans h.1, fun a k2 r2 h1 h3 => ?_, fun a ha => ?_, Nat.le_trans h.2.2.2.1 (Nat.le_succ _), ?_⟩, wp_at _ _ _ _, e⟩
  · have h4 := h.2.1 a k2 r2 h1 h3
    have := h.lt h4
    rw [e a (by omega)]; exact h4
  · have hx : B.1 + 1 ≤ a := ha
    rw [e a (by omega)]; exact h.2.2.1 a (by omega)
  · have := h.2.2.2.2
    show B.1 + 1 ≤ _
    omega
/-- a thing not there before is written -/
theorem XW.set {x : Nat} {A B : Wd} {c : Rec} {k : Nat} (h : XW x A B c k) {q kd : Nat} {r r' : Rec} (hq : B.2 q = some (kd, r)) (hx : q ≠ x) (hn : A.2 q = none) : XW x A (wp B q kd r') c k := ⟨by rw [wp_ne (fun e => hx e.symm)]; exact h.1, fun a kd r h1 h3 => by rw [wp_ne (fun e => by rw [e, hn] at h3; cases h3)]; exact h.2.1 a kd r h1 h3, fun a ha => by
  have := h.lt hq
  have hx2 : B.1 ≤ a := ha
  rw [wp_ne (by omega)]; exact h.2.2.1 a hx2, h.2.2.2.1, h.2.2.2.2⟩
/-- a line of a book: the object, and the four numbers -/
def LNR (d : Nat → Nat) (W : Wd) (q : Nat) (f : Nat → Int32) (o : Nat) : Prop :=
  (∃ r t, W.2 q = some (8, r) ∧ f o = nI 3 ∧ gI r 0 = nI t ∧ f (o + 1) = nI t ∧ 1 ≤ t ∧ t ≤ 60) ∨
  (∃ r t, W.2 q = some (9, r) ∧ f o = nI 1 ∧ gI r 0 = nI t ∧ f (o + 1) = nI t ∧ t < d 1) ∨
  (∃ r t u, W.2 q = some (10, r) ∧ f o = nI 2 ∧ gI r 0 = nI t ∧ gI r 1 = nI u ∧ f (o + 1) = nI t ∧ f (o + 2) = nI u ∧ t < d 1 ∧ u < d 0) ∨
  (∃ r t u w, W.2 q = some (11, r) ∧ f o = nI 0 ∧ gI r 0 = nI t ∧ gI r 1 = nI u ∧ gI r 2 = nI w ∧ f (o + 1) = nI t ∧ f (o + 2) = nI u ∧ f (o + 3) = nI w ∧ t < d 2 ∧ u < d 3 ∧ w < d 0)
theorem LNR.ext {d : Nat → Nat} {W W' : Wd} {q : Nat} {f f' : Nat → Int32} {o : Nat} (h : LNR d W q f o) (hW : ∀ kd r, (8 ≤ kd ∧ kd ≤ 11) → W.2 q = some (kd, r) → W'.2 q = some (kd, r)) (hf : ∀ i, i < 4 → f' (o + i) = f (o + i)) : LNR d W' q f' o := by
  have f0 : f' o = f o := hf 0 (by omega)
  unfold LNR
  rw [f0, hf 1 (by omega), hf 2 (by omega), hf 3 (by omega)]
  rcases h with ⟨r, t, a, b⟩ | ⟨r, t, a, b⟩ | ⟨r, t, u, a, b⟩ | ⟨r, t, u, w, a, b⟩
  · exact Or.inl ⟨r, t, hW _ _ (by omega) a, b⟩
  · exact Or.inr (Or.inl ⟨r, t, hW _ _ (by omega) a, b⟩)
  · exact Or.inr (Or.inr (Or.inl ⟨r, t, u, hW _ _ (by omega) a, b⟩))
  · exact Or.inr (Or.inr (Or.inr ⟨r, t, u, w, hW _ _ (by omega) a, b⟩))
/-- the model's frame: a line's four numbers are written -/
def FMk (i : Nat) (m m' : Rec) : Prop := (∀ k, k ≠ 36 → gA m' k = gA m k) ∧ (∀ q, (q < 4 * i ∨ 4 * i + 4 ≤ q) → gA m' 36 q = gA m 36 q) ∧ m'.2.2.2 = m.2.2.2 ∧ ∀ k, (k < 5 ∨ 13 < k) → gI m' k = gI m k
theorem FMk.refl (i : Nat) (m : Rec) : FMk i m m := ⟨fun _ _ => rfl, fun _ _ => rfl, rfl, fun _ _ => rfl⟩
theorem FMk.trans {i : Nat} {a b c : Rec} (h : FMk i a b) (h2 : FMk i b c) : FMk i a c := ⟨fun k hk => (h2.1 k hk).trans (h.1 k hk), fun k hk => (h2.2.1 k hk).trans (h.2.1 k hk), h2.2.2.1.trans h.2.2.1, fun k hk => (h2.2.2.2 k hk).trans (h.2.2.2 k hk)⟩
theorem FM2.tok {i : Nat} {a b : Rec} (h : FM2 a b) : FMk i a b := ⟨fun k _ => h.gA k, fun _ _ => congrFun (h.gA 36) _, h.2.1, h.2.2⟩
theorem FMk_sA (i : Nat) (m : Rec) {q : Nat} (v : Int32) (h1 : 4 * i ≤ q) (h2 : q < 4 * i + 4) : FMk i m (sA m 36 q v) := ⟨fun k hk => gA_sAn _ _ _ hk, fun k hk => gA_sAi _ _ _ (by omega), rfl, fun _ _ => rfl⟩
theorem FMk.gL {i : Nat} {c s : Rec} (h : FMk i c s) (k : Nat) : gL s k = gL c k := congrArg (fun r : (Nat → Nat → Int64) × (Nat → Option Nat) × (Nat → Nat → Option Nat) => r.1 k) h.2.2.1
/-- how the reading of a line goes, but for its end -/
def OB (x : Nat) (W : Wd) (T : Nat → Nat) (N : Nat) (c m : Rec) (p0 : Nat) (P : Prop) (i : Nat) (d : Nat → Nat) (oc : Option (Option Nat × Wd)) (om : Option (Int32 × Rec)) : Prop :=
  (∃ q W' c' m' p a k v l, oc = some (some q, W') ∧ om = some (1, m') ∧ XW x W W' c' 1 ∧ FR2 c c' ∧ FMk i m m' ∧ TPE T c' m' ∧ LX 1 T N c' m' p a k v l ∧ p0 ≤ p ∧ LNR d W' q (gA m' 36) (4 * i) ∧ P) ∨ (∃ W' c' m', oc = some (none, W') ∧ om = some (0, m') ∧ XW x W W' c' 1 ∧ FR2 c c' ∧ FMk i m m' ∧ ER c' m')
theorem OB.pre {x : Nat} {W W1 : Wd} {T : Nat → Nat} {N : Nat} {c c1 m m1 : Rec} {p0 p1 k1 i : Nat} {d : Nat → Nat} {oc : Option (Option Nat × Wd)} {om : Option (Int32 × Rec)} (h : OB x W1 T N c1 m1 p1 (k1 = 1 ∨ k1 = 2) i d oc om) (hW : XW x W W1 c1 0) (f : FR2 c c1) (g : FMk i m m1) (hp : 1 ≤ k1 → k1 ≤ 3 → p0 < p1) : OB x W T N c m (p0 + 1) True i d oc om := by
  rcases h with ⟨q, W', c', m', p, a, k, v, l, a1, a2, a3, a4, a5, a6, a7, a8, a9, b1⟩ | ⟨W', c', m', a1, a2, a3, a4, a5, a6⟩
  · have := hp (by omega) (by omega)
    exact Or.inl ⟨q, W', c', m', p, a, k, v, l, a1, a2, (hW.trans a3).mono (by omega), f.trans a4, g.trans a5, a6, a7, by omega, a9, trivial⟩
  · exact Or.inr ⟨W', c', m', a1, a2, (hW.trans a3).mono (by omega), f.trans a4, g.trans a5, a6⟩
/-- a name that was known was a word -/
theorem known_k {j : Nat} {T : Nat → Nat} {N : Nat} {c m : Rec} {p a k v : Nat} {l : List Nat} (hT : TPE T c m) (hX : LX j T N c m p a k v l) {row : Nat → Int64} {R : Nat} {n y : Int32} {c' : Rec} (h : x5_known j c row R n = some (some y, c')) : k = 1 := by
  apply Classical.byContradiction
  intro hk
  unfold x5_known x5_look at h
  rw [x5_isName_v hT hX, decide_eq_false hk, Bool.false_and, BD_some] at h
  have e : x5_must j c (bI false) (1 : Int32) = some (none, sI (sI c 40 1) 41 (gI (sI c 40 1) (rb j + 2))) := rfl
  rw [e, BX_t, BX_t] at h
  cases h
theorem keep_0 (s : Rec) (x : Int32) : m_keep s x 0 = some (0, s) := rfl
theorem keep_1 (s : Rec) {q : Nat} (h : q < 160) : m_keep s (nI q) 1 = some (1, sA s 36 q (gI s 13)) := by
  unfold m_keep
  rw [if_neg (show ¬ (1 : Int32) = 0 by decide), IX_nI _ h (by omega), LT, BZ_1]
section BOOK
variable {x : Nat} {W : Wd} {T : Nat → Nat} {N : Nat} {c m e : Rec} {p a k v b i : Nat} {l : List Nat} {d : Nat → Nat}
/-- days -/
theorem bk_day (hW : XW x W W c 0) (hT : TPE T c m) (hX : LX 1 T N c m p a k v l) (hi : i < 40) (h36 : gA m 36 (4 * i) = nI 3) : OB x W T N c m p (k = 1 ∨ k = 2) i d (LT (wn W 8 r0) (fun w105 => LT W.1 (fun b106 => RD w105 x 0 (fun s109 => BX (x5_number 1 s109 (1 : Int32) (60 : Int32)) (fun s110 => some (none, (wp w105 x 0 s110))) (fun v112 s110 => LT (wp w105 x 0 s110) (fun w111 => BD (x11_init w111 b106 v112) (fun w115 => MG w111 w115 (some (some b106, w115))))))))) (BD2 (m_readNumber m (1 : Int32) (60 : Int32)) (fun v43 s44 => m_keep s44 (nI (4 * i + 1)) v43)) := by
  obtain ⟨w1, w2, w3⟩ := hW.mk 8 r0
  have hx := hW.lt hW.1
  rw [LT, LT, RD_of _ w1.1]
  rcases number_v hT hX (lo := 1) (hi := 60) (by omega) (by omega) with ⟨y, c', m', p', a', k', v', l', f1, f2, f3, f4, f5, f6, f7, u, rfl, g1, g2, g3, g4⟩ | ⟨c', m', f1, f2, f3, f4, f5⟩
  · have f1' : x5_number 1 c (1 : Int32) (60 : Int32) = some (some (nI u), c') := f1
    have f2' : m_readNumber m (1 : Int32) (60 : Int32) = some (1, m') := f2
    have y1 : (wp (wn W 8 r0) x 0 c').2 W.1 = some (8, r0) := by rw [wp_ne (by omega)]; exact w2
    have X2 := w1.wr c'
    have X3 := X2.set (r' := sI r0 0 (nI u)) y1 (by omega) (hW.2.2.1 _ (Nat.le_refl _))
    rw [f1', f2', BX_r, LT, BD2_some, keep_1 _ (by omega)]
    unfold x11_init x10_init
    rw [BD_some, MG_of _ (Nat.le_refl _), RD_of _ y1, LT, LT, BD_some, MG_wp, g3]
    refine Or.inl ⟨W.1, _, c', _, p', a', k', v', l', rfl, rfl, X3, f3, (FM2.tok f4).trans (FMk_sA i _ _ (by omega) (by omega)), TPE_ext f5 rfl (by rw [gA_sAn _ _ _ (by omega)]), LX_ext f6 (fun _ _ => rfl) rfl (fun _ _ _ => rfl) rfl, f7, Or.inl ⟨sI r0 0 (nI u), u, wp_at _ _ _ _, ?_, rfl, gA_sAs _ _ _ _, g1, g2⟩, Or.inr g4⟩
    rw [gA_sAi _ _ _ (by omega), f4.gA 36]; exact h36
  · have f1' : x5_number 1 c (1 : Int32) (60 : Int32) = some (none, c') := f1
    have f2' : m_readNumber m (1 : Int32) (60 : Int32) = some (0, m') := f2
    rw [f1', f2', BX_t, BD2_some, keep_0]
    exact Or.inr ⟨_, c', m', rfl, rfl, w1.wr c', f3, FM2.tok f4, f5⟩
/-- the names of a house that is there -/
def HB (W : Wd) (c m : Rec) (b : Nat) (e : Rec) (d : Nat → Nat) : Prop := gP c 6 = some b ∧ W.2 b = some (2, e) ∧ HS e d ∧ NM e (gL m 19) d ∧ gA m 14 = RF d ∧ DH d
theorem HB.ext {c' m' : Rec} {W' : Wd} (h : HB W c m b e d) (h1 : gP c' 6 = gP c 6) (h2 : W'.2 b = some (2, e)) (h3 : gL m' 19 = gL m 19) (h4 : gA m' 14 = gA m 14) : HB W' c' m' b e d := ⟨h1.trans h.1, h2, h.2.2.1, by rw [h3]; exact h.2.2.2.1, h4.trans h.2.2.2.2.1, h.2.2.2.2.2⟩
theorem HB.plants (h : HB W c m b e d) (hT : TPE T c m) (hX : LX 1 T N c m p a k v l) : OC 1 T N c m p (x5_known 1 c (gL e 1) 6 (gI e 8)) (m_readPlantName m) (fun x _ m' _ => ∃ q, q < d 1 ∧ x = nI q ∧ gI m' 13 = nI q) := by
  obtain ⟨h1, h2, h3, h4, h5, h6⟩ := h
  unfold m_readPlantName
  rw [h3.2.1, h5, RF_a (by omega)]
  have o := named_v hT hX (row := gL e 1) (R := 6) (base := 5) (n := d 1) h4.2.1 h6.2.1 (by omega) (by have := h6.2.1; omega)
  rcases o with ⟨y, c', m', p', a', k', v', l', f1, f2, f3⟩ | ⟨c', m', f1, f2, f3⟩
  · refine Or.inl ⟨y, c', m', p', a', k', v', l', f1, ?_, f3⟩
    rw [show m_readNamed m (5 : Int32) (nI (d 1)) = some (1, m') from f2, BD2_some, BZ_1]
  · refine Or.inr ⟨c', m', f1, ?_, f3⟩
    rw [show m_readNamed m (5 : Int32) (nI (d 1)) = some (0, m') from f2, BD2_some, BZ_0]
theorem HB.parlours {j : Nat} (h : HB W c m b e d) (hT : TPE T c m) (hX : LX j T N c m p a k v l) : OC j T N c m p (x5_known j c (gL e 0) 5 (gI e 7)) (m_readParlourName m) (fun x _ m' _ => ∃ q, q < d 0 ∧ x = nI q ∧ gI m' 13 = nI q) := by
  obtain ⟨h1, h2, h3, h4, h5, h6⟩ := h
  unfold m_readParlourName
  rw [h3.1, h5, RF_a (by omega)]
  have o := named_v hT hX (row := gL e 0) (R := 5) (base := 0) (n := d 0) (fun i hi => by rw [Nat.zero_add]; exact h4.1 i hi) h6.1 (by omega) (by have := h6.1; omega)
  rcases o with ⟨y, c', m', p', a', k', v', l', f1, f2, f3⟩ | ⟨c', m', f1, f2, f3⟩
  · refine Or.inl ⟨y, c', m', p', a', k', v', l', f1, ?_, f3⟩
    rw [show m_readNamed m (0 : Int32) (nI (d 0)) = some (1, m') from f2, BD2_some, BZ_1]
  · refine Or.inr ⟨c', m', f1, ?_, f3⟩
    rw [show m_readNamed m (0 : Int32) (nI (d 0)) = some (0, m') from f2, BD2_some, BZ_0]
theorem HB.deeds (h : HB W c m b e d) (hT : TPE T c m) (hX : LX 1 T N c m p a k v l) : OC 1 T N c m p (x5_known 1 c (gL e 3) 5 (gI e 10)) (m_readNamed m (15 : Int32) (gA m 14 3)) (fun x _ m' _ => ∃ q, q < d 3 ∧ x = nI q ∧ gI m' 13 = nI q) := by
  obtain ⟨h1, h2, h3, h4, h5, h6⟩ := h
  rw [h3.2.2.2.1, h5, RF_a (by omega)]
  exact named_v hT hX (row := gL e 3) (R := 5) (base := 15) (n := d 3) h4.2.2.2 h6.2.2.2.1 (by omega) (by have := h6.2.2.2.1; omega)
/-- a sponge -/
theorem bk_sponge (hW : XW x W W c 0) (hT : TPE T c m) (hX : LX 1 T N c m p a k v l) (hB' : HB W c m b e d) (hi : i < 40) (h36 : gA m 36 (4 * i) = nI 1) : OB x W T N c m p (k = 1 ∨ k = 2) i d (LT (wn W 9 r0) (fun w89 => LT W.1 (fun b90 => RD w89 x 0 (fun s91 => BD (gP s91 6) (fun b92 => RD w89 b92 2 (fun s93 => BD (gP s91 6) (fun b94 => RD w89 b94 2 (fun s95 => BX (x5_known 1 s91 (gL s93 1) 6 (gI s95 8)) (fun s98 => some (none, (wp w89 x 0 s98))) (fun v100 s98 => LT (wp w89 x 0 s98) (fun w99 => BD (x12_init w99 b90 v100) (fun w103 => MG w99 w103 (some (some b90, w103))))))))))))) (BD2 (m_readPlantName m) (fun v26 s27 => m_keep s27 (nI (4 * i + 1)) v26)) := by
  obtain ⟨w1, w2, w3⟩ := hW.mk 9 r0
  have hx := hW.lt hW.1
  have hb := hW.lt hB'.2.1
  have eb : (wn W 9 r0).2 b = some (2, e) := by rw [w3 b (by omega)]; exact hB'.2.1
  rw [LT, LT, RD_of _ w1.1, hB'.1, BD_some, RD_of _ eb, BD_some, RD_of _ eb]
  rcases hB'.plants hT hX with ⟨y, c', m', p', a', k', v', l', f1, f2, f3, f4, f5, f6, f7, u, g1, rfl, g3⟩ | ⟨c', m', f1, f2, f3, f4, f5⟩
  · have kk := known_k hT hX f1
    have y1 : (wp (wn W 9 r0) x 0 c').2 W.1 = some (9, r0) := by rw [wp_ne (by omega)]; exact w2
    have X2 := w1.wr c'
    have X3 := X2.set (r' := sI r0 0 (nI u)) y1 (by omega) (hW.2.2.1 _ (Nat.le_refl _))
    rw [f1, f2, BX_r, LT, BD2_some, keep_1 _ (by omega)]
    unfold x12_init x10_init
    rw [BD_some, MG_of _ (Nat.le_refl _), RD_of _ y1, LT, LT, BD_some, MG_wp, g3]
    refine Or.inl ⟨W.1, _, c', _, p', a', k', v', l', rfl, rfl, X3, f3, (FM2.tok f4).trans (FMk_sA i _ _ (by omega) (by omega)), TPE_ext f5 rfl (by rw [gA_sAn _ _ _ (by omega)]), LX_ext f6 (fun _ _ => rfl) rfl (fun _ _ _ => rfl) rfl, f7, Or.inr (Or.inl ⟨sI r0 0 (nI u), u, wp_at _ _ _ _, ?_, rfl, gA_sAs _ _ _ _, g1⟩), Or.inl kk⟩
    rw [gA_sAi _ _ _ (by omega), f4.gA 36]; exact h36
  · rw [f1, f2, BX_t, BD2_some, keep_0]
    exact Or.inr ⟨_, c', m', rfl, rfl, w1.wr c', f3, FM2.tok f4, f5⟩
/-- a plant is carried -/
theorem bk_carry (hW : XW x W W c 0) (hT : TPE T c m) (hX : LX 1 T N c m p a k v l) (hB' : HB W c m b e d) (hi : i < 40) (h36 : gA m 36 (4 * i) = nI 2) : OB x W T N c m p (k = 1 ∨ k = 2) i d (BD (gP c 6) (fun b64 => RD W b64 2 (fun s65 => BD (gP c 6) (fun b66 => RD W b66 2 (fun s67 => BX (x5_known 1 c (gL s65 1) 6 (gI s67 8)) (fun s70 => some (none, (wp W x 0 s70))) (fun v72 s70 => LT (wp W x 0 s70) (fun w71 => LT (wn w71 10 r0) (fun w73 => LT w71.1 (fun b74 => RD w73 x 0 (fun s75 => BD (gP s75 6) (fun b76 => RD w73 b76 2 (fun s77 => BD (gP s75 6) (fun b78 => RD w73 b78 2 (fun s79 => BX (x5_known 1 s75 (gL s77 0) 5 (gI s79 7)) (fun s82 => some (none, (wp w73 x 0 s82))) (fun v84 s82 => LT (wp w73 x 0 s82) (fun w83 => BD (x13_init w83 b74 v72 v84) (fun w87 => MG w83 w87 (some (some b74, w87))))))))))))))))))) (BD2 (m_readPlantName m) (fun v26 s27 => BD2 (m_keep s27 (nI (4 * i + 1)) v26) (fun v29 s30 => (if v29 = 0 then some ((0 : Int32), s30) else BD2 (m_readParlourName s30) (fun v37 s38 => m_keep s38 (nI (4 * i + 2)) v37))))) := by
  have hx := hW.lt hW.1
  have hb := hW.lt hB'.2.1
  have hbx : b ≠ x := kd_ne hB'.2.1 hW.1 (by omega)
  rw [hB'.1, BD_some, RD_of _ hB'.2.1, BD_some, RD_of _ hB'.2.1]
  rcases hB'.plants hT hX with ⟨y, c1, m1, p1, a1, k1, v1, l1, f1, f2, f3, f4, f5, f6, f7, u, g1, rfl, g3⟩ | ⟨c', m', f1, f2, f3, f4, f5⟩
  · have kk := known_k hT hX f1
    have X1 := hW.wr c1
    obtain ⟨w1, w2, w3⟩ := X1.mk 10 r0
    have eb : (wn (wp W x 0 c1) 10 r0).2 b = some (2, e) := by
      have h1 : (wp W x 0 c1).2 b = some (2, e) := by rw [wp_ne hbx]; exact hB'.2.1
      rw [w3 b (by show b ≠ W.1; omega)]; exact h1
    have hp1 : gP c1 6 = some b := (f3.gP 6).trans hB'.1
    have hB2 : HB (wn (wp W x 0 c1) 10 r0) c1 (sA m1 36 (4 * i + 1) (gI m1 13)) b e d := hB'.ext (f3.gP 6) eb (f4.gL 19) (by rw [gA_sAn _ _ _ (by omega)]; exact f4.gA 14)
    rw [f1, f2, BX_r, LT, LT, LT, RD_of _ w1.1, hp1, BD_some, RD_of _ eb, BD_some, RD_of _ eb, BD2_some, keep_1 _ (by omega), BD2_some, if_neg (show ¬ (1 : Int32) = 0 by decide)]
    have T2 : TPE T c1 (sA m1 36 (4 * i + 1) (gI m1 13)) := TPE_ext f5 rfl (by rw [gA_sAn _ _ _ (by omega)])
    have L2 : LX 1 T N c1 (sA m1 36 (4 * i + 1) (gI m1 13)) p1 a1 k1 v1 l1 := LX_ext f6 (fun _ _ => rfl) rfl (fun _ _ _ => rfl) rfl
    have F2 : FMk i m (sA m1 36 (4 * i + 1) (gI m1 13)) := (FM2.tok f4).trans (FMk_sA i _ _ (by omega) (by omega))
    have e0 : gA (sA m1 36 (4 * i + 1) (gI m1 13)) 36 (4 * i) = nI 2 := by rw [gA_sAi _ _ _ (by omega), f4.gA 36]; exact h36
    have e1 : gA (sA m1 36 (4 * i + 1) (gI m1 13)) 36 (4 * i + 1) = nI u := by rw [gA_sAs]; exact g3
    generalize sA m1 36 (4 * i + 1) (gI m1 13) = m2 at *
    rcases hB2.parlours T2 L2 with ⟨y, c3, m3, p3, a3, k3, v3, l3, r1, r2, r3, r4, r5, r6, r7, t, s1, rfl, s3⟩ | ⟨c', m', r1, r2, r3, r4, r5⟩
    · have y1 : (wp (wn (wp W x 0 c1) 10 r0) x 0 c3).2 W.1 = some (10, r0) := by rw [wp_ne (by omega)]; exact w2
      have X2 := w1.wr c3
      have X3 := X2.set (r' := sI (sI r0 0 (nI u)) 1 (nI t)) y1 (by omega) (hW.2.2.1 _ (Nat.le_refl _))
      rw [r1, r2, BX_r, LT, BD2_some, keep_1 _ (by omega)]
      unfold x13_init x10_init
      rw [show (wp W x 0 c1).1 = W.1 from rfl, BD_some, MG_of _ (Nat.le_refl _), RD_of _ y1, LT, LT, LT, LT, BD_some, wp_wp, MG_wp, s3]
      refine Or.inl ⟨W.1, _, c3, _, p3, a3, k3, v3, l3, rfl, rfl, X3, f3.trans r3, F2.trans ((FM2.tok r4).trans (FMk_sA i _ _ (by omega) (by omega))), TPE_ext r5 rfl (by rw [gA_sAn _ _ _ (by omega)]), LX_ext r6 (fun _ _ => rfl) rfl (fun _ _ _ => rfl) rfl, by omega, Or.inr (Or.inr (Or.inl ⟨_, u, t, wp_at _ _ _ _, ?_, rfl, rfl, ?_, gA_sAs _ _ _ _, g1, s1⟩)), Or.inl kk⟩
      · rw [gA_sAi _ _ _ (by omega), r4.gA 36]; exact e0
      · rw [gA_sAi _ _ _ (by omega), r4.gA 36]; exact e1
    · rw [r1, r2, BX_t, BD2_some, keep_0]
      exact Or.inr ⟨_, c', m', rfl, rfl, w1.wr c', f3.trans r3, F2.trans (FM2.tok r4), r5⟩
  · rw [f1, f2, BX_t, BD2_some, keep_0, BD2_some, if_pos rfl]
    exact Or.inr ⟨_, c', m', rfl, rfl, (hW.wr c').mono (by omega), f3, FM2.tok f4, f5⟩
theorem W7 : SN 29 = WL 7 ∧ SN 26 = WL 8 ∧ SN 27 = WL 9 ∧ SN 28 = WL 10 := by decide +kernel
/-- a deed is done -/
theorem bk_does (hW : XW x W W c 0) (hT : TPE T c m) (hX : LX 1 T N c m p a k v l) (hB' : HB W c m b e d) (hi : i < 40) {w : Nat} (hw : w < d 2) (h36 : gA m 36 (4 * i + 1) = nI w) : OB x W T N c m p (k = 1 ∨ k = 2) i d (BD (x5_is 1 c 29) (fun v29 => BX (x5_must 1 c v29 (1 : Int32)) (fun s32 => some (none, (wp W x 0 s32))) (fun u34 s32 => LT (wp W x 0 s32) (fun w33 => BD (x5_next 1 s32) (fun s37 => LT (wp w33 x 0 s37) (fun w38 => BD (gP s37 6) (fun b39 => RD w38 b39 2 (fun s40 => BD (gP s37 6) (fun b41 => RD w38 b41 2 (fun s42 => BX (x5_known 1 s37 (gL s40 3) 5 (gI s42 10)) (fun s45 => some (none, (wp w38 x 0 s45))) (fun v47 s45 => LT (wp w38 x 0 s45) (fun w46 => LT (wn w46 11 r0) (fun w48 => LT w46.1 (fun b49 => RD w48 x 0 (fun s50 => BD (gP s50 6) (fun b51 => RD w48 b51 2 (fun s52 => BD (gP s50 6) (fun b53 => RD w48 b53 2 (fun s54 => BX (x5_known 1 s50 (gL s52 0) 5 (gI s54 7)) (fun s57 => some (none, (wp w48 x 0 s57))) (fun v59 s57 => LT (wp w48 x 0 s57) (fun w58 => BD (x14_init w58 b49 (nI w) v47 v59) (fun w62 => MG w58 w62 (some (some b49, w62)))))))))))))))))))))))) (m_readDoes m (nI (4 * i))) := by
  have hx := hW.lt hW.1
  have hb := hW.lt hB'.2.1
  have hbx : b ≠ x := kd_ne hB'.2.1 hW.1 (by omega)
  unfold m_readDoes
  rw [x5_is_v hT hX (by omega), W7.1, show (7 : Int32) = nI 7 from rfl, m_isWord_v hX (by omega), BD_some, BD_some]
  cases hw0 : isW k l (WL 7)
  · obtain ⟨c', m', f1, f2, f3, f4, f5⟩ := fail_v hX (e := 1) (by omega) (by omega) (by omega)
    rw [show bI false = (0 : Int32) from rfl, if_pos rfl, show (1 : Int32) = nI 1 from rfl, f1, f2, BX_t, BD2_some, BZ_0]
    exact Or.inr ⟨_, c', m', rfl, rfl, (hW.wr c').mono (by omega), f3, FM2.tok f4, f5⟩
  · obtain ⟨c1, m1, p1, a1, k1, v1, l1, n1, n2, n3, n4, n5, n6, n7, -⟩ := next_v hT hX
    have X1 := hW.wr c1
    have ebW : (wp W x 0 c1).2 b = some (2, e) := by rw [wp_ne hbx]; exact hB'.2.1
    rw [show bI true = (1 : Int32) from rfl, must_1, BX_r, if_neg (show ¬ (1 : Int32) = 0 by decide), n1, n2, BD_some, LT, BD_some, LT, wp_wp, IX_nI _ (by omega) (by omega), LT, (n3.gP 6).trans hB'.1, BD_some, RD_of _ ebW, BD_some, RD_of _ ebW]
    have T1 : TPE T c1 (sA m1 36 (4 * i) 0) := TPE_ext n5 rfl (by rw [gA_sAn _ _ _ (by omega)])
    have L1 : LX 1 T N c1 (sA m1 36 (4 * i) 0) p1 a1 k1 v1 l1 := LX_ext n6 (fun _ _ => rfl) rfl (fun _ _ _ => rfl) rfl
    have F1 : FMk i m (sA m1 36 (4 * i) 0) := (FM2.tok n4.fm2).trans (FMk_sA i _ _ (by omega) (by omega))
    have B1 : HB (wp W x 0 c1) c1 (sA m1 36 (4 * i) 0) b e d := hB'.ext (n3.gP 6) ebW (n4.gL 19) (by rw [gA_sAn _ _ _ (by omega)]; exact n4.gA 14)
    have e0 : gA (sA m1 36 (4 * i) 0) 36 (4 * i) = nI 0 := gA_sAs _ _ _ _
    have e1 : gA (sA m1 36 (4 * i) 0) 36 (4 * i + 1) = nI w := by rw [gA_sAi _ _ _ (by omega), n4.gA 36]; exact h36
    generalize sA m1 36 (4 * i) 0 = m2 at *
    rcases B1.deeds T1 L1 with ⟨y, c3, m3, p3, a3, k3, v3, l3, f1, f2, f3, f4, f5, f6, f7, u, g1, rfl, g3⟩ | ⟨c', m', f1, f2, f3, f4, f5⟩
    · have X3 := X1.wr c3
      rw [wp_wp] at X3
      obtain ⟨w1, w2, w3⟩ := X3.mk 11 r0
      have eb : (wn (wp W x 0 c3) 11 r0).2 b = some (2, e) := by
        have h1 : (wp W x 0 c3).2 b = some (2, e) := by rw [wp_ne hbx]; exact hB'.2.1
        rw [w3 b (by show b ≠ W.1; omega)]; exact h1
      have hp3 : gP c3 6 = some b := (f3.gP 6).trans B1.1
      have B2 : HB (wn (wp W x 0 c3) 11 r0) c3 (sA m3 36 (4 * i + 2) (gI m3 13)) b e d := B1.ext (f3.gP 6) eb (f4.gL 19) (by rw [gA_sAn _ _ _ (by omega)]; exact f4.gA 14)
      rw [f1, BX_r, LT, LT, LT, wp_wp, RD_of _ w1.1, hp3, BD_some, RD_of _ eb, BD_some, RD_of _ eb, f2, BD2_some, show nI (4 * i) + (2 : Int32) = nI (4 * i + 2) from nI_add _ _, keep_1 _ (by omega), BD2_some, if_neg (show ¬ (1 : Int32) = 0 by decide)]
      have T2 : TPE T c3 (sA m3 36 (4 * i + 2) (gI m3 13)) := TPE_ext f5 rfl (by rw [gA_sAn _ _ _ (by omega)])
      have L2 : LX 1 T N c3 (sA m3 36 (4 * i + 2) (gI m3 13)) p3 a3 k3 v3 l3 := LX_ext f6 (fun _ _ => rfl) rfl (fun _ _ _ => rfl) rfl
      have F2 : FMk i m (sA m3 36 (4 * i + 2) (gI m3 13)) := F1.trans ((FM2.tok f4).trans (FMk_sA i _ _ (by omega) (by omega)))
      have y0 : gA (sA m3 36 (4 * i + 2) (gI m3 13)) 36 (4 * i) = nI 0 := by rw [gA_sAi _ _ _ (by omega), f4.gA 36]; exact e0
      have y1 : gA (sA m3 36 (4 * i + 2) (gI m3 13)) 36 (4 * i + 1) = nI w := by rw [gA_sAi _ _ _ (by omega), f4.gA 36]; exact e1
      have y2 : gA (sA m3 36 (4 * i + 2) (gI m3 13)) 36 (4 * i + 2) = nI u := by rw [gA_sAs]; exact g3
      generalize sA m3 36 (4 * i + 2) (gI m3 13) = m4 at *
      rcases B2.parlours T2 L2 with ⟨y, c5, m5, p5, a5, k5, v5, l5, r1, r2, r3, r4, r5, r6, r7, t, s1, rfl, s3⟩ | ⟨c', m', r1, r2, r3, r4, r5⟩
      · have z1 : (wp (wn (wp W x 0 c3) 11 r0) x 0 c5).2 W.1 = some (11, r0) := by rw [wp_ne (by omega)]; exact w2
        have X4 := w1.wr c5
        have X5 := X4.set (r' := sI (sI (sI r0 0 (nI w)) 1 (nI u)) 2 (nI t)) z1 (by omega) (hW.2.2.1 _ (Nat.le_refl _))
        rw [r1, r2, BX_r, LT, BD2_some, show nI (4 * i) + (3 : Int32) = nI (4 * i + 3) from nI_add _ _, keep_1 _ (by omega), BD2_some, if_neg (show ¬ (1 : Int32) = 0 by decide)]
        unfold x14_init x10_init
        rw [show (wp W x 0 c3).1 = W.1 from rfl, BD_some, MG_of _ (Nat.le_refl _), RD_of _ z1, LT, LT, LT, LT, LT, LT, BD_some, wp_wp, wp_wp, MG_wp, s3]
        refine Or.inl ⟨W.1, _, c5, _, p5, a5, k5, v5, l5, rfl, rfl, X5, (n3.fr2.trans f3).trans r3, F2.trans ((FM2.tok r4).trans (FMk_sA i _ _ (by omega) (by omega))), TPE_ext r5 rfl (by rw [gA_sAn _ _ _ (by omega)]), LX_ext r6 (fun _ _ => rfl) rfl (fun _ _ _ => rfl) rfl, by omega, Or.inr (Or.inr (Or.inr ⟨_, w, u, t, wp_at _ _ _ _, ?_, rfl, rfl, rfl, ?_, ?_, gA_sAs _ _ _ _, hw, g1, s1⟩)), Or.inl (isW_1 hw0)⟩
        · rw [gA_sAi _ _ _ (by omega), r4.gA 36]; exact y0
        · rw [gA_sAi _ _ _ (by omega), r4.gA 36]; exact y1
        · rw [gA_sAi _ _ _ (by omega), r4.gA 36]; exact y2
      · rw [r1, r2, BX_t, BD2_some, keep_0, BD2_some, if_pos rfl]
        exact Or.inr ⟨_, c', m', rfl, rfl, w1.wr c', (n3.fr2.trans f3).trans r3, F2.trans (FM2.tok r4), r5⟩
    · rw [f1, f2, BX_t, BD2_some, keep_0, BD2_some, if_pos rfl, wp_wp]
      exact Or.inr ⟨_, c', m', rfl, rfl, (hW.wr c').mono (by omega), n3.fr2.trans f3, F1.trans (FM2.tok f4), f5⟩
end BOOK
