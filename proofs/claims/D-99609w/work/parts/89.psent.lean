/-! PURE: sentences: trees, frames, ones joined -/
/-- a tree whose rows lie ahead of M -/
def STR (M : Nat) : Nat → Wd → Nat → (Nat → Nat) → Nat → Prop
  | 0, _, _, _, _ => False
  | n + 1, G, q, nd, k => k < M ∧
      ((∃ r q1, G.2 q = some (12, r) ∧ nd (4 * k) = 1 ∧ gP r 0 = some q1 ∧ STR M n G q1 nd (nd (4 * k + 1))) ∨
       (∃ r q1 q2, G.2 q = some (15, r) ∧ nd (4 * k) = 2 ∧ gP r 0 = some q1 ∧ gP r 1 = some q2 ∧ STR M n G q1 nd (nd (4 * k + 1)) ∧ STR M n G q2 nd (nd (4 * k + 2))) ∨
       (∃ r q1 q2, G.2 q = some (16, r) ∧ nd (4 * k) = 3 ∧ gP r 0 = some q1 ∧ gP r 1 = some q2 ∧ STR M n G q1 nd (nd (4 * k + 1)) ∧ STR M n G q2 nd (nd (4 * k + 2))) ∨
       (∃ r w, G.2 q = some (13, r) ∧ w < 5 ∧ gI r 0 = nI w ∧ nd (4 * k) = 64 + w ∧ (2 ≤ w → gI r 1 = nI (nd (4 * k + 1)) ∧ nd (4 * k + 1) < 5)) ∨
       (∃ r w, G.2 q = some (14, r) ∧ w < 3 ∧ gI r 0 = nI w ∧ nd (4 * k) = 69 + w ∧ gI r 1 = nI (nd (4 * k + 3)) ∧ gI r 2 = nI (nd (4 * k + 2)) ∧ nd (4 * k + 2) ≤ 999 ∧ nd (4 * k + 3) < 256))
theorem STR.ctr {M : Nat} (hM : M ≤ 60) {G : Wd} {nd : Nat → Nat} : ∀ {n q k : Nat}, STR M n G q nd k → CTR n G q nd k := by
  intro n
  induction n with
  | zero => intro q k h; exact h
  | succ n ih =>
    intro q k h
    obtain ⟨hk, h⟩ := h
    refine ⟨by omega, ?_⟩
    rcases h with ⟨r, q1, a, b, c, e⟩ | ⟨r, q1, q2, a, b, c, d, e, f⟩ | ⟨r, q1, q2, a, b, c, d, e, f⟩ | h | h
    · exact Or.inl ⟨r, q1, a, b, c, ih e⟩
    · exact Or.inr (Or.inl ⟨r, q1, q2, a, b, c, d, ih e, ih f⟩)
    · exact Or.inr (Or.inr (Or.inl ⟨r, q1, q2, a, b, c, d, ih e, ih f⟩))
    · exact Or.inr (Or.inr (Or.inr (Or.inl h)))
    · exact Or.inr (Or.inr (Or.inr (Or.inr h)))
/-- more rows, a greater bound, another world that keeps what is told -/
theorem STR.ext {M M' : Nat} (hM : M ≤ M') {G G' : Wd} (hG : ∀ a kd r, 12 ≤ kd → kd ≤ 16 → (kd = 13 ∨ kd = 14 ∨ ¬ gP r 0 = none) → G.2 a = some (kd, r) → G'.2 a = some (kd, r)) {nd nd' : Nat → Nat} (hn : ∀ j, j < 4 * M → nd' j = nd j) : ∀ {n n' q k : Nat}, n ≤ n' → STR M n G q nd k → STR M' n' G' q nd' k := by
  intro n
  induction n with
  | zero => intro n' q k _ h; exact False.elim h
  | succ n ih =>
    intro n' q k hnn h
    obtain ⟨n', rfl⟩ : ∃ z, n' = z + 1 := ⟨n' - 1, by omega⟩
    have hnn' : n ≤ n' := by omega
    obtain ⟨hk, h⟩ := h
    refine ⟨by omega, ?_⟩
    rw [hn _ (show 4 * k < 4 * M by omega), hn _ (show 4 * k + 1 < 4 * M by omega), hn _ (show 4 * k + 2 < 4 * M by omega), hn _ (show 4 * k + 3 < 4 * M by omega)]
    rcases h with ⟨r, q1, a, b, c, e⟩ | ⟨r, q1, q2, a, b, c, d, e, f⟩ | ⟨r, q1, q2, a, b, c, d, e, f⟩ | ⟨r, w, a, b⟩ | ⟨r, w, a, b⟩
    · exact Or.inl ⟨r, q1, hG _ _ _ (by omega) (by omega) (Or.inr (Or.inr (by rw [c]; simp))) a, b, c, ih hnn' e⟩
    · exact Or.inr (Or.inl ⟨r, q1, q2, hG _ _ _ (by omega) (by omega) (Or.inr (Or.inr (by rw [c]; simp))) a, b, c, d, ih hnn' e, ih hnn' f⟩)
    · exact Or.inr (Or.inr (Or.inl ⟨r, q1, q2, hG _ _ _ (by omega) (by omega) (Or.inr (Or.inr (by rw [c]; simp))) a, b, c, d, ih hnn' e, ih hnn' f⟩))
    · exact Or.inr (Or.inr (Or.inr (Or.inl ⟨r, w, hG _ _ _ (by omega) (by omega) (Or.inl rfl) a, b⟩)))
    · exact Or.inr (Or.inr (Or.inr (Or.inr ⟨r, w, hG _ _ _ (by omega) (by omega) (Or.inr (Or.inl rfl)) a, b⟩)))
/-- the model's frame -/
def FMs (m m' : Rec) : Prop := (∀ k, k ≠ 40 → gA m' k = gA m k) ∧ m'.2.2.2 = m.2.2.2 ∧ ∀ k, (k < 5 ∨ (13 < k ∧ k < 41)) → gI m' k = gI m k
theorem FMs.refl (m : Rec) : FMs m m := ⟨fun _ _ => rfl, rfl, fun _ _ => rfl⟩
theorem FMs.trans {a b c : Rec} (h : FMs a b) (h2 : FMs b c) : FMs a c := ⟨fun k hk => (h2.1 k hk).trans (h.1 k hk), h2.2.1.trans h.2.1, fun k hk => (h2.2.2 k hk).trans (h.2.2 k hk)⟩
theorem FM2.tos {a b : Rec} (h : FM2 a b) : FMs a b := ⟨fun k _ => h.gA k, h.2.1, fun k hk => h.2.2 k (by omega)⟩
theorem FMs.gL {c s : Rec} (h : FMs c s) (k : Nat) : gL s k = gL c k := congrArg (fun r : (Nat → Nat → Int64) × (Nat → Option Nat) × (Nat → Nat → Option Nat) => r.1 k) h.2.1
theorem FMs_sI (m : Rec) {k : Nat} (v : Int32) (h : 41 ≤ k) : FMs m (sI m k v) := ⟨fun _ _ => rfl, rfl, fun q hq => gI_sIn _ _ (by omega)⟩
theorem FRh_gP {c s : Rec} (h : FRh c s) (k : Nat) : gP s k = gP c k := congrArg (fun r : (Nat → Nat → Int64) × (Nat → Option Nat) × (Nat → Nat → Option Nat) => r.2.1 k) h.2.1
/-- what holds when ones are read: o ones, nn rows, w within -/
def SQ (x : Nat) (W : Wd) (T : Nat → Nat) (N : Nat) (c m : Rec) (p a k v : Nat) (l : List Nat) (b : Nat) (e : Rec) (d : Nat → Nat) (o nn w : Nat) (nd : Nat → Nat) : Prop :=
  XW x W W c 0 ∧ TPE T c m ∧ LX 2 T N c m p a k v l ∧ HB W c m b e d ∧ gI c 150 = nI o ∧ gI m 42 = nI o ∧ o ≤ 20 ∧ gI m 41 = nI nn ∧ nn ≤ 2 * o ∧ gI m 43 = nI w ∧ w ≤ 8 ∧ (∀ j, j < 4 * nn → gA m 40 j = nI (nd j))
/-- how it ends -/
def OT (x : Nat) (W : Wd) (T : Nat → Nat) (N : Nat) (c m : Rec) (b : Nat) (e : Rec) (d : Nat → Nat) (o nn w : Nat) (nd : Nat → Nat) (oc : Option (Option Nat × Wd)) (om : Option (Int32 × Rec)) : Prop :=
  (∃ q W' c' m' p a k v l o' nn' nd' tp, oc = some (some q, W') ∧ om = some (1, m') ∧ SQ x W' T N c' m' p a k v l b e d o' nn' w nd' ∧ XW x W W' c' (2 * (o' - o) - 1) ∧ FRh c c' ∧ FMs m m' ∧ o < o' ∧ nn < nn' ∧ nn' + 1 ≤ nn + 2 * (o' - o) ∧ (∀ j, j < 4 * nn → nd' j = nd j) ∧ gI m' 44 = nI tp ∧ tp < nn' ∧ STR nn' (nn' - nn) W' q nd' tp) ∨
  (∃ W' c' m' o', oc = some (none, W') ∧ om = some (0, m') ∧ XW x W W' c' (2 * (o' - o) + 1) ∧ o ≤ o' ∧ o' ≤ 20 ∧ FRh c c' ∧ FMs m m' ∧ ER c' m')
def PSp (x b : Nat) (e : Rec) (d : Nat → Nat) (fC : Wd → Nat → Int32 → Option (Option Nat × Wd)) (fM : Rec → Option (Int32 × Rec)) (w : Nat) : Prop := ∀ (W : Wd) (T : Nat → Nat) (N : Nat) (c m : Rec) (p a k v : Nat) (l : List Nat) (o nn : Nat) (nd : Nat → Nat), SQ x W T N c m p a k v l b e d o nn w nd → OT x W T N c m b e d o nn w nd (fC W x (nI (w + 1))) (fM m)
/-- the rows with one more -/
def ndU (nd : Nat → Nat) (n w a b r : Nat) : Nat → Nat := fun j => if j = 4 * n then w else if j = 4 * n + 1 then a else if j = 4 * n + 2 then b else if j = 4 * n + 3 then r else nd j
theorem ndU_0 (nd : Nat → Nat) (n w a b r : Nat) : ndU nd n w a b r (4 * n) = w := if_pos rfl
theorem ndU_1 (nd : Nat → Nat) (n w a b r : Nat) : ndU nd n w a b r (4 * n + 1) = a := by unfold ndU; rw [if_neg (by omega), if_pos rfl]
theorem ndU_2 (nd : Nat → Nat) (n w a b r : Nat) : ndU nd n w a b r (4 * n + 2) = b := by unfold ndU; rw [if_neg (by omega), if_neg (by omega), if_pos rfl]
theorem ndU_3 (nd : Nat → Nat) (n w a b r : Nat) : ndU nd n w a b r (4 * n + 3) = r := by unfold ndU; rw [if_neg (by omega), if_neg (by omega), if_neg (by omega), if_pos rfl]
theorem ndU_n (nd : Nat → Nat) (n w a b r : Nat) {j : Nat} (h : j < 4 * n) : ndU nd n w a b r j = nd j := by unfold ndU; rw [if_neg (by omega), if_neg (by omega), if_neg (by omega), if_neg (by omega)]
/-- a row of four is written -/
theorem says_v {m : Rec} {nn : Nat} {nd : Nat → Nat} (h41 : gI m 41 = nI nn) (hn : nn < 60) (hr : ∀ j, j < 4 * nn → gA m 40 j = nI (nd j)) (w a b r : Nat) : ∃ m', m_saysOne m (nI w) (nI a) (nI b) (nI r) = some (nI nn, m') ∧ FMs m m' ∧ gI m' 41 = nI (nn + 1) ∧ (∀ k, k ≠ 41 → gI m' k = gI m k) ∧ (∀ k, gJ m' k = gJ m k) ∧ (∀ j, j < 4 * (nn + 1) → gA m' 40 j = nI (ndU nd nn w a b r j)) := by
  refine ⟨sI (sA (sA (sA (sA m 40 (4 * nn) (nI w)) 40 (4 * nn + 1) (nI a)) 40 (4 * nn + 2) (nI b)) 40 (4 * nn + 3) (nI r)) 41 (nI (nn + 1)), ?_, ⟨fun k hk => ?_, rfl, fun k hk => ?_⟩, gI_sIs _ _ _, fun k hk => ?_, fun k => rfl, fun j hj => ?_⟩
  · unfold m_saysOne
    have e1 : (4 : Int32) * nI nn = nI (4 * nn) := pk_mul 4 nn
    have e2 : nI (4 * nn) + (1 : Int32) = nI (4 * nn + 1) := nI_add _ _
    have e3 : nI (4 * nn) + (2 : Int32) = nI (4 * nn + 2) := nI_add _ _
    have e4 : nI (4 * nn) + (3 : Int32) = nI (4 * nn + 3) := nI_add _ _
    rw [h41, e1, e2, e3, e4, IX_nI _ (by omega) (by omega), LT, IX_nI _ (by omega) (by omega), LT, IX_nI _ (by omega) (by omega), LT, IX_nI _ (by omega) (by omega), LT, LT, gI_sIs, gI_sA, gI_sA, gI_sA, gI_sA, h41, nI_1, nI_pred]
  · rw [gA_sI, gA_sAn _ _ _ hk, gA_sAn _ _ _ hk, gA_sAn _ _ _ hk, gA_sAn _ _ _ hk]
  · rw [gI_sIn _ _ (by omega)]; rfl
  · rw [gI_sIn _ _ hk]; rfl
  · rw [gA_sI]
    by_cases h3 : j = 4 * nn + 3
    · rw [h3, gA_sAs, ndU_3]
    · rw [gA_sAi _ _ _ h3]
      by_cases h2 : j = 4 * nn + 2
      · rw [h2, gA_sAs, ndU_2]
      · rw [gA_sAi _ _ _ h2]
        by_cases h1 : j = 4 * nn + 1
        · rw [h1, gA_sAs, ndU_1]
        · rw [gA_sAi _ _ _ h1]
          by_cases h0 : j = 4 * nn
          · rw [h0, gA_sAs, ndU_0]
          · rw [gA_sAi _ _ _ h0, ndU_n _ _ _ _ _ _ (by omega)]; exact hr j (by omega)
theorem LP22_inv {A1 A2 B1 B2 R S : Type} {body : (A1 → A2 → Option R) → A1 → A2 → Option R} {bodyM : (B1 → B2 → Option S) → B1 → B2 → Option S} (I : Nat → A1 → A2 → B1 → B2 → Prop) (Q : Option R → Option S → Prop) (hs : ∀ (i : Nat) (a1 : A1) (a2 : A2) (b1 : B1) (b2 : B2) (rec : A1 → A2 → Option R) (recM : B1 → B2 → Option S), I i a1 a2 b1 b2 → (∃ j x1 x2 y1 y2, j < i ∧ I j x1 x2 y1 y2 ∧ body rec a1 a2 = rec x1 x2 ∧ bodyM recM b1 b2 = recM y1 y2) ∨ Q (body rec a1 a2) (bodyM recM b1 b2)) : ∀ (F i : Nat) (a1 : A1) (a2 : A2) (b1 : B1) (b2 : B2), i < F → I i a1 a2 b1 b2 → Q (LP2 body F a1 a2) (LP2 bodyM F b1 b2) := by
  intro F
  induction F with
  | zero => intro i a1 a2 b1 b2 h; omega
  | succ F ih =>
    intro i a1 a2 b1 b2 h hI
    rw [LP2_s, LP2_s]
    rcases hs i a1 a2 b1 b2 (LP2 body F) (LP2 bodyM F) hI with ⟨j, x1, x2, y1, y2, hj, hI2, e1, e2⟩ | hq
    · rw [e1, e2]
      exact ih j x1 x2 y1 y2 (by omega) hI2
    · exact hq
section JOIN
variable {x b : Nat} {e : Rec} {d : Nat → Nat}
theorem SQ.self {W : Wd} {T : Nat → Nat} {N : Nat} {c m : Rec} {p a k v : Nat} {l : List Nat} {o nn w : Nat} {nd : Nat → Nat} (h : SQ x W T N c m p a k v l b e d o nn w nd) : XW x W W c 0 := h.1
theorem XW.refl {W W' : Wd} {c : Rec} {k : Nat} (h : XW x W W' c k) : XW x W' W' c 0 := ⟨h.1, fun _ _ _ _ h => h, h.2.2.1, Nat.le_refl _, Nat.le_refl _⟩
theorem join_v {si kd wi cd : Nat} {ini : Wd → Nat → Nat → Nat → Option Wd} {rs : Wd → Nat → Int32 → Option (Option Nat × Wd)} {f : Rec → Option (Int32 × Rec)} {w : Nat} (hsi : si < 41) (hwi : wi < 22) (hSW : SN si = WL wi) (hcd : (kd = 15 ∧ cd = 2) ∨ (kd = 16 ∧ cd = 3)) (hini : ∀ (W : Wd) (q q1 q2 : Nat) (r : Rec), W.2 q = some (kd, r) → ini W q q1 q2 = some (wp W q kd (sP (sP r 0 (some q1)) 1 (some q2)))) (hP : PSp x b e d rs f w) : PSp x b e d (jC si kd ini rs) (jM (nI wi) (nI cd) f) w := by
  intro W T N c m p a k v l o nn nd hS
  have hX0 := hS.1
  unfold jC jM
  rw [RD_of _ hX0.1]
  rcases hP W T N c m p a k v l o nn nd hS with ⟨q, W1, c1, m1, p1, a1, k1, v1, l1, o1, nn1, nd1, tp, r1, r2, r3, r4, r5, r6, r7, r8, r9, r10, r11, r12, r13⟩ | ⟨W1, c1, m1, o1, r1, r2, r3, r4, r5, r6, r7, r8⟩
  · rw [r1, r2, BD2_some, if_neg (show ¬ (1 : Int32) = 0 by decide), r11]
    show OT _ _ _ _ _ _ _ _ _ _ _ _ _ (MG W W1 (LP2 (jcB si kd ini rs x (nI (w + 1))) FU q W1)) _
    rw [MG_of _ r4.2.2.2.1]
    refine LP22_inv (fun i a1 a2 b1 b2 => ∃ c' p a k v l o' nn' nd' tp, b1 = nI tp ∧ SQ x a2 T N c' b2 p a k v l b e d o' nn' w nd' ∧ XW x W a2 c' (2 * (o' - o) - 1) ∧ FRh c c' ∧ FMs m b2 ∧ o < o' ∧ nn < nn' ∧ nn' + 1 ≤ nn + 2 * (o' - o) ∧ (∀ j, j < 4 * nn → nd' j = nd j) ∧ tp < nn' ∧ STR nn' (nn' - nn) a2 a1 nd' tp ∧ i = 30 - o') (OT x W T N c m b e d o nn w nd) (fun i q W2 bt m2 rec recM hI => ?_) FU (30 - o1) q W1 (nI tp) m1 (by unfold FU; omega) ⟨c1, p1, a1, k1, v1, l1, o1, nn1, nd1, tp, rfl, r3, r4, r5, r6, r7, r8, r9, r10, r12, r13, rfl⟩
    clear r1 r2 r3 r4 r5 r6 r7 r8 r9 r10 r11 r12 r13
    obtain ⟨c2, p2, a2, k2, v2, l2, o2, nn2, nd2, tp2, rfl, s1, s2, s3, s4, s5, s6, s7, s8, s9, s10, rfl⟩ := hI
    obtain ⟨t1, t2, t3, t4, t5, t6, t7, t8, t9, t10, t11, t12⟩ := id s1
    unfold jcB jmB
    rw [RD_of _ t1.1, x5_is_v t2 t3 hsi, hSW, m_isWord_v t3 hwi, BD_some, BD_some]
    cases hw : isW k2 l2 (WL wi)
    · rw [show bI false = (0 : Int32) from rfl, if_pos rfl, if_pos rfl, LT]
      refine Or.inr (Or.inl ⟨q, W2, c2, sI m2 44 (nI tp2), p2, a2, k2, v2, l2, o2, nn2, nd2, tp2, rfl, rfl, ⟨t1, TPE_ext t2 rfl rfl, LX_ext t3 (fun _ _ => rfl) rfl (fun i h1 h2 => gI_sIn _ _ (by omega)) rfl, t4.ext rfl t4.2.1 rfl rfl, t5, ?_, t7, ?_, t9, ?_, t11, t12⟩, s2, s3, s4.trans (FMs_sI m2 _ (by omega)), s5, s6, s7, s8, gI_sIs _ _ _, s9, s10⟩)
      · rw [gI_sIn _ _ (by omega)]; exact t6
      · rw [gI_sIn _ _ (by omega)]; exact t8
      · rw [gI_sIn _ _ (by omega)]; exact t10
    · obtain ⟨c3, m3, p3, a3, k3, v3, l3, n1, n2, n3, n4, n5, n6, n7, -⟩ := next_v t2 t3
      have X3 := t1.wr c3
      obtain ⟨w1, w2, w3⟩ := X3.mk kd r0
      have hbW := t1.lt t4.2.1
      have hbx : b ≠ x := kd_ne t4.2.1 t1.1 (by omega)
      rw [show bI true = (1 : Int32) from rfl, if_neg (show ¬ (1 : Int32) = 0 by decide), if_neg (show ¬ (1 : Int32) = 0 by decide), n1, n2, BD_some, BD_some, LT, LT, LT, RD_of _ w1.1]
      have eb : (wn (wp W2 x 0 c3) kd r0).2 b = some (2, e) := by
        rw [w3 b (by show b ≠ W2.1; omega), wp_ne hbx]; exact t4.2.1
      have S3 : SQ x (wn (wp W2 x 0 c3) kd r0) T N c3 m3 p3 a3 k3 v3 l3 b e d o2 nn2 w nd2 := by
        refine ⟨w1.refl, n5, n6, t4.ext (n3.gP 6) eb (n4.gL 19) (n4.gA 14), (n3.2.2 150 (by have : rb 2 = 140 := rfl; omega)).trans t5, (n4.2.2 42 (by omega)).trans t6, t7, (n4.2.2 41 (by omega)).trans t8, t9, (n4.2.2 43 (by omega)).trans t10, t11, fun j hj => ?_⟩
        rw [n4.gA 40]; exact t12 j hj
      rcases hP _ T N c3 m3 p3 a3 k3 v3 l3 o2 nn2 nd2 S3 with ⟨q4, W4, c4, m4, p4, a4, k4, v4, l4, o4, nn4, nd4, tp4, y1, y2, y3, y4, y5, y6, y7, y8, y9, y10, y11, y12, y13⟩ | ⟨W4, c4, m4, o4, y1, y2, y3, y4, y5, y6, y7, y8⟩
      · obtain ⟨z1, z2, z3, z4, z5, z6, z7, z8, z9, z10, z11, z12⟩ := id y3
        have hx2 := t1.lt t1.1
        have q0 : W4.2 W2.1 = some (kd, r0) := y4.2.1 _ _ _ (by omega) w2
        have q0x : W2.1 ≠ x := by omega
        have hnn4 : nn4 < 60 := by omega
        obtain ⟨m5, u1, u2, u3, u4, u5, u6⟩ := says_v z8 hnn4 z12 cd tp2 tp4 0
        rw [y1, y2, BD2_some, if_neg (show ¬ (1 : Int32) = 0 by decide), y11, show (0 : Int32) = nI 0 from rfl, u1, BD2_some]
        show (∃ j x_1 x_2 y1 y2, _ ∧ _ ∧ MG (wn (wp W2 x 0 c3) kd r0) W4 (BD (ini W4 (wp W2 x 0 c3).1 q q4) _) = _ ∧ _) ∨ OT _ _ _ _ _ _ _ _ _ _ _ _ _ (MG (wn (wp W2 x 0 c3) kd r0) W4 (BD (ini W4 (wp W2 x 0 c3).1 q q4) _)) _
        rw [MG_of _ y4.2.2.2.1, show (wp W2 x 0 c3).1 = W2.1 from rfl, hini W4 W2.1 q q4 r0 q0, BD_some, MG_wp]
        have XA : XW x W2 W4 c4 (1 + (2 * (o4 - o2) - 1)) := (w1.trans y4).mono (by omega)
        have X5 : XW x W2 (wp W4 W2.1 kd (sP (sP r0 0 (some q)) 1 (some q4))) c4 (1 + (2 * (o4 - o2) - 1)) := XA.set q0 q0x (t1.2.2.1 _ (Nat.le_refl _))
        have hsm : ∀ aa kk r, 12 ≤ kk → kk ≤ 16 → (kk = 13 ∨ kk = 14 ∨ ¬ gP r 0 = none) → W4.2 aa = some (kk, r) → (wp W4 W2.1 kd (sP (sP r0 0 (some q)) 1 (some q4))).2 aa = some (kk, r) := by
          intro aa kk r h1 h2 h3 h4
          by_cases ea : aa = W2.1
          · rw [ea, q0] at h4
            cases h4
            exact absurd h3 (by
              have : gP r0 0 = none := rfl
              rw [this]
              rcases hcd with ⟨h, -⟩ | ⟨h, -⟩ <;> subst h <;> simp)
          · rw [wp_ne ea]; exact h4
        have TL : STR (nn4 + 1) (nn4 - nn) (wp W4 W2.1 kd (sP (sP r0 0 (some q)) 1 (some q4))) q (ndU nd4 nn4 cd tp2 tp4 0) tp2 := by
          refine STR.ext (M := nn2) (by omega) (G := W2) (fun aa kk r h1 h2 h3 h4 => ?_) (fun j hj => ?_) (n := nn2 - nn) (by omega) s10
          · have hax : aa ≠ x := kd_ne h4 t1.1 (by omega)
            exact hsm aa kk r h1 h2 h3 (XA.2.1 aa kk r hax h4)
          · rw [ndU_n _ _ _ _ _ _ (by omega)]; exact y10 j hj
        have TR : STR (nn4 + 1) (nn4 - nn) (wp W4 W2.1 kd (sP (sP r0 0 (some q)) 1 (some q4))) q4 (ndU nd4 nn4 cd tp2 tp4 0) tp4 := STR.ext (M := nn4) (by omega) hsm (fun j hj => ndU_n _ _ _ _ _ _ hj) (n := nn4 - nn2) (by omega) y13
        refine Or.inl ⟨30 - o4, _, _, _, _, by omega, ⟨c4, p4, a4, k4, v4, l4, o4, nn4 + 1, ndU nd4 nn4 cd tp2 tp4 0, nn4, rfl, ⟨X5.refl, TPE_ext z2 rfl (u2.1 1 (by omega)), LX_ext z3 (fun _ _ => rfl) rfl (fun i h1 h2 => u4 i (by omega)) (u5 12), z4.ext rfl ?_ (u2.gL 19) (u2.1 14 (by omega)), z5, (u4 42 (by omega)).trans z6, z7, u3, by omega, (u4 43 (by omega)).trans z10, z11, u6⟩, (s2.trans X5).mono (by omega), (s3.trans n3.fr2.toh).trans y5, ((s4.trans (FM2.tos n4.fm2)).trans y6).trans u2, by omega, by omega, by omega, fun j hj => ?_, by omega, ?_, rfl⟩, rfl, rfl⟩
        · rw [wp_ne (kd_ne z4.2.1 q0 (by rcases hcd with ⟨h, -⟩ | ⟨h, -⟩ <;> omega))]; exact z4.2.1
        · rw [ndU_n _ _ _ _ _ _ (by omega), y10 j (by omega)]; exact s8 j hj
        · obtain ⟨h, hh⟩ : ∃ h, nn4 + 1 - nn = h + 1 := ⟨nn4 - nn, by omega⟩
          have hh' : nn4 - nn = h := by omega
          rw [hh]
          rw [hh'] at TL TR
          refine ⟨by omega, ?_⟩
          rw [ndU_0, ndU_1, ndU_2]
          rcases hcd with ⟨hk, hc⟩ | ⟨hk, hc⟩
          · subst hk; subst hc
            exact Or.inr (Or.inl ⟨_, q, q4, wp_at _ _ _ _, rfl, by rw [gP_sPn _ _ (by omega), gP_sPs], gP_sPs _ _ _, TL, TR⟩)
          · subst hk; subst hc
            exact Or.inr (Or.inr (Or.inl ⟨_, q, q4, wp_at _ _ _ _, rfl, by rw [gP_sPn _ _ (by omega), gP_sPs], gP_sPs _ _ _, TL, TR⟩))
      · rw [y1, y2, BD2_some, if_pos rfl]
        show (∃ j x_1 x_2 y1 y2, _ ∧ _ ∧ MG (wn (wp W2 x 0 c3) kd r0) W4 _ = _ ∧ _) ∨ OT _ _ _ _ _ _ _ _ _ _ _ _ _ (MG (wn (wp W2 x 0 c3) kd r0) W4 _) _
        rw [MG_of _ y3.2.2.2.1]
        exact Or.inr (Or.inr ⟨W4, c4, m4, o4, rfl, rfl, (s2.trans (w1.trans y3)).mono (by omega), by omega, y5, (s3.trans n3.fr2.toh).trans y6, (s4.trans (FM2.tos n4.fm2)).trans y7, y8⟩)
  · rw [r1, r2, BD2_some, if_pos rfl]
    show OT _ _ _ _ _ _ _ _ _ _ _ _ _ (MG W W1 _) _
    rw [MG_of _ r3.2.2.2.1]
    exact Or.inr ⟨W1, c1, m1, o1, rfl, rfl, r3, r4, r5, r6, r7, r8⟩
end JOIN
