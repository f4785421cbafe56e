/-! PURE: cards -/
theorem MG_wp {β : Type} (W : Wd) (a kd : Nat) (r : Rec) (k : Option β) : MG W (wp W a kd r) k = k := MG_of k (Nat.le_refl W.1)
theorem Z0_of {β : Type} {x : Int32} (k : Option β) (h : x = 0) : Z0 x k = k := if_pos h
theorem L80_of {β : Type} {n : Nat} (k : Option β) (h : n ≤ 80) : L80 n k = k := if_pos h
theorem NN_nI {β : Type} {n : Nat} (k : Nat → Option β) (h : n < 2 ^ 31) : NN (nI n) k = k n := by
  unfold NN; rw [if_neg (nI_pos h), nI_clamp h]
/-- the digits of a number to 99 -/
def dgt (v : Nat) : List Nat := if v < 10 then [48 + v] else [48 + v / 10, 48 + v % 10]
theorem neg_v : ∀ v, v < 13 → (-100 : Int32) < -nI v ∧ -(-nI v) = nI v ∧ ((-9 : Int32) ≤ -nI v ↔ v < 10) ∧ ¬ nI v < 0 ∧ 0 ≤ nI v := by decide +kernel
theorem ssz_v : ∀ v, v < 13 → j9_stringSize (nI v) = some (nI (dgt v).length) := by
  intro v hv
  unfold j9_stringSize
  obtain ⟨n, hn⟩ := FU_ge (n := 3) (by omega)
  rw [hn]
  rcases (show v = 0 ∨ v = 1 ∨ v = 2 ∨ v = 3 ∨ v = 4 ∨ v = 5 ∨ v = 6 ∨ v = 7 ∨ v = 8 ∨ v = 9 ∨ v = 10 ∨ v = 11 ∨ v = 12 by omega) with rfl | rfl | rfl | rfl | rfl | rfl | rfl | rfl | rfl | rfl | rfl | rfl | rfl <;> rfl
theorem m_writeNumber_v (m : Rec) {v : Nat} (hv : v < 13) {L : List Nat} (hL : L.length + 2 ≤ 64) : m_writeNumber 59 (mT m L) (nI v) = some (mT m (L ++ dgt v)) := by
  have z10 : ¬ (10 : Int32) = 0 := by decide
  have nz : ∀ {β : Type} (k : Option β), NZ (10 : Int32) k = k := fun k => if_neg z10
  have w1 : ∀ (n v : Nat) (L : List Nat), v < 10 → L.length < 64 → m_writeNumber (n + 1) (mT m L) (nI v) = some (mT m (L ++ [48 + v])) := by
    intro n v L hv hL
    show b_writeNumber (m_writeNumber n) (mT m L) (nI v) = _
    unfold b_writeNumber
    have er : nI v - nI v / (10 : Int32) * (10 : Int32) = nI (v % 10) := pk_rem (d := 10) (by omega) (by omega) (by omega)
    rw [JN1, if_pos (show nI v ≤ (9 : Int32) from nI_le (a := v) (b := 9) (by omega) (by omega))]
    show NZ (10 : Int32) (BD (m_write (mT m L) ((48 : Int32) + (nI v - nI v / (10 : Int32) * (10 : Int32)))) (fun s5 => some s5)) = _
    rw [nz, er, show (48 : Int32) = nI 48 from rfl, nI_add, m_write_v m hL, BD_some, Nat.mod_eq_of_lt hv]
  by_cases h : v < 10
  · unfold dgt; rw [if_pos h]
    exact w1 58 v L h (by omega)
  · unfold dgt; rw [if_neg h]
    show b_writeNumber (m_writeNumber 58) (mT m L) (nI v) = _
    unfold b_writeNumber
    have er : nI v - nI v / (10 : Int32) * (10 : Int32) = nI (v % 10) := pk_rem (d := 10) (by omega) (by omega) (by omega)
    have ed : nI v / (10 : Int32) = nI (v / 10) := pk_div (d := 10) (by omega) (by omega) (by omega)
    rw [JN1, if_neg (show ¬ nI v ≤ (9 : Int32) from nI_ge (a := 9) (b := v) (by omega) (by omega)), nz, ed, w1 57 (v / 10) L (by omega) (by omega), BD_some]
    show NZ (10 : Int32) (BD (m_write (mT m (L ++ [48 + v / 10])) ((48 : Int32) + (nI v - nI (v / 10) * (10 : Int32)))) (fun s5 => some s5)) = _
    rw [ed] at er
    rw [nz, er, show (48 : Int32) = nI 48 from rfl, nI_add, m_write_v m (by simp; omega), BD_some]
    simp
theorem m_writeNext_v (m : Rec) {l L : List Nat} (hl : WD l) (hL : L.length + 1 + l.length ≤ 64) : m_writeNext (mT m L) (lN (p27 l)) = some (mT m (L ++ 32 :: l.reverse)) := by
  obtain ⟨h1, h7, hc⟩ := hl
  unfold m_writeNext
  rw [show (32 : Int32) = nI 32 from rfl, m_write_v m (by omega), BD_some, m_writeWord_v m l 59 (L ++ [32]) (fun e => by rw [e] at h1; simp at h1) hc h7 (by omega) (by simp; omega), BD_some]
  simp
/-- the bytes of a small number -/
theorem getChars_v {G : Wd} {q : Nat} {R : Rec} {v : Nat} (hv : v < 13) (hq : G.2 q = some (62, R)) (hn : gP R 0 = some (dgt v).length) : ∃ w R', j9_getChars G (nI v) (nI (dgt v).length) q = some (w, wp G q 62 R') ∧ gP R' 0 = some (dgt v).length ∧ ∀ i, i < (dgt v).length → gA R' 0 i = nI ((dgt v).getD i 0) := by
  obtain ⟨n1, n2, n3, n4, n5⟩ := neg_v v hv
  have b8 : ∀ t, t < 100 → vp_nar .byte (Int32.ofNat t) = nI t := fun t ht => by rw [nar_b]; exact b7 t (by omega)
  unfold j9_getChars
  rw [JN1, if_pos n5]
  dsimp only
  rw [if_pos rfl]
  obtain ⟨n, hnn⟩ := FU_ge (n := 1) (by omega)
  rw [hnn, LP3_s, if_pos n1, n2, IX_nI _ (by omega) (by omega), RD_of _ hq, hn]
  by_cases h : v < 10
  · have el : (dgt v).length = 1 := by unfold dgt; rw [if_pos h]; rfl
    have ev : dgt v = [48 + v] := by unfold dgt; rw [if_pos h]
    rw [el, show nI 1 + (-1 : Int32) = nI 0 from rfl, show (some 1 : Option Nat).getD 0 = 1 from rfl, IX_nI _ (by omega) (by omega), LT, LT, JN2, if_pos (n3.mpr h)]
    dsimp only
    rw [if_pos rfl, b8 _ (by omega), Nat.mod_eq_of_lt h]
    refine ⟨_, sA R 0 0 (nI (48 + v)), rfl, by rw [gP_sA, hn, el], fun i hi => ?_⟩
    rw [show i = 0 by omega, gA_sAs, ev]; rfl
  · have el : (dgt v).length = 2 := by unfold dgt; rw [if_neg h]; rfl
    have ev : dgt v = [48 + v / 10, 48 + v % 10] := by unfold dgt; rw [if_neg h]
    rw [el] at hn
    rw [el, show nI 2 + (-1 : Int32) = nI 1 from rfl, show (some 2 : Option Nat).getD 0 = 2 from rfl, IX_nI _ (by omega) (by omega), LT, LT, JN2, if_neg (fun e => h (n3.mp e)), IX_nI _ (by omega) (by omega), gP_sA, hn, show (some 2 : Option Nat).getD 0 = 2 from rfl, show nI 1 + (-1 : Int32) = nI 0 from rfl, IX_nI _ (by omega) (by omega), LT, LT]
    dsimp only
    rw [if_pos rfl, wp_wp, b8 _ (by omega), b8 _ (by omega)]
    refine ⟨_, sA (sA R 0 1 (nI (48 + v % 10))) 0 0 (nI (48 + v / 10)), rfl, by rw [gP_sA, gP_sA, hn], fun i hi => ?_⟩
    rw [ev]
    rcases (show i = 0 ∨ i = 1 by omega) with rfl | rfl
    · rw [gA_sAs]; rfl
    · rw [gA_sAi _ _ _ (by omega), gA_sAs]; rfl
/-- a text of a small number is made -/
theorem toString_v {G : Wd} {v : Nat} (hv : v < 13) : ∃ G' S R', j9_toString G (nI v) = some (G.1 + 1, G') ∧ G'.1 = G.1 + 2 ∧ (∀ a, a ≠ G.1 → a ≠ G.1 + 1 → G'.2 a = G.2 a) ∧ G'.2 (G.1 + 1) = some (18, S) ∧ gP S 0 = some G.1 ∧ gI S 1 = 0 ∧ G'.2 G.1 = some (62, R') ∧ gP R' 0 = some (dgt v).length ∧ ∀ i, i < (dgt v).length → gA R' 0 i = nI ((dgt v).getD i 0) := by
  have hl : (dgt v).length ≤ 2 := by unfold dgt; split <;> simp
  have g1 : (wn G 62 (sP r0 0 (some (dgt v).length))).2 G.1 = some (62, sP r0 0 (some (dgt v).length)) := wp_at _ _ _ _
  obtain ⟨w, R', k1, k2, k3⟩ := getChars_v hv g1 (gP_sPs _ _ _)
  unfold j9_toString
  rw [ssz_v v hv, BD_some, NN_nI _ (by omega), L80_of _ (by omega), LT, LT, k1, BD2_some, MG_wp, LT, LT]
  unfold j3_init
  have hz : (wp (wn G 62 (sP r0 0 (some (dgt v).length))) G.1 62 R').1 = G.1 + 1 := rfl
  rw [hz]
  have g2 : (wn (wp (wn G 62 (sP r0 0 (some (dgt v).length))) G.1 62 R') 18 r0).2 (G.1 + 1) = some (18, r0) := wp_at _ _ _ _
  rw [RD_of _ g2, LT, LT, Z0_of _ rfl, LT, LT, BD_some, wp_wp, MG_wp]
  refine ⟨_, sI (sP r0 0 (some G.1)) 1 0, R', rfl, rfl, fun a h1 h2 => ?_, wp_at _ _ _ _, rfl, rfl, ?_, k2, k3⟩
  · rw [wp_ne h2]
    show (wp (wp (wn G 62 (sP r0 0 (some (dgt v).length))) G.1 62 R') (G.1 + 1) 18 r0).2 a = _
    rw [wp_ne h2, wp_ne h1]
    show (wp G G.1 62 _).2 a = _
    rw [wp_ne h1]
  · rw [wp_ne (by omega)]
    show (wp (wp (wn G 62 (sP r0 0 (some (dgt v).length))) G.1 62 R') (G.1 + 1) 18 r0).2 G.1 = _
    rw [wp_ne (by omega)]; exact wp_at _ _ _ _
theorem x1_put_3D_v {W : Wd} {x q p : Nat} {c S R : Rec} {K L : List Nat} (hxq : x ≠ q) (hxp : x ≠ p) (hq : W.2 q = some (18, S)) (hS : gP S 0 = some p) (hS1 : gI S 1 = 0) (hp : W.2 p = some (62, R)) (hR : gP R 0 = some K.length) (hRK : ∀ i, i < K.length → gA R 0 i = nI (K.getD i 0)) (hK : ∀ t ∈ K, t < 128) (hK2 : K.length ≤ 10) (hL : L.length + K.length ≤ 40) (hx : W.2 x = some (0, cT c L)) : x1_put_3D W x q = some (wp W x 0 (cT c (L ++ K))) := by
  unfold x1_put_3D
  have w0 : W = wp W x 0 (cT c (L ++ K.take 0)) := by rw [List.take_zero, List.append_nil, wp_id hx]
  have body : ∀ i, (wp W x 0 (cT c (L ++ K.take i))).2 q = some (18, S) ∧ (wp W x 0 (cT c (L ++ K.take i))).2 p = some (62, R) := fun i => ⟨by rw [wp_ne hxq.symm]; exact hq, by rw [wp_ne hxp.symm]; exact hp⟩
  refine LP2_run (fun i => nI i) (fun i => wp W x 0 (cT c (L ++ K.take i))) 0 K.length (by omega) rfl w0 (fun i _ hi rec => ?_) (fun rec => ?_)
  · obtain ⟨b1, b2⟩ := body i
    have hi' : i < K.length := by omega
    have em : K.getD i 0 = K[i] := by simp [List.getD, hi']
    have ht := hK _ (List.getElem_mem hi')
    have hput := x1_put_2_v c (L := L ++ K.take i) (t := K[i]) (by simp; omega) ht
    show RD _ q 18 _ = rec (nI (i + 1)) (wp W x 0 (cT c (L ++ K.take (i + 1))))
    rw [RD_of _ b1, hS, BD_some, Z0_of _ hS1, RD_of _ b2, hR, show (some K.length : Option Nat).getD 0 = K.length from rfl, if_neg (nI_ge hi' (by omega)), BD_some, Z0_of _ hS1, RD_of _ b2, hR, show (some K.length : Option Nat).getD 0 = K.length from rfl, L80_of _ (by omega), IX_nI _ hi' (by omega), RD_of _ (wp_at _ _ _ _), hRK i hi', em, b7c _ ht, hput, BD_some, LT, wp_wp, nI_1]
    congr 3
    rw [List.append_assoc, List.take_succ_eq_append_getElem hi']
  · obtain ⟨b1, b2⟩ := body K.length
    rw [Nat.zero_add]
    show RD _ q 18 _ = _
    rw [RD_of _ b1, hS, BD_some, Z0_of _ hS1, RD_of _ b2, hR, show (some K.length : Option Nat).getD 0 = K.length from rfl, if_pos (nI_le (Nat.le_refl _) (by omega)), List.take_length]
section OPS
variable {x : Nat} {G : Wd} {m c : Rec} {b : Nat} {e z : Rec} {d : Nat → Nat} {ow : Nat → Nat} {n : Nat} {U : Nat → Nat → Nat}
theorem MS_text {c m : Rec} (h : MS c m) {L : List Nat} (hL : L.length ≤ 40) : MS (cT c L) (mT m L) := by
  obtain ⟨w1, w2, w3, w4, w5, w6, w7, w8, w9⟩ := h
  refine ⟨w1, w2, w3, w4, w5, w6, w7, ⟨L.length, hL, rfl, rfl, fun i hi => ?_⟩, w9⟩
  show wrt (gA c 26) L i = wrt (gA m 33) L i
  unfold wrt; rw [if_pos hi, if_pos hi]
theorem cT_nil (c : Rec) : sI c 27 0 = cT c [] := by unfold cT; rw [wrt_nil, sB_id]; rfl
theorem mT_nil (m : Rec) : sI m 34 0 = mT m [] := by unfold mT; rw [wrt_nil, sB_id]; rfl
theorem op_card (h : RR x G m c b e z d ow n U) (p : Int32) : ANS x G (x1_card G x p) (m_card m p) := by
  have hd := h.di
  have hN := hd.N
  have hf := hd.ferns
  unfold x1_card m_card
  simp only [LT]
  have h1 := h.t0 0
  generalize sI m 0 0 = s at h1 ⊢
  rw [RD_of _ h.hx, h.hb, BD_some, RD_of _ h.g2, x1_isPlant_v h.hb h.he, m_isPlant_v h1.h14, BD_some, BD_some]
  rcases inn_count p (d 1) (by omega) with ⟨hp, p, hp0, rfl⟩ | hp
  · obtain ⟨l, hl, n1, n2⟩ := h1.nm.2.1 p hp0
    have hl7 := hl.2.1
    have hl1 := hl.1
    have hlr : l.reverse.length = l.length := List.length_reverse
    have hb7 : gP (sI c 27 0) 6 = some b := h.hb
    have g8 : (wp G x 0 (sI c 27 0)).2 b = some (2, e) := wpk h.hx h.g2 (by omega)
    rw [hp, if_neg (show ¬ bI true = (0 : Int32) by decide), if_neg (show ¬ bI true = (0 : Int32) by decide), hb7, BD_some, RD_of _ g8, IX_nI _ (by omega) (by omega), n1, show (5 : Int32) = nI 5 from rfl, nI_add, IX_nI _ (by omega) (by omega), cT_nil, mT_nil]
    have n2' : gL (mT s []) 19 (5 + p) = lN (p27 l) := n2
    have ep := x1_put_v c (L := []) hl (by simp; omega)
    have em := m_writeWord_v s l 59 [] (fun e => by rw [e] at hl1; simp at hl1) hl.2.2 hl7 (by omega) (by simp; omega)
    rw [List.nil_append] at ep em
    rw [ep, n2', em, BD_some, BD_some, wp_wp]
    have hbT : ∀ L, gP (cT c L) 6 = some b := fun L => h.hb
    have g2T : ∀ L, (wp G x 0 (cT c L)).2 b = some (2, e) := fun L => wpk h.hx h.g2 (by omega)
    have g3T : ∀ L, (wp G x 0 (cT c L)).2 (x + 13) = some (3, z) := fun L => wpk h.hx h.g3 (by omega)
    have t14 : ∀ L, gA (mT s L) 14 = RF d := fun L => h1.h14
    have e11 := h.he.2.2.2.2.1
    rw [hbT, BD_some, RD_of _ (g2T _), e11, x1_has_v, hs_nI (by omega) (by omega), BD_some, m_isFern_v (t14 _) hd (by omega), BD_some]
    have hCK : ∀ L, CK c (cT c L) := fun L => ⟨rfl, rfl, rfl, rfl, rfl⟩
    have hMK : ∀ L, MK s (mT s L) := fun L => ⟨rfl, rfl, rfl, rfl, rfl, rfl, rfl⟩
    cases fe : (d 23).testBit p
    · rw [if_pos (show bI false = (0 : Int32) from rfl), if_pos (show bI false = (0 : Int32) from rfl)]
      have sp : m_spelt (104 : Int32) (97 : Int32) (115 : Int32) (0 : Int32) (0 : Int32) (0 : Int32) (0 : Int32) = some (lN (p27 [115, 97, 104])) := by decide +kernel
      have q3 := x1_put_3_v c (j := 23) (K := [32, 104, 97, 115, 32]) (L := l.reverse) (by decide) (by decide) (by simp; omega)
      have q4 := m_writeNext_v s (l := [115, 97, 104]) (L := l.reverse) ⟨by decide, by decide, by decide⟩ (by simp; omega)
      rw [sp, BD_some, q4, BD_some, q3, BD_some, wp_wp]
      have q5 := m_write_v s (L := l.reverse ++ 32 :: [115, 97, 104].reverse) (t := 32) (by simp; omega)
      have eL : l.reverse ++ 32 :: [115, 97, 104].reverse ++ [32] = l.reverse ++ [32, 104, 97, 115, 32] := by simp
      rw [eL] at q5
      generalize hLL : l.reverse ++ [32, 104, 97, 115, 32] = L at q5 ⊢
      have hL : L.length ≤ 12 := by rw [← hLL]; simp; omega
      rw [show (32 : Int32) = nI 32 from rfl, q5, BD_some, RD_of _ (g3T _)]
      have l1 : x4_leaves z (nI p) (1 : Int32) = some (nI (s_hw d true p)) := x4_leaves_v h.hz hd true (by omega)
      have m1 : m_shownBy (mT s L) (nI p) (1 : Int32) = some (nI (setN (hw d true p) (d 25))) := m_shownBy_v (t14 _) hd true (by omega)
      have b1 : m_bits (nI (setN (hw d true p) (d 25))) = some (nI (s_hw d true p)) := m_bits_set hd.acts
      have hv := s_hw_le hd true p
      generalize s_hw d true p = v at l1 b1 hv
      have hv13 : v < 13 := by omega
      have hK : ∀ t ∈ dgt v, t < 128 := by
        unfold dgt
        split
        · intro t ht; simp at ht; omega
        · intro t ht; simp at ht; omega
      have hKl : (dgt v).length ≤ 2 := by unfold dgt; split <;> simp
      rw [l1, BD_some, m1, BD_some, b1, BD_some, m_writeNumber_v s hv13 (by omega), BD_some]
      obtain ⟨G', S, R', t1, t2, t3, t4, t5, t6, t7, t8, t9⟩ := toString_v (G := wp G x 0 (cT c L)) hv13
      have hx := h.hx
      have b6 := h.1.2.2.2.2.2
      have hxG : x < G.1 := Nat.lt_of_not_le (fun hh => by rw [b6 x hh] at hx; cases hx)
      have t3' : ∀ a, a < G.1 → G'.2 a = (wp G x 0 (cT c L)).2 a := fun a ha => t3 a (by show a ≠ G.1; omega) (by show a ≠ G.1 + 1; omega)
      have gx : G'.2 x = some (0, cT c L) := by rw [t3' x hxG]; exact wp_at _ _ _ _
      have p3 := x1_put_3D_v (W := G') (x := x) (q := G.1 + 1) (p := G.1) (c := c) (S := S) (R := R') (K := dgt v) (L := L) (by omega) (by omega) t4 t5 t6 t7 t8 t9 hK (by omega) (by omega) gx
      have t1' : j9_toString (wp G x 0 (cT c L)) (nI v) = some (G.1 + 1, G') := t1
      rw [t1', BD2_some, MG_of _ (by rw [t2]; show G.1 ≤ G.1 + 2; omega), RD_of _ gx, p3, BD_some, MG_wp, RD_of _ (wp_at _ _ _ _), hbT, BD_some]
      have alive : ∀ {a kd : Nat} {r : Rec}, G.2 a = some (kd, r) → a < G.1 := fun {a kd r} ha => Nat.lt_of_not_le (fun hh => by rw [b6 a hh] at ha; cases ha)
      have kept : ∀ a kd r, a ≠ x → G.2 a = some (kd, r) → G'.2 a = some (kd, r) := fun a kd r h1 h2 => by
        rw [t3' a (alive h2), wp_ne h1]; exact h2
      have gz : ∀ q, (wp G' x 0 q).2 (x + 13) = some (3, z) := fun q => by rw [wp_ne (by omega)]; exact kept _ _ _ (by omega) h.g3
      have ge : ∀ q, (wp G' x 0 q).2 b = some (2, e) := fun q => by
        have hbx : b ≠ x := kd_ne h.g2 hx (by omega)
        rw [wp_ne hbx]; exact kept _ _ _ hbx h.g2
      have gn : ∀ q a, (wp G' x 0 q).1 ≤ a → (wp G' x 0 q).2 a = none := fun q a ha => by
        have ha' : G'.1 ≤ a := ha
        rw [t2] at ha'
        have ha2 : G.1 + 2 ≤ a := ha'
        rw [wp_ne (by omega), t3 a (by show a ≠ G.1; omega) (by show a ≠ G.1 + 1; omega), wp_ne (by omega)]
        exact b6 a (by omega)
      have kp : ∀ q, KP G (wp G' x 0 q) := fun q => ⟨by show G.1 ≤ G'.1; rw [t2]; show G.1 ≤ G.1 + 2; omega, by show G'.1 ≤ G.1 + 90; rw [t2]; show G.1 + 2 ≤ G.1 + 90; omega, fun a kd r hk ha => by
        have hax : a ≠ x := kd_ne ha hx (by omega)
        rw [wp_ne hax]; exact kept a kd r hax ha⟩
      have rr : ∀ L', L'.length ≤ 40 → RR x (wp G' x 0 (cT c L')) (mT s L') (cT c L') b e z d ow n U := fun L' hL' => h1.ext (wp_at _ _ _ _) (fun a kd r h1 h2 => by rw [wp_ne h1]; exact kept a kd r h1 h2) (gn _) (hCK L') (MS_text h1.ms hL') (hMK L')
      have ms0 : m_seesOf (mT s (L ++ dgt v)) (nI p) (0 : Int32) = some (nI (sees d p 0)) := m_seesOf_v (k := 0) (t14 _) hd hp0 (by omega)
      have hsl := sees_lt hd (p := p) (k := 0) hp0
      rw [RD_of _ (gz _), RD_of _ (ge _), x4_sees_v h.he h.hz hd hp0, BD_some, ms0, BD_some]
      by_cases bl : sees d p 0 = 0
      · have q6 := x1_put_3_v c (j := 24) (K := [32, 98, 108, 105, 110, 100]) (L := L ++ dgt v) (by decide) (by decide) (by simp; omega)
        have wo : m_wordOf (14 : Int32) = some (lN (p27 [100, 110, 105, 108, 98])) := by decide +kernel
        have q7 := m_writeNext_v s (l := [100, 110, 105, 108, 98]) (L := L ++ dgt v) ⟨by decide, by decide, by decide⟩ (by simp; omega)
        have e2 : L ++ dgt v ++ 32 :: [100, 110, 105, 108, 98].reverse = L ++ dgt v ++ [32, 98, 108, 105, 110, 100] := by simp
        rw [e2] at q7
        rw [bl, if_pos (show nI 0 = (0 : Int32) from rfl), if_pos (show nI 0 = (0 : Int32) from rfl), q6, BD_some, wo, BD_some, q7, BD_some, wp_wp]
        exact ⟨_, _, _, rfl, rfl, kp _, (rr _ (by simp; omega)).rel⟩
      · have nb : ¬ nI (sees d p 0) = 0 := nI_ne0 (by omega) (by omega)
        rw [if_neg nb, if_neg nb]
        exact ⟨_, _, _, rfl, rfl, kp _, (rr _ (by simp; omega)).rel⟩
    · rw [if_neg (show ¬ bI true = (0 : Int32) by decide), if_neg (show ¬ bI true = (0 : Int32) by decide)]
      have s1 : m_spelt (105 : Int32) (115 : Int32) (0 : Int32) (0 : Int32) (0 : Int32) (0 : Int32) (0 : Int32) = some (lN (p27 [115, 105])) := by decide +kernel
      have s2 : m_spelt (97 : Int32) (0 : Int32) (0 : Int32) (0 : Int32) (0 : Int32) (0 : Int32) (0 : Int32) = some (lN (p27 [97])) := by decide +kernel
      have s3 : m_wordOf (15 : Int32) = some (lN (p27 [110, 114, 101, 102])) := by decide +kernel
      have q1 := x1_put_3_v c (j := 22) (K := [32, 105, 115, 32, 97, 32, 102, 101, 114, 110]) (L := l.reverse) (by decide) (by decide) (by simp; omega)
      have q2 := m_writeNext_v s (l := [115, 105]) (L := l.reverse) ⟨by decide, by decide, by decide⟩ (by simp; omega)
      have q3 := m_writeNext_v s (l := [97]) (L := l.reverse ++ 32 :: [115, 105].reverse) ⟨by decide, by decide, by decide⟩ (by simp; omega)
      have q4 := m_writeNext_v s (l := [110, 114, 101, 102]) (L := l.reverse ++ 32 :: [115, 105].reverse ++ 32 :: [97].reverse) ⟨by decide, by decide, by decide⟩ (by simp; omega)
      have e2 : l.reverse ++ 32 :: [115, 105].reverse ++ 32 :: [97].reverse ++ 32 :: [110, 114, 101, 102].reverse = l.reverse ++ [32, 105, 115, 32, 97, 32, 102, 101, 114, 110] := by simp
      rw [e2] at q4
      rw [s1, BD_some, q2, BD_some, s2, BD_some, q3, BD_some, s3, BD_some, q4, BD_some, q1, BD_some, wp_wp]
      refine ⟨_, _, _, rfl, rfl, (KPn_wp h.hx (by omega) (by omega)).kp (by omega), (h1.main (hCK _) (MS_text h1.ms (by simp; omega)) (hMK _)).rel⟩
  · rw [hp]
    exact h1.ans (v := M1) rfl rfl
end OPS
