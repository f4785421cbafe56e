/-! PURE: what is kept to come back to; acts -/
def KPn (k : Nat) (G G' : Wd) : Prop := G.1 ≤ G'.1 ∧ G'.1 ≤ G.1 + k ∧ ∀ a kd r, (kd = 7 ∨ kd = 61) → G.2 a = some (kd, r) → G'.2 a = some (kd, r)
theorem KPn.refl (G : Wd) : KPn 0 G G := ⟨Nat.le_refl _, by omega, fun _ _ _ _ h => h⟩
theorem KPn.trans {A B C : Wd} {j k : Nat} (h : KPn j A B) (h2 : KPn k B C) : KPn (j + k) A C := ⟨Nat.le_trans h.1 h2.1, by have := h.2.1; have := h2.2.1; omega, fun a kd r hk h0 => h2.2.2 a kd r hk (h.2.2 a kd r hk h0)⟩
theorem KPn.mono {A B : Wd} {j k : Nat} (h : KPn j A B) (hk : j ≤ k) : KPn k A B := ⟨h.1, by have := h.2.1; omega, h.2.2⟩
theorem KPn.kp {A B : Wd} {j : Nat} (h : KPn j A B) (hk : j ≤ 90) : KP A B := h.mono hk
theorem KPn_wp {G : Wd} {x k0 : Nat} {c c' : Rec} (hx : G.2 x = some (k0, c)) (h2 : k0 ≠ 7) (h3 : k0 ≠ 61) : KPn 0 G (wp G x k0 c') := ⟨Nat.le_refl _, by show G.1 ≤ G.1 + 0; omega, fun a kd r hk ha => wpk hx ha (by omega)⟩
section OPS
variable {x : Nat} {G : Wd} {m c : Rec} {b : Nat} {e z : Rec} {d : Nat → Nat} {ow : Nat → Nat} {n : Nat} {U : Nat → Nat → Nat}
theorem RR.em (h : RR x G m c b e z d ow n U) : sB m 14 (RF d) = m := by
  have := sB_id m 14
  rw [h.h14] at this; exact this
theorem RR.live {s : Rec} (h : RR x G (sB s 14 (RF d)) c b e z d ow n U) {z' : Rec} {d' : Nat → Nat} (hk : KH d d') (g : GD d') (hz : ZS z' d') : RR x (wp G (x + 13) 3 z') (sB s 14 (RF d')) c b e z' d' ow n U := h.now hk g hz h.ms rfl rfl (gA_sBs _ _ _) rfl rfl rfl rfl
theorem RR.kept (h : RR x G m c b e z d ow n U) {G3 : Wd} {c3 y y' : Rec} {a k : Nat} {ow' : Nat → Nat} {U' : Nat → Nat → Nat} {m' : Rec} (hk : k < 8)
    (hx3 : G3.2 x = some (0, c3)) (ha : G3.2 a = some (3, y)) (hsm : ∀ q kd r, q ≠ x → G.2 q = some (kd, r) → G3.2 q = some (kd, r)) (hno : ∀ q, G3.1 ≤ q → G3.2 q = none)
    (o0 : ow' (x + 13) = 0) (o1 : ow' (x + 21) = 1) (oI : ∀ q kd r, 10 ≤ ow q → G.2 q = some (kd, r) → ow' q = ow q) (oa : ow' a = 2 + k)
    (p6 : gP c3 6 = gP c 6) (p31 : gP c3 31 = gP c 31) (q32 : gQ c3 32 = gQ c 32)
    (hQ : ∀ i, i < 8 → i ≠ k → ∀ q, gQ c3 12 i = some q → (∃ zi, G.2 q = some (3, zi)) ∧ ow' q = 2 + i)
    (hU : ∀ i, i < k → ∃ q zi, gQ c3 12 i = some q ∧ G.2 q = some (3, zi) ∧ ZS zi (U' i)) (hUk : U' k = d) (hy : ZS y' d)
    (hM : MS (sI (sQ c3 12 k (some a)) 13 (nI (k + 1))) m') (l19 : gL m' 19 = gL m 19) (l21 : gL m' 21 = gL m 21) (a14 : gA m' 14 = RF d) (a16 : gA m' 16 = gA m 16) (a22 : gA m' 22 = gA m 22)
    (i24 : gI m' 24 = nI (k + 1)) (a17 : ∀ i, i < k + 1 → ∀ j, j < 140 → gA m' 17 (140 * i + j) = RF (U' i) (24 + j)) (hGD : ∀ i, i < k + 1 → GD (mixD (U' i) d)) :
    RR x (wp (wp G3 a 3 y') x 0 (sI (sQ c3 12 k (some a)) 13 (nI (k + 1)))) m' (sI (sQ c3 12 k (some a)) 13 (nI (k + 1))) b e z d ow' (k + 1) U' := by
  obtain ⟨⟨b1, b2, b3, b4, ⟨yt, b5⟩, b6⟩, ⟨s1, s2, s3, s4, s5⟩, -, ⟨u1, u2, u3, u4, u5, u6, u7, u8, u9⟩, hI, hS⟩ := h
  have hax : a ≠ x := kd_ne ha hx3 (by omega)
  have L : ∀ {q kd : Nat} {r : Rec}, G.2 q = some (kd, r) → kd ≠ 0 → kd ≠ 3 → (wp (wp G3 a 3 y') x 0 (sI (sQ c3 12 k (some a)) 13 (nI (k + 1)))).2 q = some (kd, r) := by
    intro q kd r h1 h2 h3
    have hqx : q ≠ x := kd_ne h1 b1 h2
    have h4 := hsm q kd r hqx h1
    rw [wp_ne hqx, wp_ne (kd_ne h4 ha h3)]; exact h4
  have L3 : ∀ {q : Nat} {r : Rec}, G.2 q = some (3, r) → q ≠ a → (wp (wp G3 a 3 y') x 0 (sI (sQ c3 12 k (some a)) 13 (nI (k + 1)))).2 q = some (3, r) := by
    intro q r h1 h2
    have hqx : q ≠ x := kd_ne h1 b1 (by omega)
    rw [wp_ne hqx, wp_ne h2]; exact hsm q 3 r hqx h1
  have hF : FX G (wp (wp G3 a 3 y') x 0 (sI (sQ c3 12 k (some a)) 13 (nI (k + 1)))) := fun q kd r hk hq => L hq (by omega) (by omega)
  refine ⟨⟨wp_at _ _ _ _, p6.trans b2, L b3 (by omega) (by omega), L3 b4 (fun e => by rw [e, oa] at o0; omega), ⟨yt, L3 b5 (fun e => by rw [e, oa] at o1; omega)⟩, ?_⟩, ⟨s1, by rw [l19]; exact s2, s3, s4, a14⟩, hM, ⟨by omega, rfl, i24, a17, hGD, ?_, ?_, o0, o1⟩, ?_, ?_⟩
  · intro q hq
    have h1 : G3.2 q = none := hno q hq
    rw [wp_ne (fun e => by rw [e, hx3] at h1; cases h1), wp_ne (fun e => by rw [e, ha] at h1; cases h1)]; exact h1
  · intro i hi
    by_cases ei : i = k
    · subst ei
      refine ⟨a, y', gQ_sQs _ _ _ _, ?_, by rw [hUk]; exact hy⟩
      rw [wp_ne hax]; exact wp_at _ _ _ _
    · obtain ⟨q, zi, h1, h2, h3⟩ := hU i (by omega)
      have h4 := (hQ i (by omega) ei q h1).2
      refine ⟨q, zi, (gQ_sQi c3 12 (some a) ei).trans h1, L3 h2 (fun e => by rw [e, oa] at h4; omega), h3⟩
  · intro i hi q hq
    by_cases ei : i = k
    · subst ei
      have h1 : some a = some q := (gQ_sQs c3 12 i (some a)).symm.trans hq
      cases h1
      refine ⟨⟨y', ?_⟩, oa⟩
      rw [wp_ne hax]; exact wp_at _ _ _ _
    · have h1 : gQ c3 12 i = some q := (gQ_sQi c3 12 (some a) ei).symm.trans hq
      obtain ⟨⟨zi, h2⟩, h3⟩ := hQ i hi ei q h1
      exact ⟨⟨zi, L3 h2 (fun e => by rw [e, oa] at h3; omega)⟩, h3⟩
  · intro j hj
    refine IM1_ext hj (hI j hj) (congrFun q32 j) (by rw [a22]) (fun _ _ => by rw [a16]) (fun _ _ => by rw [l21]) hF (fun q r _ h1 h2 => ⟨L h2 (by omega) (by omega), ?_⟩) (fun q r h1 h2 => ?_)
    · rw [oI q 17 r (by omega) h2]; exact h1
    · have h3 := oI q 3 r (by omega) h2
      exact ⟨L3 h2 (fun e => by rw [e] at h3 h1; omega), by rw [h3]; exact h1⟩
  · have e31 : gP (sI (sQ c3 12 k (some a)) 13 (nI (k + 1))) 31 = gP c 31 := p31
    rw [e31]; exact SEN_ext hF (fun _ _ _ => rfl) hS
theorem keep_core {G3 : Wd} {c3 y y' : Rec} {a k : Nat} (hk : k < 8) (hx3 : G3.2 x = some (0, c3)) (h13 : gI c3 13 = nI k) (ha : G3.2 a = some (3, y)) (hz3 : G3.2 (x + 13) = some (3, z)) (hne : x + 13 ≠ a) (hbe : x4_be y z = some y') : RD G3 x 0 (fun s8 => RD G3 a 3 (fun s10 => RD G3 (x + 13) 3 (fun s11 => NE (x + 13) a (BD (x4_be s10 s11) (fun s13 => RD (wp G3 a 3 s13) x 0 (fun s15 => IX (gI s15 13) 8 (fun i16 => some (wp (wp (wp G3 a 3 s13) x 0 (sQ s15 12 i16 (some a))) x 0 (sI (sQ s15 12 i16 (some a)) 13 ((gI (sQ s15 12 i16 (some a)) 13) + (1 : Int32)))))))))) ) = some (wp (wp G3 a 3 y') x 0 (sI (sQ c3 12 k (some a)) 13 (nI (k + 1)))) := by
  have hax : a ≠ x := kd_ne ha hx3 (by omega)
  have h1 : (wp G3 a 3 y').2 x = some (0, c3) := by rw [wp_ne hax.symm]; exact hx3
  rw [RD_of _ hx3, RD_of _ ha, RD_of _ hz3, NE_of _ hne, hbe, BD_some, RD_of _ h1, h13, IX_nI _ hk (by omega), wp_wp, gI_sQ, h13, nI_1]
theorem keep_v (h : RR x G m c b e z d ow n U) : ∃ G' c' ow' s1, x1_keep G x = some G' ∧ m_snap m = some (sB s1 14 (RF d)) ∧ KPn 8 G G' ∧ RR x G' (sB s1 14 (RF d)) c' b e z d ow' (snK n) (snU U d n) := by
  have h' := h
  obtain ⟨⟨b1, b2, b3, b4, ⟨yt, b5⟩, b6⟩, ⟨s1, s2, s3, s4, s5⟩, hM, ⟨u1, u2, u3, u4, u5, u6, u7, u8, u9⟩, hI, hS⟩ := h
  have hsn := m_snap_v m d u1 u3
  rw [h'.em] at hsn
  have hxx : x + 13 ≠ x := by omega
  unfold x1_keep
  simp only [JN2, JN1, LT]
  rw [RD_of _ b1, u2]
  by_cases c8 : n = 8
  · subst c8
    rw [if_pos (show nI 8 = 8 from rfl)]
    obtain ⟨a, y, a1, a2, a3⟩ := u6 0 (by omega)
    have hax : a ≠ x := kd_ne a2 b1 (by omega)
    have oa := (u7 0 (by omega) a a1).2
    obtain ⟨y', be1, be2⟩ := x4_be_v (y := y) s3
    rw [a1, BD_some, RD_of _ b1, u2, if_pos (show nI 8 = 8 from rfl)]
    have hAQ : AQb G (gQ c 12) 1 7 3 = true := by
      unfold AQb
      rw [List.all_eq_true]
      intro i hi
      have hi' := List.mem_range.mp hi
      cases hq : gQ c 12 (1 + i) with
      | none => rfl
      | some q =>
        obtain ⟨⟨zi, h1⟩, -⟩ := u7 (1 + i) (by omega) q hq
        show (match G.2 q with | some q => q.1 == 3 | none => false) = true
        rw [h1]; rfl
    unfold AQ
    rw [if_pos hAQ, wp_wp]
    have e13 : gI (sR c 12 (va_cpy (gQ c 12) (gQ c 12) 1 0 7)) 13 = nI 8 := u2
    rw [e13, show nI 8 - (1 : Int32) = nI 7 from rfl]
    have q3 : ∀ i, i < 7 → gQ (sI (sR c 12 (va_cpy (gQ c 12) (gQ c 12) 1 0 7)) 13 (nI 7)) 12 i = gQ c 12 (i + 1) := fun i hi => by
      show va_cpy (gQ c 12) (gQ c 12) 1 0 7 i = _
      rw [pk_cpy_in (by omega) (by omega)]; congr 1; omega
    generalize hc3 : sI (sR c 12 (va_cpy (gQ c 12) (gQ c 12) 1 0 7)) 13 (nI 7) = c3 at q3
    have p6 : gP c3 6 = gP c 6 := by rw [← hc3]; rfl
    have p31 : gP c3 31 = gP c 31 := by rw [← hc3]; rfl
    have q32 : gQ c3 32 = gQ c 32 := by rw [← hc3]; rfl
    have e3 : gI c3 13 = nI 7 := by rw [← hc3]; rfl
    have hx3 : (wp G x 0 c3).2 x = some (0, c3) := wp_at _ _ _ _
    have ha3 : (wp G x 0 c3).2 a = some (3, y) := by rw [wp_ne hax]; exact a2
    have hz3 : (wp G x 0 c3).2 (x + 13) = some (3, z) := by rw [wp_ne hxx]; exact b4
    have hne : x + 13 ≠ a := fun e => by rw [← e, u8] at oa; omega
    refine ⟨_, sI (sQ c3 12 7 (some a)) 13 (nI (7 + 1)), fun q => if ow q = 2 then 9 else if 3 ≤ ow q ∧ ow q ≤ 9 then ow q - 1 else ow q, _, keep_core (by omega) hx3 e3 ha3 hz3 hne be1, hsn, ?_, ?_⟩
    · refine (KPn_wp b1 (by omega) (by omega)).trans ((KPn_wp ha3 (by omega) (by omega)).trans (KPn_wp (k0 := 0) (c := c3) ?_ (by omega) (by omega))) |>.mono (by omega)
      rw [wp_ne hax.symm]; exact wp_at _ _ _ _
    · have hw : ∀ i, i < 7 → ∀ q, gQ c 12 (i + 1) = some q → (if ow q = 2 then 9 else if 3 ≤ ow q ∧ ow q ≤ 9 then ow q - 1 else ow q) = 2 + i := fun i hi q hq => by
        have := (u7 (i + 1) (by omega) q hq).2
        rw [if_neg (by omega), if_pos (by omega)]; omega
      refine h'.kept (by omega) hx3 ha3 (fun q kd r h1 h2 => by rw [wp_ne h1]; exact h2) ?_ ?_ ?_ ?_ ?_ p6 p31 q32 ?_ ?_ ?_ be2 ?_ rfl rfl (gA_sBs _ _ _) rfl rfl rfl ?_ ?_
      · exact none_wp b1 b6
      · show (if ow (x + 13) = 2 then 9 else _) = 0; rw [u8]; rfl
      · show (if ow (x + 21) = 2 then 9 else _) = 1; rw [u9]; rfl
      · intro q kd r h1 _; show (if ow q = 2 then 9 else _) = _; rw [if_neg (by omega), if_neg (by omega)]
      · show (if ow a = 2 then 9 else _) = 2 + 7; rw [if_pos (by omega)]
      · intro i hi hik q hq
        rw [q3 i (by omega)] at hq
        exact ⟨(u7 (i + 1) (by omega) q hq).1, hw i (by omega) q hq⟩
      · intro i hi
        obtain ⟨q, zi, h1, h2, h3⟩ := u6 (i + 1) (by omega)
        refine ⟨q, zi, by rw [q3 i hi]; exact h1, h2, ?_⟩
        show ZS zi (if i < 7 then U (i + 1) else d); rw [if_pos hi]; exact h3
      · show (if 7 < 7 then U (7 + 1) else d) = d; rfl
      · rw [← hc3]; exact hM
      · intro i hi j hj
        show va_cpy (RF d) (va_cpy (gA m 17) (gA m 17) 140 0 980) 24 980 140 (140 * i + j) = RF (if i < 7 then U (i + 1) else d) (24 + j)
        by_cases ei : i = 7
        · subst ei
          rw [pk_cpy_in (by omega) (by omega), if_neg (by omega), show 24 + (140 * 7 + j - 980) = 24 + j by omega]
        · rw [pk_cpy_out (by omega), pk_cpy_in (by omega) (by omega), if_pos (by omega), show 140 + (140 * i + j - 0) = 140 * (i + 1) + j by omega]
          exact u4 (i + 1) (by omega) j hj
      · intro i hi
        show GD (mixD (if i < 7 then U (i + 1) else d) d)
        by_cases ei : i = 7
        · subst ei; rw [if_neg (by omega), mix_self]; exact s4
        · rw [if_pos (by omega)]; exact u5 (i + 1) (by omega)
  · have hn : n < 8 := by omega
    have ne8 : ¬ nI n = 8 := fun e => c8 ((nI_eq (b := 8) (by omega) (by omega)).mp e)
    have eK : snK n = n + 1 := if_neg c8
    have eU : snU U d n = (fun i => if i = n then d else U i) := if_neg c8
    have eT : snT (gA m 17) d n = va_cpy (RF d) (gA m 17) 24 (140 * n) 140 := if_neg c8
    rw [eT, eK] at hsn
    rw [eK, eU, if_neg ne8, IX_nI _ hn (by omega)]
    have kU : ∀ i, i < n → ∃ q zi, gQ c 12 i = some q ∧ G.2 q = some (3, zi) ∧ ZS zi ((fun i => if i = n then d else U i) i) := fun i hi => by
      obtain ⟨q, zi, h1, h2, h3⟩ := u6 i hi
      exact ⟨q, zi, h1, h2, by show ZS zi (if i = n then d else U i); rw [if_neg (by omega)]; exact h3⟩
    have k17 : ∀ i, i < n + 1 → ∀ j, j < 140 → va_cpy (RF d) (gA m 17) 24 (140 * n) 140 (140 * i + j) = RF ((fun i => if i = n then d else U i) i) (24 + j) := fun i hi j hj => by
      show _ = RF (if i = n then d else U i) (24 + j)
      by_cases ei : i = n
      · subst ei; rw [pk_cpy_in (by omega) (by omega), if_pos rfl]; congr 1; omega
      · rw [pk_cpy_out (by omega), if_neg ei]; exact u4 i (by omega) j hj
    have kG : ∀ i, i < n + 1 → GD (mixD ((fun i => if i = n then d else U i) i) d) := fun i hi => by
      show GD (mixD (if i = n then d else U i) d)
      by_cases ei : i = n
      · rw [if_pos ei, mix_self]; exact s4
      · rw [if_neg ei]; exact u5 i (by omega)
    by_cases hq : gQ c 12 n = none
    · rw [if_pos hq]
      have hgx : x ≠ G.1 := fun e => by rw [e, b6 _ (Nat.le_refl _)] at b1; cases b1
      have hsm : ∀ q kd r, G.2 q = some (kd, r) → (wf (wn G 103 r0) G.1 3 zS 7).2 q = some (kd, r) := fun q kd r h1 => by
        have hqg : q ≠ G.1 := fun e => by rw [e, b6 _ (Nat.le_refl _)] at h1; cases h1
        show (wp (wn G 103 r0) G.1 3 zS).2 q = _
        rw [wp_ne hqg]
        show (wp G G.1 103 r0).2 q = _
        rw [wp_ne hqg]; exact h1
      have hx3 := hsm x 0 c b1
      have ha3 : (wf (wn G 103 r0) G.1 3 zS 7).2 G.1 = some (3, zS) := wp_at _ _ _ _
      have hz3 := hsm (x + 13) 3 z b4
      have hne : x + 13 ≠ G.1 := fun e => by rw [e, b6 _ (Nat.le_refl _)] at b4; cases b4
      obtain ⟨y', be1, be2⟩ := x4_be_v (y := zS) s3
      have hz1 : (wf (wn G 103 r0) G.1 3 zS 7).1 = G.1 + 8 := rfl
      rw [RD_of _ hx3, u2, if_neg ne8]
      refine ⟨_, sI (sQ c 12 n (some G.1)) 13 (nI (n + 1)), va_up ow G.1 (2 + n), _, keep_core hn hx3 u2 ha3 hz3 hne be1, hsn, ?_, ?_⟩
      · refine ⟨?_, ?_, fun q kd r hk h1 => ?_⟩
        · show G.1 ≤ G.1 + 8; omega
        · show G.1 + 8 ≤ G.1 + 8; omega
        · have hqx : q ≠ x := kd_ne h1 b1 (by omega)
          have hqg : q ≠ G.1 := fun e => by rw [e, b6 _ (Nat.le_refl _)] at h1; cases h1
          rw [wp_ne hqx, wp_ne hqg]; exact hsm q kd r h1
      · have og : ∀ q kd r, G.2 q = some (kd, r) → va_up ow G.1 (2 + n) q = ow q := fun q kd r h1 => up_n _ _ (fun e => by rw [e, b6 _ (Nat.le_refl _)] at h1; cases h1)
        refine h'.kept hn hx3 ha3 (fun q kd r _ h2 => hsm q kd r h2) ?_ ?_ ?_ ?_ (up_s _ _ _) rfl rfl rfl ?_ kU ?_ be2 hM rfl rfl (gA_sBs _ _ _) rfl rfl rfl k17 kG
        · intro q hq
          have hq' : G.1 + 8 ≤ q := hq
          show (wp (wn G 103 r0) G.1 3 zS).2 q = _
          rw [wp_ne (by omega)]
          show (wp G G.1 103 r0).2 q = _
          rw [wp_ne (by omega)]; exact b6 q (by omega)
        · rw [og _ _ _ b4]; exact u8
        · rw [og _ _ _ b5]; exact u9
        · intro q kd r _ h1; exact og q kd r h1
        · intro i hi hik q h1
          obtain ⟨⟨zi, h2⟩, h3⟩ := u7 i hi q h1
          exact ⟨⟨zi, h2⟩, by rw [og _ _ _ h2]; exact h3⟩
        · show (if n = n then d else U n) = d; rw [if_pos rfl]
    · rw [if_neg hq]
      obtain ⟨a, ha⟩ : ∃ a, gQ c 12 n = some a := by
        cases hh : gQ c 12 n with
        | none => exact absurd hh hq
        | some a => exact ⟨a, rfl⟩
      obtain ⟨⟨y, a2⟩, oa⟩ := u7 n hn a ha
      obtain ⟨y', be1, be2⟩ := x4_be_v (y := y) s3
      have hne : x + 13 ≠ a := fun e => by rw [← e, u8] at oa; omega
      have hax : a ≠ x := kd_ne a2 b1 (by omega)
      rw [ha, BD_some, RD_of _ b1, u2, if_neg ne8]
      refine ⟨_, sI (sQ c 12 n (some a)) 13 (nI (n + 1)), ow, _, keep_core hn b1 u2 a2 b4 hne be1, hsn, ?_, ?_⟩
      · refine ((KPn_wp a2 (by omega) (by omega)).trans (KPn_wp (k0 := 0) (c := c) ?_ (by omega) (by omega))).mono (by omega)
        rw [wp_ne hax.symm]; exact b1
      · exact h'.kept hn b1 a2 (fun q kd r _ h2 => h2) b6 u8 u9 (fun q _ _ _ _ => rfl) oa rfl rfl rfl (fun i hi _ q h1 => u7 i hi q h1) kU (by show (if n = n then d else U n) = d; rw [if_pos rfl]) be2 hM rfl rfl (gA_sBs _ _ _) rfl rfl rfl k17 kG
theorem RR.rel (h : RR x G m c b e z d ow n U) : REL x G m := ⟨c, b, e, z, d, ow, n, U, h⟩
/-- the answer of an operation, both sides -/
def ANS (x : Nat) (G : Wd) (f : Option (Int32 × Wd)) (g : Option (Int32 × Rec)) : Prop := ∃ v G' m', f = some (v, G') ∧ g = some (v, m') ∧ KP G G' ∧ REL x G' m'
theorem RR.ans (h : RR x G m c b e z d ow n U) {v : Int32} {f : Option (Int32 × Wd)} {g : Option (Int32 × Rec)} (hf : f = some (v, G)) (hg : g = some (v, m)) : ANS x G f g := ⟨v, G, m, hf, hg, KP.refl G, h.rel⟩
theorem op_does (h : RR x G m c b e z d ow n U) (p t l : Int32) : ANS x G (x1_does G x p t l) (m_does m p t l) := by
  have hd := h.di
  have hQ := hd.Q
  have hD := hd.D
  have hP := hd.P
  have hA := hd.acts
  unfold x1_does m_does
  simp only [LT]
  have h1 := h.t0 0
  generalize sI m 0 0 = s at h1 ⊢
  rw [RD_of _ h.hx, h.hb, BD_some, RD_of _ h.g2, x1_isPerson_v h.hb h.he, m_isPerson_v h1.h14]
  simp only [BD_some]
  rcases inn_count p (d 2) (by omega) with ⟨hp, p, -, rfl⟩ | hp
  · rw [hp, if_neg (by decide), if_neg (by decide), RD_of _ h.g2, x1_isDeed_v h.hb h.he, m_isDeed_v h1.h14]
    simp only [BD_some]
    rcases inn_count t (d 3) (by omega) with ⟨ht, t, -, rfl⟩ | ht
    · rw [ht, if_neg (by decide), if_neg (by decide), RD_of _ h.g2, x1_isParlour_v h.hb h.he, m_isParlour_v h1.h14]
      simp only [BD_some]
      rcases inn_count l (d 0) (by omega) with ⟨hl, l, hl0, rfl⟩ | hl
      · rw [hl, if_neg (by decide), if_neg (by decide), RD_of _ h.g3, x4_whyDo_v h.hz hd]
        unfold m_doIt
        have w0 := m_why0 s hd (nI p) (nI t)
        rw [h1.em] at w0
        rw [if_neg (show ¬ (1 : Int32) = 0 by decide), show (0 : Int32) = nI 0 from rfl, w0]
        simp only [BD_some]
        by_cases a : d 25 = 12
        · rw [decide_eq_true a]
          exact h1.ans (v := 1) rfl rfl
        · rw [decide_eq_false a, if_pos (show bI false = nI 0 from rfl), if_pos (show bI false = nI 0 from rfl)]
          obtain ⟨G1, c1, ow1, s1, k1, k2, k3, k4⟩ := keep_v h1
          obtain ⟨z', q1, q2, q3⟩ := x4_does_v k4.he k4.hz hd h.gd.2 (by omega) (w := p) (t := t) (l := l) (by omega)
          rw [k1, k2]
          simp only [BD_some]
          rw [MG_of _ k3.1, RD_of _ k4.hx, k4.hb, BD_some, RD_of _ k4.g3, RD_of _ k4.g2, q1, BD_some, m_live0 s1 h.gd (by omega) (by omega), BD_some, BD2_some]
          exact ⟨_, _, _, rfl, rfl, (k3.trans (KPn_wp k4.g3 (by omega) (by omega))).kp (by omega), (k4.live (KH_doD hd (by omega) p t l) (GD_doD h.gd (by omega) p t l) q2).rel⟩
      · rw [hl]
        exact h1.ans (v := M1) rfl rfl
    · rw [ht]
      exact h1.ans (v := M1) rfl rfl
  · rw [hp]
    exact h1.ans (v := M1) rfl rfl
theorem op_sponge (h : RR x G m c b e z d ow n U) (p : Int32) : ANS x G (x1_sponge G x p) (m_sponge m p) := by
  have hd := h.di
  have hN := hd.N
  unfold x1_sponge m_sponge
  simp only [LT]
  have h1 := h.t0 0
  generalize sI m 0 0 = s at h1 ⊢
  rw [RD_of _ h.hx, h.hb, BD_some, RD_of _ h.g2, x1_isPlant_v h.hb h.he, m_isPlant_v h1.h14]
  simp only [BD_some]
  unfold m_doIt
  rcases inn_count p (d 1) (by omega) with ⟨hp, p, hp0, rfl⟩ | hp
  · rw [hp, if_neg (by decide), if_neg (by decide), RD_of _ h.g3, x4_whySponge_v h.hz hd (by omega)]
    have w0 := m_why1 s hd (p := p) (by omega) (nI 0)
    rw [h1.em] at w0
    rw [show (1 : Int32) = nI 1 from rfl, show (0 : Int32) = nI 0 from rfl, w0]
    simp only [BD_some]
    by_cases a : d (32 + p) = 0
    · rw [decide_eq_true a]
      exact h1.ans (v := 1) rfl rfl
    · rw [decide_eq_false a, if_pos (show bI false = nI 0 from rfl), if_pos (show bI false = nI 0 from rfl)]
      obtain ⟨G1, c1, ow1, s1, k1, k2, k3, k4⟩ := keep_v h1
      rw [k1, k2]
      simp only [BD_some]
      rw [MG_of _ k3.1, RD_of _ k4.hx, RD_of _ k4.g3, IX_nI _ (by omega) (by omega), m_live1 s1 (by omega), BD_some, BD2_some]
      exact ⟨_, _, _, rfl, rfl, (k3.trans (KPn_wp k4.g3 (by omega) (by omega))).kp (by omega), (k4.live (KH_up (by omega) (by omega)) (GD_dust h.gd (by omega) (by omega)) (ZS_A1 k4.hz (by omega))).rel⟩
  · rw [hp]
    exact h1.ans (v := M1) rfl rfl
theorem op_carry (h : RR x G m c b e z d ow n U) (p l : Int32) : ANS x G (x1_carry G x p l) (m_carry m p l) := by
  have hd := h.di
  have hN := hd.N
  have hP := hd.P
  unfold x1_carry m_carry
  simp only [LT]
  have h1 := h.t0 0
  generalize sI m 0 0 = s at h1 ⊢
  rw [RD_of _ h.hx, h.hb, BD_some, RD_of _ h.g2, x1_isPlant_v h.hb h.he, m_isPlant_v h1.h14]
  simp only [BD_some]
  unfold m_doIt
  rcases inn_count p (d 1) (by omega) with ⟨hp, p, hp0, rfl⟩ | hp
  · rw [hp, if_neg (by decide), if_neg (by decide), RD_of _ h.g2, x1_isParlour_v h.hb h.he, m_isParlour_v h1.h14]
    simp only [BD_some]
    rcases inn_count l (d 0) (by omega) with ⟨hl, l, hl0, rfl⟩ | hl
    · rw [hl, if_neg (by decide), if_neg (by decide), RD_of _ h.g3, x4_whyCarry_v h.hz hd hp0 (by omega)]
      have w0 := m_why2 s hd (p := p) (l := l) hp0 (by omega)
      rw [h1.em] at w0
      rw [if_neg (show ¬ (1 : Int32) = 0 by decide), show (2 : Int32) = nI 2 from rfl, w0]
      simp only [BD_some]
      by_cases a : d (26 + p) = l
      · rw [decide_eq_true a]
        exact h1.ans (v := 1) rfl rfl
      · rw [decide_eq_false a, if_pos (show bI false = (0 : Int32) from rfl), if_pos (show bI false = (0 : Int32) from rfl)]
        obtain ⟨G1, c1, ow1, s1, k1, k2, k3, k4⟩ := keep_v h1
        rw [k1, k2]
        simp only [BD_some]
        rw [MG_of _ k3.1, RD_of _ k4.hx, RD_of _ k4.g3, IX_nI _ (by omega) (by omega), m_live2 s1 (by omega), BD_some, BD2_some]
        exact ⟨_, _, _, rfl, rfl, (k3.trans (KPn_wp k4.g3 (by omega) (by omega))).kp (by omega), (k4.live (KH_up (by omega) (by omega)) (GD_place h.gd (by omega) (by omega)) (ZS_A0 k4.hz (by omega))).rel⟩
    · rw [hl]
      exact h1.ans (v := M1) rfl rfl
  · rw [hp]
    exact h1.ans (v := M1) rfl rfl
theorem op_days (h : RR x G m c b e z d ow n U) (w : Int32) : ANS x G (x1_days G x w) (m_days m w) := by
  have hd := h.di
  have hD := hd.day
  unfold x1_days m_days
  simp only [LT, x1_isIn_v, m_isIn_v, BD_some]
  have h1 := h.t0 0
  generalize sI m 0 0 = s at h1 ⊢
  rw [show (60 : Int32) = nI 60 from rfl, show (1 : Int32) = nI 1 from rfl]
  rcases inn_cases w 1 60 (by omega) (by omega) with ⟨hp, k, hk1, hk, rfl⟩ | hp
  · rw [hp, if_neg (by decide), if_neg (by decide), RD_of _ h.hx, RD_of _ h.g3, h.hz.1, h1.h14, RF_a (by omega)]
    by_cases a : d 24 = 400
    · rw [a]
      exact h1.ans (v := 0) rfl rfl
    · have na : ¬ nI (d 24) = 400 := fun e => a ((nI_eq (b := 400) (by omega) (by omega)).mp e)
      rw [if_neg na, if_neg na]
      obtain ⟨G1, c1, ow1, s1, k1, k2, k3, k4⟩ := keep_v h1
      obtain ⟨z', q1, q2, q3⟩ := x4_days_v k4.he k4.hz h.gd (n := k) hk
      obtain ⟨i1, i2, i3⟩ := itD_ok h.gd (min k (400 - d 24)) (by omega)
      rw [k1, k2]
      simp only [BD_some]
      rw [MG_of _ k3.1, RD_of _ k4.hx, k4.hb, BD_some, RD_of _ k4.g3, RD_of _ k4.g2, q1, BD2_some, m_passDays_v s1 h.gd hk, BD2_some]
      exact ⟨_, _, _, rfl, rfl, (k3.trans (KPn_wp k4.g3 (by omega) (by omega))).kp (by omega), (k4.live i2 i1 q2).rel⟩
  · rw [hp]
    exact h1.ans (v := M1) rfl rfl
end OPS
