/-! PURE: a book: the whole -/
/-- what was lived is laid aside, what was ahead of it is taken back -/
def swB (x1 : Int32) : (Int32 → Rec → Option Rec) → Int32 → Rec → Option Rec := (fun (rec3 : Int32 → Rec → Option Rec) (v1 : Int32) (s2 : Rec) => (if (140 : Int32) ≤ v1 then (if x1 = 0 then some s2 else BD (m_snap s2) (fun s5 => BD (m_takeBack s5) (fun s7 => some s7))) else IX ((24 : Int32) + v1) 406 (fun i8 => IX v1 140 (fun i9 => LT (sA s2 14 i8 (gA s2 18 i9)) (fun s10 => LT (sA s10 18 i9 (gA s2 14 i8)) (fun s11 => rec3 (v1 + (1 : Int32)) s11))))))
theorem m_stay_B (s : Rec) (x1 : Int32) : m_stay s x1 = LP2 (swB x1) FU (0 : Int32) s := rfl
theorem m_stay_v (s : Rec) (x1 : Int32) : m_stay s x1 = (if x1 = 0 then some (sB (sB s 18 (va_cpy (gA s 14) (gA s 18) 24 0 140)) 14 (va_cpy (gA s 18) (gA s 14) 0 24 140)) else BD (m_snap (sB (sB s 18 (va_cpy (gA s 14) (gA s 18) 24 0 140)) 14 (va_cpy (gA s 18) (gA s 14) 0 24 140))) (fun s5 => BD (m_takeBack s5) (fun s7 => some s7))) := by
  rw [m_stay_B]
  refine LP2_run (fun i => nI i) (fun i => sB (sB s 18 (va_cpy (gA s 14) (gA s 18) 24 0 i)) 14 (va_cpy (gA s 18) (gA s 14) 0 24 i)) 0 140 (by omega) rfl ?_ (fun i _ hi rec => ?_) (fun rec => ?_)
  · rw [cpy_0, cpy_0, sB_id]
    exact (sB_id s 14).symm
  · have hi' : i < 140 := by omega
    show swB x1 rec (nI i) _ = _
    unfold swB
    have f1 : va_cpy (gA s 14) (gA s 18) 24 0 i i = gA s 18 i := pk_cpy_out (by omega)
    have f2 : va_cpy (gA s 18) (gA s 14) 0 24 i (24 + i) = gA s 14 (24 + i) := pk_cpy_out (by omega)
    have c1 := cpy_s (gA s 18) (gA s 14) 0 24 i
    have c2 := cpy_s (gA s 14) (gA s 18) 24 0 i
    rw [Nat.zero_add] at c1 c2
    have g18 : gA (sB (sB s 18 (va_cpy (gA s 14) (gA s 18) 24 0 i)) 14 (va_cpy (gA s 18) (gA s 14) 0 24 i)) 18 i = gA s 18 i := by rw [gA_sBn _ _ (by omega), gA_sBs, f1]
    have g14 : gA (sB (sB s 18 (va_cpy (gA s 14) (gA s 18) 24 0 i)) 14 (va_cpy (gA s 18) (gA s 14) 0 24 i)) 14 (24 + i) = gA s 14 (24 + i) := by rw [gA_sBs, f2]
    rw [if_neg (show ¬ (140 : Int32) ≤ nI i from nI_ge (b := 140) hi' (by omega)), show (24 : Int32) + nI i = nI (24 + i) from nI_add _ _, IX_nI _ (by omega) (by omega), IX_nI _ hi' (by omega), LT, LT, g18, g14, sA_sB, c1, sA_B, gA_sBn _ _ (by omega), gA_sBs, sB_swap _ _ _ (show (14 : Nat) ≠ 18 by omega), sB_sB, c2, nI_1]
  · rw [Nat.zero_add]
    show swB x1 rec (nI 140) _ = _
    unfold swB
    rw [if_pos (show (140 : Int32) ≤ nI 140 by decide)]
section OPS
variable {x : Nat} {G : Wd} {m c : Rec} {b : Nat} {e z : Rec} {d : Nat → Nat} {ow : Nat → Nat} {n : Nat} {U : Nat → Nat → Nat}
/-- what is tried stays when something is kept -/
theorem keep_21 (h : RR x G m c b e z d ow n U) {G' : Wd} (hk : x1_keep G x = some G') : G'.2 (x + 21) = G.2 (x + 21) := by
  obtain ⟨⟨b1, b2, b3, b4, ⟨yt, b5⟩, b6⟩, ⟨s1, s2, s3, s4, s5⟩, hM, ⟨u1, u2, u3, u4, u5, u6, u7, u8, u9⟩, hI, hS⟩ := h
  have hxx : x + 13 ≠ x := by omega
  have h21 : x + 21 ≠ x := by omega
  unfold x1_keep at hk
  simp only [JN2, JN1, LT] at hk
  rw [RD_of _ b1, u2] at hk
  by_cases c8 : n = 8
  · subst c8
    rw [if_pos (show nI 8 = 8 from rfl)] at hk
    obtain ⟨a, y, a1, a2, a3⟩ := u6 0 (by omega)
    have hax : a ≠ x := kd_ne a2 b1 (by omega)
    have oa := (u7 0 (by omega) a a1).2
    obtain ⟨y', be1, be2⟩ := x4_be_v (y := y) s3
    rw [a1, BD_some, RD_of _ b1, u2, if_pos (show nI 8 = 8 from rfl)] at hk
    have hAQ : AQb G (gQ c 12) 1 7 3 = true := by
      unfold AQb
      rw [List.all_eq_true]
      intro i hi
      have hi' := List.mem_range.mp hi
      cases hq : gQ c 12 (1 + i) with
      | none => rfl
      | some q =>
        obtain ⟨⟨zi, h1⟩, -⟩ := u7 (1 + i) (by omega) q hq
        show (match G.2 q with | some q => q.1 == 3 | none => false) = true
        rw [h1]; rfl
    unfold AQ at hk
    rw [if_pos hAQ, wp_wp] at hk
    have e13 : gI (sR c 12 (va_cpy (gQ c 12) (gQ c 12) 1 0 7)) 13 = nI 8 := u2
    rw [e13, show nI 8 - (1 : Int32) = nI 7 from rfl] at hk
    generalize hc3 : sI (sR c 12 (va_cpy (gQ c 12) (gQ c 12) 1 0 7)) 13 (nI 7) = c3 at hk
    have e3 : gI c3 13 = nI 7 := by rw [← hc3]; rfl
    have hx3 : (wp G x 0 c3).2 x = some (0, c3) := wp_at _ _ _ _
    have ha3 : (wp G x 0 c3).2 a = some (3, y) := by rw [wp_ne hax]; exact a2
    have hz3 : (wp G x 0 c3).2 (x + 13) = some (3, z) := by rw [wp_ne hxx]; exact b4
    have hne : x + 13 ≠ a := fun e => by rw [← e, u8] at oa; omega
    have hn21 : x + 21 ≠ a := fun e => by rw [← e, u9] at oa; omega
    have kc := keep_core (by omega) hx3 e3 ha3 hz3 hne be1
    have e := hk.symm.trans kc
    cases e
    rw [wp_ne h21, wp_ne hn21, wp_ne h21]
  · have hn : n < 8 := by omega
    have ne8 : ¬ nI n = 8 := fun e => c8 ((nI_eq (b := 8) (by omega) (by omega)).mp e)
    rw [if_neg ne8, IX_nI _ hn (by omega)] at hk
    by_cases hq : gQ c 12 n = none
    · rw [if_pos hq] at hk
      have hsm : ∀ q kd r, G.2 q = some (kd, r) → (wf (wn G 103 r0) G.1 3 zS 7).2 q = some (kd, r) := fun q kd r h1 => by
        have hqg : q ≠ G.1 := fun e => by rw [e, b6 _ (Nat.le_refl _)] at h1; cases h1
        show (wp (wn G 103 r0) G.1 3 zS).2 q = _
        rw [wp_ne hqg]
        show (wp G G.1 103 r0).2 q = _
        rw [wp_ne hqg]; exact h1
      have hx3 := hsm x 0 c b1
      have ha3 : (wf (wn G 103 r0) G.1 3 zS 7).2 G.1 = some (3, zS) := wp_at _ _ _ _
      have hz3 := hsm (x + 13) 3 z b4
      have hne : x + 13 ≠ G.1 := fun e => by rw [e, b6 _ (Nat.le_refl _)] at b4; cases b4
      have hn21 : x + 21 ≠ G.1 := fun e => by rw [e, b6 _ (Nat.le_refl _)] at b5; cases b5
      obtain ⟨y', be1, be2⟩ := x4_be_v (y := zS) s3
      rw [RD_of _ hx3, u2, if_neg ne8] at hk
      have kc := keep_core hn hx3 u2 ha3 hz3 hne be1
      have e := hk.symm.trans kc
      cases e
      rw [wp_ne h21, wp_ne hn21, hsm _ _ _ b5, b5]
    · rw [if_neg hq] at hk
      obtain ⟨a, ha⟩ : ∃ a, gQ c 12 n = some a := by
        cases hh : gQ c 12 n with
        | none => exact absurd hh hq
        | some a => exact ⟨a, rfl⟩
      obtain ⟨⟨y, a2⟩, oa⟩ := u7 n hn a ha
      obtain ⟨y', be1, be2⟩ := x4_be_v (y := y) s3
      have hne : x + 13 ≠ a := fun e => by rw [← e, u8] at oa; omega
      have hn21 : x + 21 ≠ a := fun e => by rw [← e, u9] at oa; omega
      have hax : a ≠ x := kd_ne a2 b1 (by omega)
      rw [ha, BD_some, RD_of _ b1, u2, if_neg ne8] at hk
      have kc := keep_core hn b1 u2 a2 b4 hne be1
      have e := hk.symm.trans kc
      cases e
      rw [wp_ne h21, wp_ne hn21]
/-- the end of a book: what is told, and whether it stays -/
theorem bookEnd (x1 : Int32) (h1 : x1 = 0 ∨ x1 = 1) {s y : Rec} {d' : Nat → Nat} {v25 v26 : Int32} {kk : Nat} (h : RR x G (sB s 14 (RF d)) c b e z d ow n U) (hy : G.2 (x + 21) = some (3, y)) (h18 : ∀ j, j < 140 → gA s 18 j = RF d (24 + j)) (hk : kk ≤ 40) (hz : ZS y d') (hG : GD d') (hK : KH d d') (hv : (v26 = 0 ∧ v25 = -1) ∨ (¬ v26 = 0 ∧ v25 = nI kk)) : ∃ G' m', xbE x x1 v25 v26 (nI kk) G = some (v25, G') ∧ mbE x1 (nI kk) v26 (sB s 14 (RF d')) = some (v25, m') ∧ KPn 8 G G' ∧ REL x G' m' := by
  have hd := hG.1
  have he : HS e d' := h.he.keep hK
  have h21 : x + 21 ≠ x := by omega
  have hv' : (if v26 = 0 then (-1 : Int32) else nI kk) = v25 := by
    rcases hv with ⟨p1, p2⟩ | ⟨p1, p2⟩
    · rw [if_pos p1, p2]
    · rw [if_neg p1, p2]
  obtain ⟨w1, w2, w3, w4, w5, w6, w7, w8, w9⟩ := h.ms
  -- the main object at the end
  have y2 : (wp (wp G x 0 (sA c 28 0 v26)) x 0 (sA (sA c 28 0 v26) 28 1 (nI kk))).2 (x + 21) = some (3, y) := by rw [wp_wp, wp_ne h21]; exact hy
  have pv := x4_proved_v he hz hd
  generalize hcE : sI (sA (sA (sA (sA c 28 0 v26) 28 1 (nI kk)) 28 2 (gI y 7)) 28 3 (nI (setN (prv d') (d' 25)))) 29 1 = cE
  have cEA : ∀ q, q ≠ 28 → gA cE q = gA c q := fun q hq => by rw [← hcE, gA_sI, gA_sAn _ _ _ hq, gA_sAn _ _ _ hq, gA_sAn _ _ _ hq, gA_sAn _ _ _ hq]
  have cE28 : gA cE 28 0 = v26 ∧ gA cE 28 1 = nI kk ∧ gA cE 28 2 = nI (d' 24) ∧ gA cE 28 3 = nI (setN (prv d') (d' 25)) := by
    rw [← hcE, ← hz.1]
    refine ⟨?_, ?_, ?_, ?_⟩
    · rw [gA_sI, gA_sAi _ _ _ (by omega), gA_sAi _ _ _ (by omega), gA_sAi _ _ _ (by omega), gA_sAs]
    · rw [gA_sI, gA_sAi _ _ _ (by omega), gA_sAi _ _ _ (by omega), gA_sAs]
    · rw [gA_sI, gA_sAi _ _ _ (by omega), gA_sAs]
    · rw [gA_sI, gA_sAs]
  have cEI : ∀ q, q ≠ 29 → gI cE q = gI c q := fun q hq => by rw [← hcE, gI_sIn _ _ hq]; rfl
  have cE29 : gI cE 29 = 1 := by rw [← hcE]; rfl
  have cEC : CK c cE := ⟨by rw [← hcE]; rfl, by rw [← hcE]; rfl, by rw [← hcE]; rfl, by rw [← hcE]; rfl, cEI 13 (by omega)⟩
  have cX : xbE x x1 v25 v26 (nI kk) G = (if x1 = (1 : Int32) then (if nI kk ≤ 0 then some (v25, wp G x 0 cE) else BD (x1_keep (wp G x 0 cE) x) (fun w53 => MG (wp G x 0 cE) w53 (RD w53 x 0 (fun s55 => RD w53 (x + 13) 3 (fun s57 => RD w53 (x + 21) 3 (fun s58 => NE (x + 21) (x + 13) (BD (x4_be s57 s58) (fun s60 => LT (wp w53 (x + 13) 3 s60) (fun w61 => some (v25, w61)))))))))) else some (v25, wp G x 0 cE)) := by
    unfold xbE
    rw [RD_of _ h.hx, LT, LT, LT, LT, RD_of _ y2, LT, LT]
    have y3 : (wp (wp (wp G x 0 (sA c 28 0 v26)) x 0 (sA (sA c 28 0 v26) 28 1 (nI kk))) x 0 (sA (sA (sA c 28 0 v26) 28 1 (nI kk)) 28 2 (gI y 7))).2 (x + 21) = some (3, y) := by rw [wp_ne h21]; exact y2
    have y4 : (wp (wp (wp G x 0 (sA c 28 0 v26)) x 0 (sA (sA c 28 0 v26) 28 1 (nI kk))) x 0 (sA (sA (sA c 28 0 v26) 28 1 (nI kk)) 28 2 (gI y 7))).2 b = some (2, e) := by
      have hbx : b ≠ x := kd_ne h.g2 h.hx (by omega)
      rw [wp_ne hbx, wp_ne hbx, wp_ne hbx]; exact h.g2
    have y5 : gP (sA (sA (sA c 28 0 v26) 28 1 (nI kk)) 28 2 (gI y 7)) 6 = some b := h.hb
    rw [y5, BD_some, RD_of _ y3, RD_of _ y4, pv, BD_some, LT, LT, LT, LT, hcE, wp_wp, wp_wp, wp_wp, wp_wp]
  -- the model at the end
  have A14 : gA (sA (sA (sB s 14 (RF d')) 37 0 v26) 37 1 (nI kk)) 14 = RF d' := by rw [gA_sAn _ _ _ (by omega), gA_sAn _ _ _ (by omega), gA_sBs]
  have mpv : m_proved (sA (sA (sA (sB s 14 (RF d')) 37 0 v26) 37 1 (nI kk)) 37 2 (gA (sA (sA (sB s 14 (RF d')) 37 0 v26) 37 1 (nI kk)) 14 24)) = some (nI (setN (prv d') (d' 25))) := m_proved_v (by rw [gA_sAn _ _ _ (by omega)]; exact A14) hd
  generalize hmE : sI (sA (sA (sA (sA (sB s 14 (RF d')) 37 0 v26) 37 1 (nI kk)) 37 2 (nI (d' 24))) 37 3 (nI (setN (prv d') (d' 25)))) 39 1 = mE'
  have mX : mbE x1 (nI kk) v26 (sB s 14 (RF d')) = BD (m_stay mE' (if x1 = (1 : Int32) then (if nI kk ≤ 0 then (0 : Int32) else 1) else 0)) (fun s27 => some (v25, s27)) := by
    unfold mbE
    rw [LT, LT, LT, mpv, BD_some, LT, LT, A14, RF_a (by omega), hmE, JN1]
    have K : ∀ u, BD (m_stay mE' u) (fun s27 => (if v26 = 0 then some ((-1 : Int32), s27) else some (nI kk, s27))) = BD (m_stay mE' u) (fun s27 => some (v25, s27)) := fun u => by
      congr 1
      funext s27
      rw [← hv']
      by_cases g : v26 = 0
      · rw [if_pos g, if_pos g]
      · rw [if_neg g, if_neg g]
    by_cases g : x1 = 1
    · rw [if_pos g, if_pos g]
      by_cases g2 : nI kk ≤ 0
      · rw [if_pos g2, if_pos g2]; exact K 0
      · rw [if_neg g2, if_neg g2]; exact K 1
    · rw [if_neg g, if_neg g]; exact K 0
  have mEA : ∀ q, q ≠ 14 → q ≠ 37 → gA mE' q = gA s q := fun q h1 h2 => by rw [← hmE, gA_sI, gA_sAn _ _ _ h2, gA_sAn _ _ _ h2, gA_sAn _ _ _ h2, gA_sAn _ _ _ h2, gA_sBn _ _ h1]
  have mE14 : gA mE' 14 = RF d' := by rw [← hmE, gA_sI, gA_sAn _ _ _ (by omega), gA_sAn _ _ _ (by omega)]; exact A14
  have mE37 : gA mE' 37 0 = v26 ∧ gA mE' 37 1 = nI kk ∧ gA mE' 37 2 = nI (d' 24) ∧ gA mE' 37 3 = nI (setN (prv d') (d' 25)) := by
    rw [← hmE]
    refine ⟨?_, ?_, ?_, ?_⟩
    · rw [gA_sI, gA_sAi _ _ _ (by omega), gA_sAi _ _ _ (by omega), gA_sAi _ _ _ (by omega), gA_sAs]
    · rw [gA_sI, gA_sAi _ _ _ (by omega), gA_sAi _ _ _ (by omega), gA_sAs]
    · rw [gA_sI, gA_sAi _ _ _ (by omega), gA_sAs]
    · rw [gA_sI, gA_sAs]
  have mEI : ∀ q, q ≠ 39 → gI mE' q = gI s q := fun q hq => by rw [← hmE, gI_sIn _ _ hq]; rfl
  have mE39 : gI mE' 39 = 1 := by rw [← hmE]; rfl
  have mEL : ∀ q, gL mE' q = gL s q := fun q => by rw [← hmE]; rfl
  -- swapped
  have sw1 : va_cpy (gA mE' 18) (gA mE' 14) 0 24 140 = RF d := by
    rw [mE14, RF_cpy (e := d) (fun k hk => by rw [Nat.zero_add, mEA 18 (by omega) (by omega)]; exact h18 k hk)]
    have : va_cpy d d' 24 24 140 = d := by
      funext q
      by_cases hq : 24 ≤ q ∧ q < 164
      · rw [pk_cpy_in hq.1 (by omega)]; congr 1; omega
      · rw [pk_cpy_out (by omega)]
        by_cases h2 : q < 24
        · exact hK.1 q h2
        · exact hK.2 q (by omega)
    rw [this]
  have sw2 : ∀ j, j < 140 → va_cpy (gA mE' 14) (gA mE' 18) 24 0 140 j = RF d' (24 + j) := fun j hj => by rw [pk_cpy_in (by omega) (by omega), mE14]; congr 1
  rw [cX, mX, m_stay_v, sw1]
  generalize hQ : va_cpy (gA mE' 14) (gA mE' 18) 24 0 140 = Q18 at sw2
  have MSf : MS cE (sB (sB mE' 18 Q18) 14 (RF d)) := by
    refine ⟨?_, ?_, ?_, ?_, ?_, ?_, ?_, ?_, Or.inr ⟨cE29, mE39, ?_⟩⟩
    · rw [cEA 0 (by omega), gA_sBn _ _ (by omega), gA_sBn _ _ (by omega), mEA 1 (by omega) (by omega)]; exact w1
    · rw [cEI 1 (by omega), gI_sB, gI_sB, mEI 2 (by omega)]; exact w2
    · rw [cEI 11 (by omega), gI_sB, gI_sB, mEI 10 (by omega)]; exact w3
    · rw [cEI 15 (by omega), cEI 14 (by omega), gI_sB, gI_sB, mEI 25 (by omega)]; exact w4
    · rw [cEI 17 (by omega), cEI 16 (by omega), gI_sB, gI_sB, mEI 26 (by omega)]; exact w5
    · rw [cEI 20 (by omega), cEA 19 (by omega), gI_sB, gI_sB, mEI 29 (by omega), gA_sBn _ _ (by omega), gA_sBn _ _ (by omega), mEA 28 (by omega) (by omega)]; exact w6
    · rw [cEI 25 (by omega), cEI 21 (by omega), cEI 22 (by omega), cEI 23 (by omega), gI_sB, gI_sB, mEI 31 (by omega), gA_sBn _ _ (by omega), gA_sBn _ _ (by omega), mEA 30 (by omega) (by omega)]; exact w7
    · rw [cEI 27 (by omega), cEA 26 (by omega), gI_sB, gI_sB, mEI 34 (by omega), gA_sBn _ _ (by omega), gA_sBn _ _ (by omega), mEA 33 (by omega) (by omega)]; exact w8
    · intro i hi
      obtain ⟨p0, p1, p2, p3⟩ := cE28
      obtain ⟨q0, q1, q2, q3⟩ := mE37
      rw [gA_sBn _ _ (by omega), gA_sBn _ _ (by omega)]
      rcases (show i = 0 ∨ i = 1 ∨ i = 2 ∨ i = 3 by omega) with rfl | rfl | rfl | rfl
      · rw [p0, q0]
      · rw [p1, q1]
      · rw [p2, q2]
      · rw [p3, q3]
  have MKf : MK (sB s 14 (RF d)) (sB (sB mE' 18 Q18) 14 (RF d)) := by
    refine ⟨?_, ?_, ?_, ?_, ?_, ?_, ?_⟩
    · rw [gL_sB, gL_sB, gL_sB]; exact mEL 19
    · rw [gL_sB, gL_sB, gL_sB]; exact mEL 21
    · rw [gA_sBs, gA_sBs]
    · rw [gA_sBn _ _ (by omega), gA_sBn _ _ (by omega), gA_sBn _ _ (by omega)]; exact mEA 16 (by omega) (by omega)
    · rw [gA_sBn _ _ (by omega), gA_sBn _ _ (by omega), gA_sBn _ _ (by omega)]; exact mEA 17 (by omega) (by omega)
    · rw [gA_sBn _ _ (by omega), gA_sBn _ _ (by omega), gA_sBn _ _ (by omega)]; exact mEA 22 (by omega) (by omega)
    · rw [gI_sB, gI_sB, gI_sB]; exact mEI 24 (by omega)
  have hR := h.main cEC MSf MKf
  have hno : ∃ G' m', some (v25, wp G x 0 cE) = some (v25, G') ∧ BD (if (0 : Int32) = 0 then some (sB (sB mE' 18 Q18) 14 (RF d)) else BD (m_snap (sB (sB mE' 18 Q18) 14 (RF d))) (fun s5 => BD (m_takeBack s5) (fun s7 => some s7))) (fun s27 => some (v25, s27)) = some (v25, m') ∧ KPn 8 G G' ∧ REL x G' m' := by
    rw [if_pos rfl, BD_some]
    exact ⟨_, _, rfl, rfl, (KPn_wp h.hx (by omega) (by omega)).mono (by omega), hR.rel⟩
  rcases h1 with rfl | rfl
  · rw [if_neg (show ¬ (0 : Int32) = 1 by decide), if_neg (show ¬ (0 : Int32) = 1 by decide)]
    exact hno
  · rw [if_pos rfl, if_pos rfl]
    by_cases g : nI kk ≤ 0
    · rw [if_pos g, if_pos g]
      exact hno
    · rw [if_neg g, if_neg g, if_neg (show ¬ (1 : Int32) = 0 by decide)]
      obtain ⟨G1, c1, ow1, s1, k1, k2, k3, k4⟩ := keep_v hR
      have k5 := keep_21 hR k1
      rw [wp_ne h21, hy] at k5
      have ks : ∀ j, j < 140 → gA s1 18 j = RF d' (24 + j) := by
        intro j hj
        have e1 := m_snap_v (sB mE' 18 Q18) d (k := n) hR.2.2.2.1.1 (by rw [gI_sB]; exact hR.2.2.2.1.2.2.1)
        rw [k2] at e1
        have e2 := Option.some.inj e1
        have e3 : gA s1 18 = gA (sB s1 14 (RF d)) 18 := (gA_sBn _ _ (by omega)).symm
        rw [e3, e2, gA_sBn _ _ (by omega), gA_sI, gA_sBn _ _ (by omega), gA_sBs]
        exact sw2 j hj
      obtain ⟨z', be1, be2⟩ := x4_be_v (y := z) hz
      rw [k1, k2, BD_some, BD_some, MG_of _ k3.1, RD_of _ k4.hx, RD_of _ k4.g3, RD_of _ k5, NE_of _ (by omega), be1, BD_some, LT, m_takeBack_v s1 d ks, BD_some, BD_some, mix_KH hK]
      exact ⟨_, _, rfl, rfl, ((KPn_wp h.hx (by omega) (by omega)).trans (k3.trans (KPn_wp k4.g3 (by omega) (by omega)))).mono (by omega), (k4.live hK hG be2).rel⟩
theorem op_book (h : RR x G m c b e z d ow n U) (x1 : Int32) : ANS x G (x1_book G x x1) (m_book m x1) := by
  rw [x1_book_B, m_book_B, LT, x1_isIn_v, m_isIn_v, BD_some, BD_some]
  rcases inn_cases x1 0 1 (by omega) (by omega) with ⟨hp, j, -, hj, hx1⟩ | hp
  · rw [show inn x1 0 1 = true from hp, if_neg (show ¬ bI true = (0 : Int32) by decide), if_neg (show ¬ bI true = (0 : Int32) by decide)]
    have h1 : x1 = 0 ∨ x1 = 1 := by
      rw [hx1]
      rcases (show j = 0 ∨ j = 1 by omega) with rfl | rfl
      · exact Or.inl rfl
      · exact Or.inr rfl
    obtain ⟨w1, ⟨k, hk, k1, k2⟩, -⟩ := id h.ms
    have hM := h.ms
    obtain ⟨b1, b2, b3, b4, ⟨yt, b5⟩, b6⟩ := id h.1
    obtain ⟨T, hT⟩ := tape_ex w1
    have ng : ∀ a kd r, G.2 a = some (kd, r) → a < G.1 := fun a kd r h1 => Nat.lt_of_not_le (fun hh => by rw [b6 a hh] at h1; cases h1)
    have tk : x1_taken c = some (sI (sI c 2 (nI k)) 1 0) := by unfold x1_taken; rw [LT, LT, k1]
    have hbx : b ≠ x := kd_ne b3 b1 (by omega)
    rw [RD_of _ b1, tk, BD_some, LT, LT, LT, wp_wp]
    generalize hc0 : sI (sI (sI c 2 (nI k)) 1 0) 11 0 = c0
    have c0A : ∀ q, gA c0 q = gA c q := fun q => by rw [← hc0]; rfl
    have c0P : ∀ q, gP c0 q = gP c q := fun q => by rw [← hc0]; rfl
    have c0Q : ∀ q, gQ c0 q = gQ c q := fun q => by rw [← hc0]; rfl
    have c0I : ∀ q, q ≠ 1 → q ≠ 2 → q ≠ 11 → gI c0 q = gI c q := fun q h1 h2 h3 => by rw [← hc0, gI_sIn _ _ h3, gI_sIn _ _ h1, gI_sIn _ _ h2]
    have c01 : gI c0 1 = 0 := by rw [← hc0]; rfl
    have c02 : gI c0 2 = nI k := by rw [← hc0]; rfl
    have c011 : gI c0 11 = 0 := by rw [← hc0]; rfl
    -- reading begins
    obtain ⟨c', m', p, a, kk, v, l, g1, g2, g3, g4, g5, g6⟩ := begin_v (m := sI m 0 0) (c1 := sI c0 129 0) (T := T) 1 (TPE_ext hT (c0A 0) rfl) hk k2 c02
    have g2' : m_begin (sI m 0 0) (400 : Int32) = some m' := g2
    rw [x7_read_B, RD_of _ (wp_at _ _ _ _), LT, LT, g1, BD_some, LT, wp_wp, wp_wp, g2', BD_some, LT]
    have X0 : XW x (wp G x 0 c') (wp G x 0 c') c' 0 := by
      refine ⟨wp_at _ _ _ _, fun _ _ _ _ h => h, fun a ha => ?_, Nat.le_refl _, Nat.le_refl _⟩
      have := ng _ _ _ b1
      have ha' : G.1 ≤ a := ha
      rw [wp_ne (by omega)]; exact b6 a ha'
    have Gm : gL (sI m' 38 0) 19 = gL m 19 := (g4.gL 19).trans rfl
    have Gm14 : gA (sI m' 38 0) 14 = gA m 14 := (g4.gA 14).trans rfl
    have B0 : HB (wp G x 0 c') c' (sI m' 38 0) b e d := ⟨((g3.gP 6).trans (c0P 6)).trans b2, by rw [wp_ne hbx]; exact b3, h.he, by rw [Gm]; exact h.nm, Gm14.trans h.h14, h.di.1⟩
    have L0 : LX 1 T k c' (sI m' 38 0) p a kk v l := LX_ext g6 (fun _ _ => rfl) rfl (fun i h1 h2 => gI_sIn _ _ (by omega)) rfl
    have T0 : TPE T c' (sI m' 38 0) := TPE_ext g5 rfl rfl
    have FC : ∀ {c2 : Rec}, FRb c' c2 → (∀ q, gA c2 q = gA c q) ∧ (∀ q, gP c2 q = gP c q) ∧ (∀ q, q ≠ 128 → gQ c2 q = gQ c q) ∧ (∀ q, q < 40 → q ≠ 1 → q ≠ 2 → q ≠ 11 → gI c2 q = gI c q) ∧ gI c2 1 = 0 ∧ gI c2 11 = 0 := by
      intro c2 f
      refine ⟨fun q => ?_, fun q => ?_, fun q hq => ?_, fun q h1 h2 h3 h4 => ?_, ?_, ?_⟩
      · exact (f.gA q).trans ((g3.gA q).trans (c0A q))
      · exact (f.2.1 q).trans ((g3.gP q).trans (c0P q))
      · exact (f.2.2.1 q hq).trans ((g3.gQ q).trans (c0Q q))
      · rw [f.2.2.2 q h1, g3.2.2 q (by omega), gI_sIn _ _ (by omega), c0I q h2 h3 h4]
      · rw [f.2.2.2 1 (by omega), g3.2.2 1 (by omega), gI_sIn _ _ (by omega), c01]
      · rw [f.2.2.2 11 (by omega), g3.2.2 11 (by omega), gI_sIn _ _ (by omega), c011]
    have FM : ∀ {m2 : Rec}, FMb (sI m' 38 0) m2 → (∀ q, q ≠ 36 → gA m2 q = gA m q) ∧ (∀ q, gL m2 q = gL m q) ∧ (∀ q, 13 < q → q ≠ 38 → gI m2 q = gI m q) ∧ gI m2 2 = 0 := by
      intro m2 f
      refine ⟨fun q h1 => ?_, fun q => ?_, fun q hq h38 => ?_, ?_⟩
      · rw [f.1 q h1, gA_sI, g4.gA q]; rfl
      · rw [f.gL q, gL_sI, g4.gL q]; rfl
      · rw [f.2.2 q (by omega) h38, gI_sIn _ _ h38, g4.2.2 q (by omega)]
        unfold mBg
        rw [gI_sIn _ _ (by omega), gI_sIn _ _ (by omega), gI_sIn _ _ (by omega), gI_sIn _ _ (by omega), gI_sIn _ _ (by omega), gI_sIn _ _ (by omega), gI_sIn _ _ (by omega)]
      · rw [f.2.2 2 (by omega) (by omega), gI_sIn _ _ (by omega), g4.2.2 2 (by omega)]; rfl
    have hMS : ∀ {c2 m2 : Rec} {f : Int32}, FRb c' c2 → FMb (sI m' 38 0) m2 → gI m2 10 = f → MS (sI c2 11 f) m2 ∧ CK c (sI c2 11 f) ∧ MK m m2 := by
      intro c2 m2 f fc fm h10
      obtain ⟨fA, fP, fQ, fI, f1, f11⟩ := FC fc
      obtain ⟨gA', gL', gI', gI2⟩ := FM fm
      refine ⟨MS_read (f := f) hM (fun q _ => fA q) (fun q h1 h2 h3 h4 h5 => ?_) ?_ (gI_sIs _ _ _) (fun q hq => gA' q (by omega)) (fun q hq _ h38 => gI' q (by omega) h38) gI2 h10, ⟨fP 6, fP 31, fQ 12 (by omega), fQ 32 (by omega), ?_⟩, ⟨gL' 19, gL' 21, gA' 14 (by omega), gA' 16 (by omega), gA' 17 (by omega), gA' 22 (by omega), gI' 24 (by omega) (by omega)⟩⟩
      · rw [gI_sIn _ _ h4]; exact fI q h1 h2 h3 h4
      · rw [gI_sIn _ _ (by omega)]; exact f1
      · rw [gI_sIn _ _ (by omega)]; exact fI 13 (by omega) (by omega) (by omega) (by omega)
    have EX : ∀ {W2 : Wd} {c2 : Rec}, XW x (wp G x 0 c') W2 c2 41 → (∀ a kd r, a ≠ x → G.2 a = some (kd, r) → W2.2 a = some (kd, r)) ∧ G.1 ≤ W2.1 ∧ W2.1 ≤ G.1 + 41 := fun {W2 c2} f => ⟨fun a kd r h1 h2 => f.2.1 a kd r h1 (by rw [wp_ne h1]; exact h2), f.2.2.2.1, f.2.2.2.2⟩
    rcases bloop_v x1 X0 T0 L0 B0 ((g3.2.2 129 (by omega)).trans (gI_sIs _ _ _)) (gI_sIs _ _ _) with ⟨W2, c2, m2, nn, r1, r2, r3, r4, r5, r6, r7, r8, r9, r10⟩ | ⟨W2, c2, m2, r1, r2, r3, r4, r5, r6⟩
    · obtain ⟨e1, e2, e3⟩ := EX r3
      obtain ⟨q1, q2, q3⟩ := hMS r4 r5 r10
      obtain ⟨fA, fP, fQ, fI, f1, f11⟩ := FC r4
      have c11 : sI c2 11 0 = c2 := by
        rw [← f11, sI_id]
      rw [c11] at q1 q2
      have hR : RR x W2 m2 c2 b e z d ow n U := h.ext r3.1 e1 r3.2.2.1 q2 q1 q3
      rw [r1, r2]
      show ANS x G (MG _ W2 _) _
      rw [MG_of _ (show (wp G x 0 c0).1 ≤ W2.1 from e2), RD_of _ r3.1]
      obtain ⟨yo, hyo⟩ := hR.1.2.2.2.2.1
      obtain ⟨y0, be1, be2⟩ := x4_be_v (y := yo) h.hz
      have h13 := hR.g3
      have em : sB m2 14 (RF d) = m2 := hR.em
      have la := m_layAside_v m2 d
      rw [em] at la
      rw [RD_of _ hyo, RD_of _ h13, NE_of _ (by omega), be1, BD_some, LT, la, BD_some]
      obtain ⟨v25, v26, kk, y', d'', t1, t2, t3, t4, t5, t6, t7⟩ := run_v (d := d) (e := e) (b := b) x1 (s := sB m2 18 (va_cpy (RF d) (gA m2 18) 24 0 140)) (c := c2) (W := W2) r3.1 r9 r7 r8 (fun j hj => by
        obtain ⟨q, s1, s2⟩ := r6 j hj
        exact ⟨q, s1, s2.ext (fun _ _ _ h => h) (fun i _ => by rw [gA_sBn _ _ (by omega)])⟩) ((fP 6).trans b2) hR.g2 h.he ⟨yo, hyo⟩ nn 0 y0 d FU (by omega) (by unfold FU; omega) be2 h.gd (KH.refl d)
      have t1' : LP5 (xbL x x1) FU (-1 : Int32) (0 : Int32) (0 : Int32) (0 : Int32) (wp W2 (x + 21) 3 y0) = xbE x x1 v25 v26 (nI kk) (wp W2 (x + 21) 3 y') := t1
      have t2' : LP3 (mbL x1) FU (0 : Int32) (0 : Int32) (sB (sB m2 18 (va_cpy (RF d) (gA m2 18) 24 0 140)) 14 (RF d)) = mbE x1 (nI kk) v26 (sB (sB m2 18 (va_cpy (RF d) (gA m2 18) 24 0 140)) 14 (RF d'')) := t2
      rw [t1', t2']
      have hS : RR x (wp W2 (x + 21) 3 y') (sB (sB m2 18 (va_cpy (RF d) (gA m2 18) 24 0 140)) 14 (RF d)) c2 b e z d ow n U := by
        refine (hR.tried y').ro ?_ ⟨rfl, rfl, ?_, ?_, ?_, ?_, rfl⟩
        · exact q1
        · rw [gA_sBs]; exact hR.h14.symm
        · rw [gA_sBn _ _ (by omega), gA_sBn _ _ (by omega)]
        · rw [gA_sBn _ _ (by omega), gA_sBn _ _ (by omega)]
        · rw [gA_sBn _ _ (by omega), gA_sBn _ _ (by omega)]
      obtain ⟨G', mF, v1, v2, v3, v4⟩ := bookEnd x1 h1 hS (wp_at _ _ _ _) (fun j hj => by rw [gA_sBs, pk_cpy_in (by omega) (by omega)]; congr 1) t3 t4 t5 t6 t7
      refine ⟨v25, G', mF, v1, v2, ⟨?_, ?_, fun a kd r hk ha => ?_⟩, v4⟩
      · have := v3.1
        have h0 : W2.1 ≤ G'.1 := this
        omega
      · have := v3.2.1
        have h0 : G'.1 ≤ W2.1 + 8 := this
        omega
      · have h4 := e1 a kd r (kd_ne ha b1 (by omega)) ha
        exact v3.2.2 a kd r hk (by rw [wp_ne (kd_ne h4 hyo (by omega))]; exact h4)
    · obtain ⟨e1, e2, e3⟩ := EX r3
      obtain ⟨ee, aa, z1, z2, z3, z4, z5, z6, z7⟩ := r6
      obtain ⟨q1, q2, q3⟩ := hMS r4 r5 z6
      rw [r1, r2]
      show ANS x G (MG _ W2 _) _
      rw [MG_of _ (show (wp G x 0 c0).1 ≤ W2.1 from e2), RD_of _ r3.1, LT, LT, z4, gI_sIn _ _ (by omega), z5, z7]
      have X9 := r3.wr (sI c2 11 (nI ee))
      refine ⟨_, _, _, rfl, rfl, ⟨e2, by show W2.1 ≤ G.1 + 90; omega, fun a kd r hk ha => ?_⟩, (h.ext (wp_at _ _ _ _) (fun a kd r h1 h2 => ?_) X9.2.2.1 q2 q1 q3).rel⟩
      · rw [wp_ne (kd_ne ha b1 (by omega))]; exact e1 a kd r (kd_ne ha b1 (by omega)) ha
      · rw [wp_ne h1]; exact e1 a kd r h1 h2
  · rw [show inn x1 0 1 = false from hp]
    exact (h.t0 0).ans (v := -1000) rfl rfl
end OPS
