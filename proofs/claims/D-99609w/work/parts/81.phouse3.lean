/-! PURE: a house is read: the steps, the loop, the end -/
theorem first_go {s s' : Rec} {r lim : Nat} (hr : r < 24) (hne : ¬ gA s 15 r = nI lim) (hg : m_go s = some s') : m_readFirst s (nI r) (nI lim) = some (1, s') := by
  unfold m_readFirst
  rw [IX_nI _ hr (by omega), if_neg hne, hg, BD_some]
theorem first_full {s s' : Rec} {r lim : Nat} (hr : r < 24) (he : gA s 15 r = nI lim) (hb : m_bad s 4 = some (0, s')) : m_readFirst s (nI r) (nI lim) = some (0, s') := by
  unfold m_readFirst
  rw [IX_nI _ hr (by omega), if_pos he, hb, BD2_some, BZ_0]
section STEP
variable {T : Nat → Nat} {N : Nat} {c m e : Rec} {p a k v b : Nat} {l : List Nat} {h : Nat → Nat} {u5 u6 : Bool}
/-- a line with room -/
theorem stepR (hT : TPE T c m) (hX : LX 0 T N c m p a k v l) (hH : HR b c e m h u5 u6) (hk1 : k = 1) {i r lim : Nat} (hi : i < 5) (hr : r < 24) (hlim : lim < 100) (hle : h r ≤ lim) (hfind : x5_find 0 c (fun i => i + 0) 7 = some (nI i)) (hroom : x6_isRoom c b e (nI i) = if nI lim ≤ nI (h r) then some 0 else some 1) {om : Rec → Option (Int32 × Rec)} (hread : m_readLine m = BD2 (BD2 (m_readFirst m (nI r) (nI lim)) (fun v2 s3 => if v2 = 0 then some (0, s3) else om s3)) (fun v s => BZ v (some (v, s)))) (hl : h r < lim → ∀ c' m' p' a' k' v' l', TPE T c' m' → LX 0 T N c' m' p' a' k' v' l' → HR b c' e m' h u5 u6 → OH b T N c' m' p' k' (x6_line c' b e (nI i)) (om m')) (rec : Int32 → Rec → Rec → Option (Option Int32 × Rec × Rec)) (recM : Int32 → Rec → Option (Int32 × Rec)) (v5 v10 : Int32) : OS b T N c m (p + 1) True (hB b rec v5 e c) (mB recM v10 m) rec recM v5 v10 := by
  obtain ⟨k4, tc, tm⟩ := hX.tok
  have z1 : ¬ gI c 103 = 0 := fun e => by
    have e' : nI k = 0 := tc.symm.trans e
    rw [hk1] at e'; exact absurd e' (by decide)
  have z2 : ¬ gI m 7 = 0 := fun e => by
    rw [tm, hk1] at e; exact absurd e (by decide)
  have hmr : gA m 15 r = nI (h r) := hH.2.2.2.2.2.1 r hr
  rw [hB_low rec v5 hi z1 hfind, mB_z recM v10 z2, hread, hroom]
  by_cases hf : h r < lim
  · rw [if_neg (nI_ge hf (by omega)), BD_some, must_1, BX_r]
    obtain ⟨m', g1, g2⟩ := after_v hT hX rfl (fun _ _ _ => rfl) rfl (FMh.refl m) (hH.once hi) (om := fun m' => BD2 (om m') (fun v s => BZ v (some (v, s)))) (fun c' m' p' a' k' v' l' t1 t2 t3 => OH_bz (hl hf c' m' p' a' k' v' l' t1 t2 t3)) rec recM v5 v10
    rw [first_go hr (by rw [hmr]; exact fun e => by have := (nI_eq (by omega) (by omega)).mp e; omega) g1, BD2_some, if_neg (show ¬ (1 : Int32) = 0 by decide)]
    exact g2
  · obtain ⟨c', m', f1, f2, f3, f4, f5⟩ := fail_v hX (e := 4) (by omega) (by omega) (by omega)
    rw [if_pos (nI_le (by omega) (by omega)), BD_some, show (4 : Int32) = nI 4 from rfl, f1, BX_t, first_full hr (by rw [hmr]; congr 1; omega) f2, BD2_some, if_pos rfl, BD2_some, BZ_0, zB_0]
    exact Or.inr ⟨c', e, m', rfl, rfl, f3.toh, f4.toh, f5⟩
theorem readLine_i {i : Nat} (hX : LX 0 T N c m p a k v l) (hi : i < 7) (h1 : isW k l (SN i) = true) (h2 : ∀ j, j < i → isW k l (SN j) = false) :
    (i = 0 → m_readLine m = BD2 (m_readPlain m (0 : Int32) (5 : Int32) (0 : Int32)) (fun v s => BZ v (some (v, s)))) ∧
    (i = 1 → m_readLine m = BD2 (m_readSight m) (fun v s => BZ v (some (v, s)))) ∧
    (i = 2 → m_readLine m = BD2 (m_readPlant m) (fun v s => BZ v (some (v, s)))) ∧
    (i = 3 → m_readLine m = BD2 (m_readPlain m (2 : Int32) (4 : Int32) (11 : Int32)) (fun v s => BZ v (some (v, s)))) ∧
    (i = 4 → m_readLine m = BD2 (m_readPlain m (3 : Int32) (5 : Int32) (15 : Int32)) (fun v s => BZ v (some (v, s)))) ∧
    (i = 5 → m_readLine m = BD2 (m_readOnce m (0 : Int32) (4 : Int32) (60 : Int32)) (fun v s => BZ v (some (v, s)))) ∧
    (i = 6 → m_readLine m = BD2 (m_readOnce m (1 : Int32) (5 : Int32) (6 : Int32)) (fun v s => BZ v (some (v, s)))) := by
  have w : ∀ j, j < 7 → m_isWord m (nI j) = some (bI (isW k l (SN j))) := fun j hj => by rw [m_isWord_v hX (by omega), WL_SN hj]
  have wT : m_isWord m (nI i) = some 1 := by rw [w i hi, h1]; rfl
  have wF : ∀ j, j < i → m_isWord m (nI j) = some 0 := fun j hj => by rw [w j (by omega), h2 j hj]; rfl
  have z : ¬ (1 : Int32) = 0 := by decide
  refine ⟨fun e => ?_, fun e => ?_, fun e => ?_, fun e => ?_, fun e => ?_, fun e => ?_, fun e => ?_⟩ <;> subst e <;> unfold m_readLine
  · rw [show m_isWord m (0 : Int32) = some 1 from wT, BD_some, if_neg z]
  · rw [show m_isWord m (0 : Int32) = some 0 from wF 0 (by omega), BD_some, if_pos rfl, show m_isWord m (1 : Int32) = some 1 from wT, BD_some, if_neg z]
  · rw [show m_isWord m (0 : Int32) = some 0 from wF 0 (by omega), BD_some, if_pos rfl, show m_isWord m (1 : Int32) = some 0 from wF 1 (by omega), BD_some, if_pos rfl, show m_isWord m (2 : Int32) = some 1 from wT, BD_some, if_neg z]
  · rw [show m_isWord m (0 : Int32) = some 0 from wF 0 (by omega), BD_some, if_pos rfl, show m_isWord m (1 : Int32) = some 0 from wF 1 (by omega), BD_some, if_pos rfl, show m_isWord m (2 : Int32) = some 0 from wF 2 (by omega), BD_some, if_pos rfl, show m_isWord m (3 : Int32) = some 1 from wT, BD_some, if_neg z]
  · rw [show m_isWord m (0 : Int32) = some 0 from wF 0 (by omega), BD_some, if_pos rfl, show m_isWord m (1 : Int32) = some 0 from wF 1 (by omega), BD_some, if_pos rfl, show m_isWord m (2 : Int32) = some 0 from wF 2 (by omega), BD_some, if_pos rfl, show m_isWord m (3 : Int32) = some 0 from wF 3 (by omega), BD_some, if_pos rfl, show m_isWord m (4 : Int32) = some 1 from wT, BD_some, if_neg z]
  · rw [show m_isWord m (0 : Int32) = some 0 from wF 0 (by omega), BD_some, if_pos rfl, show m_isWord m (1 : Int32) = some 0 from wF 1 (by omega), BD_some, if_pos rfl, show m_isWord m (2 : Int32) = some 0 from wF 2 (by omega), BD_some, if_pos rfl, show m_isWord m (3 : Int32) = some 0 from wF 3 (by omega), BD_some, if_pos rfl, show m_isWord m (4 : Int32) = some 0 from wF 4 (by omega), BD_some, if_pos rfl, show m_isWord m (5 : Int32) = some 1 from wT, BD_some, if_neg z]
  · rw [show m_isWord m (0 : Int32) = some 0 from wF 0 (by omega), BD_some, if_pos rfl, show m_isWord m (1 : Int32) = some 0 from wF 1 (by omega), BD_some, if_pos rfl, show m_isWord m (2 : Int32) = some 0 from wF 2 (by omega), BD_some, if_pos rfl, show m_isWord m (3 : Int32) = some 0 from wF 3 (by omega), BD_some, if_pos rfl, show m_isWord m (4 : Int32) = some 0 from wF 4 (by omega), BD_some, if_pos rfl, show m_isWord m (5 : Int32) = some 0 from wF 5 (by omega), BD_some, if_pos rfl, show m_isWord m (6 : Int32) = some 1 from wT, BD_some, if_neg z]
theorem readLine_no (hX : LX 0 T N c m p a k v l) (h2 : ∀ j, j < 7 → isW k l (SN j) = false) : m_readLine m = BD2 (m_bad m (1 : Int32)) (fun v s => BZ v (some (v, s))) := by
  have wF : ∀ j, j < 7 → m_isWord m (nI j) = some 0 := fun j hj => by rw [m_isWord_v hX (by omega), WL_SN hj, h2 j hj]; rfl
  unfold m_readLine
  rw [show m_isWord m (0 : Int32) = some 0 from wF 0 (by omega), BD_some, if_pos rfl, show m_isWord m (1 : Int32) = some 0 from wF 1 (by omega), BD_some, if_pos rfl, show m_isWord m (2 : Int32) = some 0 from wF 2 (by omega), BD_some, if_pos rfl, show m_isWord m (3 : Int32) = some 0 from wF 3 (by omega), BD_some, if_pos rfl, show m_isWord m (4 : Int32) = some 0 from wF 4 (by omega), BD_some, if_pos rfl, show m_isWord m (5 : Int32) = some 0 from wF 5 (by omega), BD_some, if_pos rfl, show m_isWord m (6 : Int32) = some 0 from wF 6 (by omega), BD_some, if_pos rfl]
theorem isW_1 {k : Nat} {l w : List Nat} (h : isW k l w = true) : k = 1 := by
  unfold isW at h
  rw [Bool.and_eq_true] at h
  exact of_decide_eq_true h.1
/-- a line told once -/
theorem stepO (hT : TPE T c m) (hX : LX 0 T N c m p a k v l) (hk1 : k = 1) {i q at2 hi2 : Nat} {u : Bool} {v5' v6' : Bool} (hi : i = 5 ∨ i = 6) (hq : q < 2) (hfind : x5_find 0 c (fun i => i + 0) 7 = some (nI i)) (hw : ∃ w, w < 128 ∧ gI c 109 = nI w ∧ w.testBit i = u) (hA : gA m 23 q = bI u) (hread : m_readLine m = BD2 (m_readOnce m (nI q) (nI at2) (nI hi2)) (fun v s => BZ v (some (v, s)))) (hH1 : HR b (sI c 109 ((gI c 109) ||| ((1 : Int32) <<< (nI i &&& 31)))) e (sA m 23 q 1) h v5' v6') (hl : ∀ c' m' p' a' k' v' l', TPE T c' m' → LX 0 T N c' m' p' a' k' v' l' → HR b c' e m' h v5' v6' → OH b T N c' m' p' k' (x6_line c' b e (nI i)) (BD2 (m_readNumber m' (1 : Int32) (nI hi2)) (fun v6 s7 => BD2 (m_put s7 (nI at2) v6) (fun v9 s10 => BZ v9 (some (v9, s10)))))) (rec : Int32 → Rec → Rec → Option (Option Int32 × Rec × Rec)) (recM : Int32 → Rec → Option (Int32 × Rec)) (v5 v10 : Int32) : OS b T N c m (p + 1) True (hB b rec v5 e c) (mB recM v10 m) rec recM v5 v10 := by
  obtain ⟨k4, tc, tm⟩ := hX.tok
  have z1 : ¬ gI c 103 = 0 := fun e => by
    have e' : nI k = 0 := tc.symm.trans e
    rw [hk1] at e'; exact absurd e' (by decide)
  have z2 : ¬ gI m 7 = 0 := fun e => by
    rw [tm, hk1] at e; exact absurd e (by decide)
  obtain ⟨w, w1, w2, w3⟩ := hw
  have hh : hs (gI c 109) (nI i) = u := by rw [w2, hs_nI (by omega) (by omega), w3]
  rw [hB_high rec v5 hi z1 hfind, mB_z recM v10 z2, hread, hh]
  unfold m_readOnce
  rw [IX_nI _ hq (by omega), hA]
  cases u
  · rw [if_neg (show ¬ false = true by decide), if_pos (show bI false = (0 : Int32) from rfl), LT]
    obtain ⟨m', g1, g2⟩ := after_v hT hX (m1 := sA m 23 q 1) (i := nI i) (gA_sAn _ _ _ (by omega)) (fun _ _ _ => rfl) rfl (FMh_sA m _ _ (by omega)) hH1 (om := fun m' => BD2 (BD2 (m_readNumber m' (1 : Int32) (nI hi2)) (fun v6 s7 => BD2 (m_put s7 (nI at2) v6) (fun v9 s10 => BZ v9 (some (v9, s10))))) (fun v s => BZ v (some (v, s)))) (fun c' m' p' a' k' v' l' t1 t2 t3 => OH_bz (hl c' m' p' a' k' v' l' t1 t2 t3)) rec recM v5 v10
    rw [g1, BD_some]
    exact g2
  · obtain ⟨c', m', f1, f2, f3, f4, f5⟩ := fail_v hX (e := 3) (by omega) (by omega) (by omega)
    rw [if_pos rfl, if_neg (show ¬ bI true = (0 : Int32) by decide), show (3 : Int32) = nI 3 from rfl, f1, BX_t, f2, BD2_some, BZ_0, BD2_some, BZ_0, zB_0]
    exact Or.inr ⟨c', e, m', rfl, rfl, f3.toh, f4.toh, f5⟩
theorem step_v (hT : TPE T c m) (hX : LX 0 T N c m p a k v l) (hH : HR b c e m h u5 u6) (hk0 : k ≠ 0) (rec : Int32 → Rec → Rec → Option (Option Int32 × Rec × Rec)) (recM : Int32 → Rec → Option (Int32 × Rec)) (v5 v10 : Int32) : OS b T N c m (p + 1) True (hB b rec v5 e c) (mB recM v10 m) rec recM v5 v10 := by
  obtain ⟨k4, tc, tm⟩ := hX.tok
  have z1 : ¬ gI c 103 = 0 := fun e => by
    have e' : nI k = nI 0 := tc.symm.trans e
    exact hk0 ((nI_eq (by omega) (by omega)).mp e')
  have z2 : ¬ gI m 7 = 0 := fun e => hk0 ((mk_0 k4).mp (tm.symm.trans e))
  have hf := x5_find_v hT hX (o := 0) (n := 7) (by omega)
  obtain ⟨hb, ⟨e7, e8, e9, e10, -⟩, -, ⟨d0, d1, d2, d3, -⟩, -, hr, ⟨w, ho1, ho2, ho3, ho4⟩, hv, hv2⟩ := id hH
  rcases lf_7 (f := fun i => isW k l (SN (i + 0))) with hno | ⟨i, hi, i1, i2⟩
  · rw [fdc_none hno] at hf
    obtain ⟨c', m', f1, f2, f3, f4, f5⟩ := fail_v hX (e := 1) (by omega) (by omega) (by omega)
    rw [mB_z recM v10 z2, readLine_no hX hno, show (1 : Int32) = nI 1 from rfl, f2, BD2_some, BZ_0, zB_0]
    unfold hB
    rw [if_neg z1, hf, BD_some, JN1]
    dsimp only
    rw [if_pos (show lf 0 = (-1 : Int32) by decide), show (1 : Int32) = nI 1 from rfl, f1, BX_t]
    exact Or.inr ⟨c', e, m', rfl, rfl, f3.toh, f4.toh, f5⟩
  · rw [fdc_at i1 i2 hi, lf_s] at hf
    have hk1 : k = 1 := isW_1 i1
    obtain ⟨r0, r1, r2, r3, r4, r5, r6⟩ := readLine_i hX hi i1 i2
    rcases (show i = 0 ∨ i = 1 ∨ i = 2 ∨ i = 3 ∨ i = 4 ∨ i = 5 ∨ i = 6 by omega) with rfl | rfl | rfl | rfl | rfl | rfl | rfl
    · refine stepR hT hX hH hk1 (i := 0) (r := 0) (lim := 5) (by omega) (by omega) (by omega) d0 hf ?_ (om := fun s3 => IX (0 : Int32) 24 (fun i4 => BD2 (m_readNew s3 ((0 : Int32) + (gA s3 15 i4))) (fun v6 s7 => (if v6 = 0 then some ((0 : Int32), s7) else LT (sA s7 15 i4 ((gA s7 15 i4) + (1 : Int32))) (fun s8 => some ((1 : Int32), s8)))))) ((r0 rfl).trans rfl) (fun hl c' m' p' a' k' v' l' t1 t2 t3 => ?_) rec recM v5 v10
      · show PG (gP c 108) b (if (5 : Int32) ≤ gI e 7 then some (0 : Int32) else some (1 : Int32)) = _
        rw [PG_of _ hb, e7]; rfl
      · exact Eq.mpr (congrArg (OH b T N c' m' p' k' _) (IX_nI (j := 0) _ (by omega) (by omega))) (line0_v t1 t2 t3 hl)
    · obtain ⟨m', g1, g2⟩ := after_v hT hX rfl (fun _ _ _ => rfl) rfl (FMh.refl m) (hH.once (i := 1) (by omega)) (fun c' m' p' a' k' v' l' t1 t2 t3 => OH_bz (line1_v t1 t2 t3)) rec recM v5 v10
      rw [hB_low rec v5 (i := 1) (by omega) z1 hf, mB_z recM v10 z2, r1 rfl, show x6_isRoom c b e (nI 1) = some 1 from rfl, BD_some, must_1, BX_r]
      unfold m_readSight
      rw [g1, BD_some]
      exact g2
    · refine stepR hT hX hH hk1 (i := 2) (r := 1) (lim := 6) (by omega) (by omega) (by omega) d1 hf ?_ ((r2 rfl).trans rfl) (fun hl c' m' p' a' k' v' l' t1 t2 t3 => line2_v t1 t2 t3 hl) rec recM v5 v10
      show PG (gP c 108) b (if (6 : Int32) ≤ gI e 8 then some (0 : Int32) else some (1 : Int32)) = _
      rw [PG_of _ hb, e8]; rfl
    · refine stepR hT hX hH hk1 (i := 3) (r := 2) (lim := 4) (by omega) (by omega) (by omega) d2 hf ?_ (om := fun s3 => IX (2 : Int32) 24 (fun i4 => BD2 (m_readNew s3 ((11 : Int32) + (gA s3 15 i4))) (fun v6 s7 => (if v6 = 0 then some ((0 : Int32), s7) else LT (sA s7 15 i4 ((gA s7 15 i4) + (1 : Int32))) (fun s8 => some ((1 : Int32), s8)))))) ((r3 rfl).trans rfl) (fun hl c' m' p' a' k' v' l' t1 t2 t3 => ?_) rec recM v5 v10
      · show PG (gP c 108) b (if (4 : Int32) ≤ gI e 9 then some (0 : Int32) else some (1 : Int32)) = _
        rw [PG_of _ hb, e9]; rfl
      · exact Eq.mpr (congrArg (OH b T N c' m' p' k' _) (IX_nI (j := 2) _ (by omega) (by omega))) (line3_v t1 t2 t3 hl)
    · refine stepR hT hX hH hk1 (i := 4) (r := 3) (lim := 5) (by omega) (by omega) (by omega) d3 hf ?_ (om := fun s3 => IX (3 : Int32) 24 (fun i4 => BD2 (m_readNew s3 ((15 : Int32) + (gA s3 15 i4))) (fun v6 s7 => (if v6 = 0 then some ((0 : Int32), s7) else LT (sA s7 15 i4 ((gA s7 15 i4) + (1 : Int32))) (fun s8 => some ((1 : Int32), s8)))))) ((r4 rfl).trans rfl) (fun hl c' m' p' a' k' v' l' t1 t2 t3 => ?_) rec recM v5 v10
      · show PG (gP c 108) b (if (5 : Int32) ≤ gI e 10 then some (0 : Int32) else some (1 : Int32)) = _
        rw [PG_of _ hb, e10]; rfl
      · exact Eq.mpr (congrArg (OH b T N c' m' p' k' _) (IX_nI (j := 3) _ (by omega) (by omega))) (line4_v t1 t2 t3 hl)
    · exact stepO hT hX hk1 (i := 5) (q := 0) (at2 := 4) (hi2 := 60) (by omega) (by omega) hf ⟨w, ho1, ho2, ho3⟩ hv (r5 rfl) hH.once5 (fun c' m' p' a' k' v' l' t1 t2 t3 => line5_v t1 t2 t3) rec recM v5 v10
    · exact stepO hT hX hk1 (i := 6) (q := 1) (at2 := 5) (hi2 := 6) (by omega) (by omega) hf ⟨w, ho1, ho2, ho4⟩ hv2 (r6 rfl) hH.once6 (fun c' m' p' a' k' v' l' t1 t2 t3 => line6_v t1 t2 t3) rec recM v5 v10
/-- the model's end -/
def mE (v10 : Int32) (s11 : Rec) : Option (Int32 × Rec) := LP2 (fun (rec15 : Int32 → Rec → Option (Int32 × Rec)) (v13 : Int32) (s14 : Rec) => (if (24 : Int32) ≤ v13 then LP2 (fun (rec18 : Int32 → Rec → Option (Int32 × Rec)) (v16 : Int32) (s17 : Rec) => (if (20 : Int32) ≤ v16 then BD (m_startSo s17) (fun s20 => LT (sI s20 24 (0 : Int32)) (fun s21 => some (v10, s21))) else IX v16 20 (fun i22 => LT (sL s17 19 i22 (gL s17 20 i22)) (fun s23 => rec18 (v16 + (1 : Int32)) s23)))) FU (0 : Int32) s14 else IX v13 24 (fun i24 => IX v13 406 (fun i25 => LT (sA s14 14 i25 (gA s14 15 i24)) (fun s26 => rec15 (v13 + (1 : Int32)) s26))))) FU (0 : Int32) s11
/-- how the loop ends -/
def OL (b : Nat) (c m : Rec) (oc : Option (Option Int32 × Rec × Rec)) (om : Option (Int32 × Rec)) : Prop :=
  (∃ v c' e' m' h' u5 u6, oc = some (some v, e', c') ∧ om = mE v m' ∧ HR b c' e' m' h' u5 u6 ∧ FRh c c' ∧ FMh m m' ∧ gI m' 10 = 0) ∨ (∃ c' e' m', oc = some (none, e', c') ∧ om = some ((-1 : Int32) - gI m' 11, m') ∧ FRh c c' ∧ FMh m m' ∧ ER c' m')
theorem loop_v (hT : TPE T c m) (hX : LX 0 T N c m p a k v l) (hH : HR b c e m h u5 u6) (v5 : Int32) : OL b c m (LP3 (hB b) FU v5 e c) (LP2 mB FU v5 m) := by
  refine LP32_inv (fun i a1 a2 a3 b1 b2 => b1 = a1 ∧ ∃ p a k v l h u5 u6, HR b a3 a2 b2 h u5 u6 ∧ FRh c a3 ∧ FMh m b2 ∧ TPE T a3 b2 ∧ LX 0 T N a3 b2 p a k v l ∧ i = 1000 - p) (OL b c m) (fun i a1 a2 a3 b1 b2 rec recM hI => ?_) FU (1000 - p) v5 e c v5 m (by unfold FU; omega) ⟨rfl, p, a, k, v, l, h, u5, u6, hH, FRh.refl c, FMh.refl m, hT, hX, rfl⟩
  obtain ⟨rfl, p, a, k, v, l, h, u5, u6, hH, fc, fm, hT, hX, rfl⟩ := hI
  obtain ⟨k4, tc, tm⟩ := hX.tok
  by_cases hk : k = 0
  · refine Or.inr (Or.inl ⟨b1, a3, a2, b2, h, u5, u6, ?_, ?_, hH, fc, fm, hX.f10⟩)
    · unfold hB
      rw [if_pos (show gI a3 103 = 0 from tc.trans (by rw [hk]; rfl))]
    · unfold mB
      rw [if_pos (show gI b2 7 = 0 from tm.trans (by rw [hk]; rfl))]
      rfl
  · rcases step_v hT hX hH hk rec recM b1 b1 with ⟨c', e', m', h', u5', u6', p', a', k', v', l', g1, g2, g3, g4, g5, g6, g7, g8, -⟩ | ⟨c', e', m', g1, g2, g3, g4, g5⟩
    · have := hX.pos.2.2
      have := hX.2.2.1
      exact Or.inl ⟨1000 - p', b1 + 1, e', c', b1 + 1, m', by omega, ⟨rfl, p', a', k', v', l', h', u5', u6', g3, fc.trans g4, fm.trans g5, g6, g7, rfl⟩, g1, g2⟩
    · exact Or.inr (Or.inr ⟨c', e', m', g1, g2, fc.trans g3, fm.trans g4, g5⟩)
end STEP
