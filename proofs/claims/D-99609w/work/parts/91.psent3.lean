/-! PURE: sentences: counts, not, brackets -/
section ONE
variable {x b : Nat} {e : Rec} {d : Nat → Nat} {W : Wd} {T : Nat → Nat} {N : Nat} {c m : Rec} {p a k v : Nat} {l : List Nat} {o nn w : Nat} {nd : Nat → Nat}
/-- a number of any size -/
theorem num_1 (hT : TPE T c m) (hX : LX 2 T N c m p a k v l) (hk : k = 2) : ∃ c' m' p' a' k' v' l', x5_next 2 c = some c' ∧ m_readNumber m (0 : Int32) (999 : Int32) = some (1, m') ∧ FR2 c c' ∧ FM2 m m' ∧ TPE T c' m' ∧ LX 2 T N c' m' p' a' k' v' l' ∧ gI m' 13 = nI v := by
  obtain ⟨k4, tc, tm⟩ := hX.tok
  obtain ⟨v9, vc, vm⟩ := hX.nu hk
  have hX2 : LX 2 T N c (sI m 13 (nI v)) p a k v l := LX_ext hX (fun _ _ => rfl) rfl (fun i h1 h2 => gI_sIn _ _ (by omega)) rfl
  obtain ⟨c', m', p', a', k', v', l', n1, n2, n3, n4, n5, n6, n7, n8⟩ := next_v (m := sI m 13 (nI v)) (TPE_ext hT rfl rfl) hX2
  refine ⟨c', m', p', a', k', v', l', n1, ?_, n3.fr2, (FM2_sI m _ (by omega)).trans n4.fm2, n5, n6, ?_⟩
  · unfold m_readNumber
    rw [tm, if_pos ((mk_3 k4).mpr hk), vm, m_isIn_v, BD_some, show inn (nI v) 0 999 = inn (nI v) (nI 0) (nI 999) from rfl, inn_T (by omega) v9 (by omega), if_neg (show ¬ bI true = (0 : Int32) by decide), LT, n2, BD_some]
  · rw [n4.2.2 13 (by omega), gI_sIs]
theorem num_0 (hX : LX 2 T N c m p a k v l) (hk : k ≠ 2) : ∃ c' m', x5_must 2 c 0 1 = some (none, c') ∧ m_readNumber m (0 : Int32) (999 : Int32) = some (0, m') ∧ FR2 c c' ∧ FM2 m m' ∧ ER c' m' := by
  obtain ⟨k4, tc, tm⟩ := hX.tok
  obtain ⟨c', m', f1, f2, f3, f4, f5⟩ := fail_v hX (e := 1) (by omega) (by omega) (by omega)
  refine ⟨c', m', f1, ?_, f3, f4, f5⟩
  unfold m_readNumber
  rw [tm, if_neg (fun h => hk ((mk_3 k4).mp h)), show (1 : Int32) = nI 1 from rfl, f2, BD2_some, BZ_0]
/-- a count -/
theorem tail_count {rs ra : Wd → Nat → Int32 → Option (Option Nat × Wd)} {rc : Nat → Rec → Option (Int32 × Rec)} {x1 : Int32} {i : Nat} (hi : i < 3) (hno : nn ≤ 2 * o) (hS : SQ x W T N c m p a k v l b e d (o + 1) nn (w + 1) nd) : OT x W T N c m b e d o nn w nd (sgT rs ra x x1 0 0 (-1) (nI i) c W) (sdT rc 0 (nI (19 + i)) m) := by
  obtain ⟨t1, t2, t3, t4, t5, t6, t7, t8, t9, t10, t11, t12⟩ := id hS
  have hx := t1.lt t1.1
  have z1 : ¬ (1 : Int32) = 0 := by decide
  have e50 : (50 : Int32) + nI (19 + i) = nI (69 + i) := by rw [show (50 : Int32) = nI 50 from rfl, nI_add]; congr 1; omega
  obtain ⟨s60, m60⟩ := is2_v t3 (t := 60) (by omega)
  obtain ⟨s61, m61⟩ := is2_v t3 (t := 61) (by omega)
  obtain ⟨s62, m62⟩ := is2_v t3 (t := 62) (by omega)
  unfold sgT sdT m_readCompare
  rw [if_pos rfl, if_pos rfl, if_pos rfl, JN2, if_pos rfl, if_neg (show ¬ nI (19 + i) = (13 : Int32) from fun h => by have := (nI_eq (b := 13) (by omega) (by omega)).mp h; omega), if_pos (show (16 : Int32) ≤ nI (19 + i) from nI_le (a := 16) (by omega) (by omega)), if_pos (show (19 : Int32) ≤ nI (19 + i) from nI_le (a := 19) (by omega) (by omega)), show (60 : Int32) = nI 60 from rfl, show (61 : Int32) = nI 61 from rfl, show (62 : Int32) = nI 62 from rfl, s60, m60, s61, m61, s62, m62]
  simp only [BD_some, JN1]
  -- what comes behind the sign
  have go : k = 3 → OT x W T N c m b e d o nn w nd (RD W x 0 (fun s43 => BX (x5_must 2 s43 (1 : Int32) (1 : Int32)) (fun s44 => some (none, (wp W x 0 s44))) (fun u46 s44 => LT (wp W x 0 s44) (fun w45 => BD (x5_next 2 s44) (fun s49 => LT (wp w45 x 0 s49) (fun w50 => JN1 (fun (v51 : Int32) => RD w50 x 0 (fun s55 => BX (x5_must 2 s55 v51 (1 : Int32)) (fun s56 => some (none, (wp w50 x 0 s56))) (fun u58 s56 => LT (wp w50 x 0 s56) (fun w57 => BD (x5_next 2 s56) (fun s61 => LT (wp w57 x 0 s61) (fun w62 => LT (wn w62 14 r0) (fun w63 => LT w62.1 (fun b64 => BD (x17_init w63 b64 (nI i) (gI s44 144) (gI s56 144)) (fun w67 => MG w63 w67 (some (some b64, w67))))))))))) (fun (j52 : Int32 → Option (Option Nat × Wd)) => (if (gI s49 143) = (2 : Int32) then j52 (1 : Int32) else j52 (0 : Int32)))))))))
      (BD2 (BD (m_go m) (fun s6 => BD2 (m_readNumber s6 (0 : Int32) (999 : Int32)) (fun v8 s9 => (if v8 = 0 then some ((0 : Int32), s9) else BD2 (m_saysOne s9 ((50 : Int32) + nI (19 + i)) (0 : Int32) (gI s9 13) (gI m 9)) (fun v11 s12 => LT (sI s12 44 v11) (fun s13 => some ((1 : Int32), s13))))))) (fun v23 s24 => LT (sI s24 43 ((gI s24 43) - (1 : Int32))) (fun s20 => BZ v23 (some (v23, s20))))) := by
    intro hk
    obtain ⟨v2, vc, vm⟩ := t3.sg hk
    obtain ⟨c1, m1, p1, a1, k1, v1, l1, n1, n2, n3, n4, n5, n6, n7, -⟩ := next_v t2 t3
    have r2 : rb 2 = 140 := rfl
    have vc' : gI c 144 = nI v := vc
    have X1 := t1.wr c1
    rw [RD_of _ t1.1, must_1, BX_r, LT, wp_id t1.1, n1, n2, BD_some, BD_some, LT, JN1, vc', vm]
    obtain ⟨k14, tc1, tm1⟩ := n6.tok
    have tc1' : gI c1 143 = nI k1 := tc1
    rw [tc1']
    by_cases hk1 : k1 = 2
    · rw [if_pos (show nI k1 = (2 : Int32) by rw [hk1]; rfl)]
      dsimp only
      obtain ⟨v9, vc1, vm1⟩ := n6.nu hk1
      have vc1' : gI c1 144 = nI v1 := vc1
      obtain ⟨c2, m2, p2, a2, k2, v2', l2, y1, y2, y3, y4, y5, y6, y7⟩ := num_1 n5 n6 hk1
      rw [RD_of _ X1.1, must_1, BX_r, LT, wp_id X1.1, y1, BD_some, LT, LT, LT, wp_wp, vc1', y2, BD2_some, if_neg z1, y7, e50]
      have F : FR2 c c2 := n3.fr2.trans y3
      have M : FM2 m m2 := n4.fm2.trans y4
      have X2 := t1.wr c2
      obtain ⟨w1, w2, w3⟩ := X2.mk 14 r0
      have hb := t1.lt t4.2.1
      have hbx : b ≠ x := kd_ne t4.2.1 t1.1 (by omega)
      have wS : (wp W x 0 c2).1 = W.1 := rfl
      rw [wS] at w2 w3
      have X3 := w1.set (r' := sI (sI (sI r0 0 (nI i)) 1 (nI v)) 2 (nI v1)) w2 (by omega) (t1.2.2.1 _ (Nat.le_refl _))
      unfold x17_init
      rw [wS, RD_of _ w2, LT, LT, LT, LT, LT, LT, wp_wp, wp_wp, BD_some, MG_wp]
      have S2 : SQ x (wp (wn (wp W x 0 c2) 14 r0) W.1 14 (sI (sI (sI r0 0 (nI i)) 1 (nI v)) 2 (nI v1))) T N c2 m2 p2 a2 k2 v2' l2 b e d (o + 1) nn (w + 1) nd := by
        refine ⟨X3.refl, y5, y6, t4.ext (F.gP 6) ?_ (M.gL 19) (M.gA 14), (F.2.2 150 (by omega)).trans t5, (M.2.2 42 (by omega)).trans t6, t7, (M.2.2 41 (by omega)).trans t8, t9, (M.2.2 43 (by omega)).trans t10, t11, fun j hj => ?_⟩
        · rw [wp_ne (by omega), w3 b (by omega), wp_ne hbx]; exact t4.2.1
        · rw [M.gA 40]; exact t12 j hj
      obtain ⟨m3, u1, u2, u3⟩ := leaf_end (wc := 69 + i) (wa := 0) (wb := v1) (wr := v) hno S2 (X3.mono (by omega)) F.toh (FM2.tos M) (wp_at _ _ _ _) (Or.inr rfl) (fun f f0 f1 f2 f3 => ⟨by omega, Or.inr (Or.inr (Or.inr (Or.inr ⟨_, i, wp_at _ _ _ _, hi, rfl, f0, by rw [f3]; rfl, by rw [f2]; rfl, by omega, by omega⟩)))⟩)
      rw [show m_saysOne m2 (nI (69 + i)) (0 : Int32) (nI v1) (nI v) = some (nI nn, m3) from u1, BD2_some, LT, BD2_some, out_1 u3]
      exact u2
    · rw [if_neg (show ¬ nI k1 = (2 : Int32) from fun h => hk1 ((nI_eq (b := 2) (by omega) (by omega)).mp h))]
      dsimp only
      obtain ⟨c2, m2, y1, y2, y3, y4, y5⟩ := num_0 n6 hk1
      rw [RD_of _ X1.1, y1, BX_t, y2, BD2_some, if_pos rfl, BD2_some, out_0, wp_wp]
      exact Or.inr ⟨_, c2, _, o + 1, rfl, rfl, (t1.wr c2).mono (by omega), by omega, t7, (n3.fr2.trans y3).toh, (FM2.tos (n4.fm2.trans y4)).trans (FMs_sI _ _ (by omega)), ER_43 y5 _⟩
  cases h60 : (decide (k = 3) && decide (v = 60))
  · rw [show bI false = (0 : Int32) from rfl, if_pos rfl, if_pos rfl]
    cases h61 : (decide (k = 3) && decide (v = 61))
    · rw [show bI false = (0 : Int32) from rfl, if_pos rfl, if_pos rfl]
      cases h62 : (decide (k = 3) && decide (v = 62))
      · obtain ⟨c', m', f1, f2, f3, f4, f5⟩ := fail_v t3 (e := 1) (by omega) (by omega) (by omega)
        rw [show bI false = (0 : Int32) from rfl, if_pos rfl, if_pos rfl]
        rw [RD_of _ t1.1, show (1 : Int32) = nI 1 from rfl, f1, f2, BX_t, BD2_some, BZ_0, BD2_some]
        show OT x W T N c m b e d o nn w nd _ (LT (sI m' 43 ((gI m' 43) - (1 : Int32))) (fun s20 => BZ (0 : Int32) (some ((0 : Int32), s20))))
        rw [out_0]
        exact Or.inr ⟨_, c', _, o + 1, rfl, rfl, (t1.wr c').mono (by omega), by omega, t7, f3.toh, (FM2.tos f4).trans (FMs_sI _ _ (by omega)), ER_43 f5 _⟩
      · rw [show bI true = (1 : Int32) from rfl, if_neg z1, if_neg z1]
        rw [Bool.and_eq_true] at h62
        exact go (of_decide_eq_true h62.1)
    · rw [show bI true = (1 : Int32) from rfl, if_neg z1, if_neg z1]
      rw [Bool.and_eq_true] at h61
      exact go (of_decide_eq_true h61.1)
  · rw [show bI true = (1 : Int32) from rfl, if_neg z1, if_neg z1]
    rw [Bool.and_eq_true] at h60
    exact go (of_decide_eq_true h60.1)
/-- not -/
theorem tail_not {rs ra : Wd → Nat → Int32 → Option (Option Nat × Wd)} {rc : Nat → Rec → Option (Int32 × Rec)} {v7 v10 v13 : Int32} {f : Rec → Option (Int32 × Rec)} (hrc : ∀ s, rc 2 s = BD2 (f s) (fun v2 s3 => (if v2 = 0 then some ((0 : Int32), s3) else BD2 (m_saysOne s3 (1 : Int32) (gI s3 44) (0 : Int32) (0 : Int32)) (fun v5 s6 => LT (sI s6 44 v5) (fun s7 => some ((1 : Int32), s7)))))) (hP : PSp x b e d rs f (w + 1)) (hS : SQ x W T N c m p a k v l b e d (o + 1) nn (w + 1) nd) : OT x W T N c m b e d o nn w nd (sgT rs ra x (nI (w + 1)) 1 v7 v10 v13 c W) (sdT rc 0 (nI 13) m) := by
  obtain ⟨t1, t2, t3, t4, t5, t6, t7, t8, t9, t10, t11, t12⟩ := id hS
  have hx := t1.lt t1.1
  have hb := t1.lt t4.2.1
  have z1 : ¬ (1 : Int32) = 0 := by decide
  obtain ⟨w1, w2, w3⟩ := t1.mk 12 r0
  unfold sgT sdT
  rw [if_neg z1, LT, LT, RD_of _ w1.1, JN2, if_pos rfl, if_pos (show nI 13 = (13 : Int32) from rfl), hrc, show nI (w + 1) + (1 : Int32) = nI (w + 1 + 1) from nI_1 _]
  have S1 : SQ x (wn W 12 r0) T N c m p a k v l b e d (o + 1) nn (w + 1) nd := ⟨w1.refl, t2, t3, t4.ext rfl (by rw [w3 b (by omega)]; exact t4.2.1) rfl rfl, t5, t6, t7, t8, t9, t10, t11, t12⟩
  rcases hP _ T N c m p a k v l (o + 1) nn nd S1 with ⟨q, W2, c2, m2, p2, a2, k2, v2, l2, o2, nn2, nd2, tp, r1, r2, r3, r4, r5, r6, r7, r8, r9, r10, r11, r12, r13⟩ | ⟨W2, c2, m2, o2, r1, r2, r3, r4, r5, r6, r7, r8⟩
  · obtain ⟨z1', z2, z3, z4, z5, z6, z7, z8, z9, z10, z11, z12⟩ := id r3
    have q0 : W2.2 W.1 = some (12, r0) := r4.2.1 _ _ _ (by omega) w2
    obtain ⟨m5, u1, u2, u3, u4, u5, u6⟩ := says_v z8 (by omega) z12 1 tp 0 0
    rw [r1, r2, BD2_some, if_neg z1, r11, show m_saysOne m2 (1 : Int32) (nI tp) (0 : Int32) (0 : Int32) = some (nI nn2, m5) from u1, BD2_some, LT, BD2_some]
    show OT x W T N c m b e d o nn w nd (MG (wn W 12 r0) W2 (BD (x15_init W2 W.1 q) _)) _
    unfold x15_init
    rw [MG_of _ r4.2.2.2.1, RD_of _ q0, LT, LT, BD_some, MG_wp]
    have g43 : gI (sI m5 44 (nI nn2)) 43 = nI (w + 1) := by rw [gI_sIn _ _ (by omega), u4 43 (by omega)]; exact z10
    dsimp only
    rw [out_1 g43]
    have XA : XW x W W2 c2 (1 + (2 * (o2 - (o + 1)) - 1)) := (w1.trans r4).mono (by omega)
    have X5 := XA.set (r' := sP r0 0 (some q)) q0 (by omega) (t1.2.2.1 _ (Nat.le_refl _))
    have hsm : ∀ aa kk r, 12 ≤ kk → kk ≤ 16 → (kk = 13 ∨ kk = 14 ∨ ¬ gP r 0 = none) → W2.2 aa = some (kk, r) → (wp W2 W.1 12 (sP r0 0 (some q))).2 aa = some (kk, r) := by
      intro aa kk r h1 h2 h3 h4
      by_cases ea : aa = W.1
      · rw [ea, q0] at h4
        cases h4
        exact absurd h3 (by
          have : gP r0 0 = none := rfl
          rw [this]; simp)
      · rw [wp_ne ea]; exact h4
    have TL : STR (nn2 + 1) (nn2 - nn) (wp W2 W.1 12 (sP r0 0 (some q))) q (ndU nd2 nn2 1 tp 0 0) tp := STR.ext (M := nn2) (by omega) hsm (fun j hj => ndU_n _ _ _ _ _ _ hj) (Nat.le_refl _) r13
    refine Or.inl ⟨W.1, _, c2, _, p2, a2, k2, v2, l2, o2, nn2 + 1, ndU nd2 nn2 1 tp 0 0, nn2, rfl, rfl, ⟨X5.refl, TPE_ext z2 rfl (u2.1 1 (by omega)), LX_ext z3 (fun _ _ => rfl) rfl (fun i h1 h2 => ?_) (u5 12), z4.ext rfl ?_ (u2.gL 19) (u2.1 14 (by omega)), z5, ?_, z7, ?_, by omega, gI_sIs _ _ _, by omega, u6⟩, X5.mono (by omega), r5, r6.trans (u2.trans ((FMs_sI _ _ (by omega)).trans (FMs_sI _ _ (by omega)))), by omega, by omega, by omega, fun j hj => ?_, ?_, by omega, ?_⟩
    · rw [gI_sIn _ _ (by omega), gI_sIn _ _ (by omega), u4 i (by omega)]
    · rw [wp_ne (kd_ne z4.2.1 q0 (by omega))]; exact z4.2.1
    · rw [gI_sIn _ _ (by omega), gI_sIn _ _ (by omega), u4 42 (by omega)]; exact z6
    · rw [gI_sIn _ _ (by omega), gI_sIn _ _ (by omega)]; exact u3
    · rw [ndU_n _ _ _ _ _ _ (by omega)]; exact r10 j hj
    · rw [gI_sIn _ _ (by omega), gI_sIs]
    · obtain ⟨h, hh⟩ : ∃ h, nn2 + 1 - nn = h + 1 := ⟨nn2 - nn, by omega⟩
      have hh' : nn2 - nn = h := by omega
      rw [hh]
      rw [hh'] at TL
      refine ⟨by omega, ?_⟩
      rw [ndU_0, ndU_1]
      exact Or.inl ⟨_, q, wp_at _ _ _ _, rfl, gP_sPs _ _ _, TL⟩
  · rw [r1, r2, BD2_some, if_pos rfl, BD2_some]
    dsimp only
    rw [out_0]
    show OT x W T N c m b e d o nn w nd (MG (wn W 12 r0) W2 _) _
    rw [MG_of _ r3.2.2.2.1]
    exact Or.inr ⟨W2, c2, _, o2, rfl, rfl, (w1.trans r3).mono (by omega), by omega, r5, r6, r7.trans (FMs_sI _ _ (by omega)), ER_43 r8 _⟩
/-- brackets -/
theorem tail_open {rs ra : Wd → Nat → Int32 → Option (Option Nat × Wd)} {rc : Nat → Rec → Option (Int32 × Rec)} {v10 v13 v3 : Int32} {f : Rec → Option (Int32 × Rec)} (hrc : ∀ s, rc 1 s = BD2 (f s) (fun v2 s3 => (if v2 = 0 then some ((0 : Int32), s3) else BD (m_isSign s3 (41 : Int32)) (fun v5 => (if v5 = 0 then BD2 (m_bad s3 (1 : Int32)) (fun v9 s10 => BZ v9 (some (v9, s10))) else BD (m_go s3) (fun s7 => some ((1 : Int32), s7))))))) (hP : PSp x b e d ra f (w + 1)) (hS : SQ x W T N c m p a k v l b e d (o + 1) nn (w + 1) nd) : OT x W T N c m b e d o nn w nd (sgT rs ra x (nI (w + 1)) 0 1 v10 v13 c W) (sdT rc 1 v3 m) := by
  obtain ⟨t1, t2, t3, t4, t5, t6, t7, t8, t9, t10, t11, t12⟩ := id hS
  have z1 : ¬ (1 : Int32) = 0 := by decide
  unfold sgT sdT
  rw [if_pos rfl, if_neg z1, JN2, if_neg z1, hrc, show nI (w + 1) + (1 : Int32) = nI (w + 1 + 1) from nI_1 _]
  rcases hP _ T N c m p a k v l (o + 1) nn nd hS with ⟨q, W2, c2, m2, p2, a2, k2, v2, l2, o2, nn2, nd2, tp, r1, r2, r3, r4, r5, r6, r7, r8, r9, r10, r11, r12, r13⟩ | ⟨W2, c2, m2, o2, r1, r2, r3, r4, r5, r6, r7, r8⟩
  · obtain ⟨z1', z2, z3, z4, z5, z6, z7, z8, z9, z10, z11, z12⟩ := id r3
    obtain ⟨s41, m41⟩ := is2_v z3 (t := 41) (by omega)
    rw [r1, r2, BD2_some, if_neg z1, show (41 : Int32) = nI 41 from rfl, m41, BD_some]
    show OT x W T N c m b e d o nn w nd (MG W W2 (RD W2 x 0 _)) _
    rw [MG_of _ r4.2.2.2.1, RD_of _ r4.1]
    unfold x5_sign
    rw [s41, BD_some]
    cases h41 : (decide (k2 = 3) && decide (v2 = 41))
    · obtain ⟨c', m', f1, f2, f3, f4, f5⟩ := fail_v z3 (e := 1) (by omega) (by omega) (by omega)
      rw [show bI false = (0 : Int32) from rfl, if_pos rfl, show (1 : Int32) = nI 1 from rfl, f1, f2, BX_t, BX_t, BD2_some, BZ_0, BD2_some]
      show OT x W T N c m b e d o nn w nd _ (LT (sI m' 43 ((gI m' 43) - (1 : Int32))) (fun s20 => BZ (0 : Int32) (some ((0 : Int32), s20))))
      rw [out_0]
      exact Or.inr ⟨_, c', _, o2, rfl, rfl, (r4.wr c').mono (by omega), by omega, z7, r5.trans f3.toh, (r6.trans (FM2.tos f4)).trans (FMs_sI _ _ (by omega)), ER_43 f5 _⟩
    · obtain ⟨c3, m3, p3, a3, k3, v3', l3, n1, n2, n3, n4, n5, n6, n7, -⟩ := next_v z2 z3
      rw [show bI true = (1 : Int32) from rfl, must_1, BX_r, if_neg z1, n1, n2, BD_some, BD_some, BX_r, LT, BD2_some]
      have g43 : gI m3 43 = nI (w + 1) := (n4.2.2 43 (by omega)).trans z10
      dsimp only
      rw [out_1 g43]
      have hbx : b ≠ x := kd_ne z4.2.1 r4.1 (by omega)
      have X5 := r4.wr c3
      refine Or.inl ⟨q, _, c3, _, p3, a3, k3, v3', l3, o2, nn2, nd2, tp, rfl, rfl, ⟨X5.refl, TPE_ext n5 rfl rfl, LX_ext n6 (fun _ _ => rfl) rfl (fun i h1 h2 => gI_sIn _ _ (by omega)) rfl, z4.ext (n3.gP 6) ?_ (n4.gL 19) (n4.gA 14), (n3.2.2 150 (by have : rb 2 = 140 := rfl; omega)).trans z5, ?_, z7, ?_, z9, gI_sIs _ _ _, by omega, fun j hj => ?_⟩, X5.mono (by omega), r5.trans n3.fr2.toh, (r6.trans (FM2.tos n4.fm2)).trans (FMs_sI _ _ (by omega)), by omega, by omega, by omega, r10, ?_, r12, ?_⟩
      · rw [wp_ne hbx]; exact z4.2.1
      · rw [gI_sIn _ _ (by omega), n4.2.2 42 (by omega)]; exact z6
      · rw [gI_sIn _ _ (by omega), n4.2.2 41 (by omega)]; exact z8
      · show gA m3 40 j = _
        rw [n4.gA 40]; exact z12 j hj
      · rw [gI_sIn _ _ (by omega), n4.2.2 44 (by omega)]; exact r11
      · refine STR.ext (M := nn2) (Nat.le_refl _) (fun aa kk r h1 h2 h3 h4 => ?_) (fun _ _ => rfl) (Nat.le_refl _) r13
        rw [wp_ne (kd_ne h4 r4.1 (by omega))]; exact h4
  · rw [r1, r2, BD2_some, if_pos rfl, BD2_some]
    dsimp only
    rw [out_0]
    show OT x W T N c m b e d o nn w nd (MG W W2 _) _
    rw [MG_of _ r3.2.2.2.1]
    exact Or.inr ⟨W2, c2, _, o2, rfl, rfl, r3.mono (by omega), by omega, r5, r6, r7.trans (FMs_sI _ _ (by omega)), ER_43 r8 _⟩
end ONE
