/-! PURE: sentences: one one -/
theorem W30 : SN 38 = WL 13 ∧ (∀ i, i < 5 → SN (i + 30) = WL (14 + i)) ∧ (∀ i, i < 3 → SN (i + 35) = WL (19 + i)) ∧ SN 39 = WL 12 ∧ SN 40 = WL 11 := by decide +kernel
theorem WL_inj : ∀ i, i < 22 → ∀ j, j < 22 → WL i = WL j → i = j := by decide +kernel
section ONE
variable {x b : Nat} {e : Rec} {d : Nat → Nat} {W : Wd} {T : Nat → Nat} {N : Nat} {c m : Rec} {p a k v : Nat} {l : List Nat} {o nn w : Nat} {nd : Nat → Nat}
/-- ones counted, the next token -/
theorem stageR {rs ra : Wd → Nat → Int32 → Option (Option Nat × Wd)} {rc : Nat → Rec → Option (Int32 × Rec)} {v4 v7 v10 v13 v2 v3 : Int32} (hS : SQ x W T N c m p a k v l b e d o nn w nd) (hk4 : k ≠ 4)
    (tail : o < 20 → w < 8 → ∀ c1 m1 p1 a1 k1 v1 l1, SQ x (wp W x 0 c1) T N c1 m1 p1 a1 k1 v1 l1 b e d (o + 1) nn (w + 1) nd → OT x (wp W x 0 c1) T N c1 m1 b e d o nn w nd (sgT rs ra x (nI (w + 1)) v4 v7 v10 v13 c1 (wp W x 0 c1)) (sdT rc v2 v3 m1)) :
    OT x W T N c m b e d o nn w nd (JN1 (fun (v22 : Int32) => sgR rs ra x (nI (w + 1)) v4 v7 v10 v13 v22 (wp W x 0 c)) (fun (j23 : Int32 → Option (Option Nat × Wd)) => (if (20 : Int32) ≤ (gI c 150) then j23 (0 : Int32) else (if (8 : Int32) < nI (w + 1) then j23 (0 : Int32) else j23 (1 : Int32))))) (sdR rc m v2 v3) := by
  obtain ⟨t1, t2, t3, t4, t5, t6, t7, t8, t9, t10, t11, t12⟩ := id hS
  obtain ⟨c', m', f1, f2, f3, f4, f5⟩ := fail_v t3 (e := 4) (by omega) (by omega) (fun h => absurd h hk4)
  have f1' : x5_must 2 c 0 4 = some (none, c') := f1
  have f2' : m_bad m 4 = some (0, m') := f2
  have hfail : OT x W T N c m b e d o nn w nd (sgR rs ra x (nI (w + 1)) v4 v7 v10 v13 0 (wp W x 0 c)) (BD2 (m_bad m (4 : Int32)) (fun v10 s11 => BZ v10 (some (v10, s11)))) := by
    unfold sgR
    rw [wp_id t1.1, RD_of _ t1.1, f1', f2', BX_t, BD2_some, BZ_0]
    exact Or.inr ⟨_, c', m', o, rfl, rfl, (t1.wr c').mono (by omega), Nat.le_refl _, t7, f3.toh, FM2.tos f4, f5⟩
  rw [JN1, t5]
  unfold sdR
  rw [t6, t10]
  by_cases ho : o = 20
  · rw [if_pos (show (20 : Int32) ≤ nI o from nI_le (a := 20) (by omega) (by omega)), if_pos (show nI o = (20 : Int32) by rw [ho]; rfl)]
    exact hfail
  · rw [if_neg (show ¬ (20 : Int32) ≤ nI o from nI_ge (b := 20) (by omega) (by omega)), if_neg (show ¬ nI o = (20 : Int32) from fun h => ho ((nI_eq (b := 20) (by omega) (by omega)).mp h))]
    by_cases hw : w = 8
    · rw [if_pos (show (8 : Int32) < nI (w + 1) from nI_lt (a := 8) (by omega) (by omega)), if_pos (show nI w = (8 : Int32) by rw [hw]; rfl)]
      exact hfail
    · rw [if_neg (show ¬ (8 : Int32) < nI (w + 1) from nI_nlt (a := 8) (by omega) (by omega)), if_neg (show ¬ nI w = (8 : Int32) from fun h => hw ((nI_eq (b := 8) (by omega) (by omega)).mp h))]
      unfold sgR
      dsimp only
      rw [wp_id t1.1, RD_of _ t1.1, must_1, BX_r, LT, LT, LT, wp_id t1.1, t5, nI_1, LT, LT, gI_sIn _ _ (by omega), t10, nI_1]
      have r2 : rb 2 = 140 := rfl
      have T1 : TPE T (sI c 150 (nI (o + 1))) (sI (sI m 42 (nI (o + 1))) 43 (nI (w + 1))) := TPE_ext t2 rfl rfl
      have L1 : LX 2 T N (sI c 150 (nI (o + 1))) (sI (sI m 42 (nI (o + 1))) 43 (nI (w + 1))) p a k v l := LX_ext t3 (fun i hi => gI_sIn _ _ (by omega)) rfl (fun i h1 h2 => by rw [gI_sIn _ _ (by omega), gI_sIn _ _ (by omega)]) rfl
      obtain ⟨c3, m3, p3, a3, k3, v3', l3, n1, n2, n3, n4, n5, n6, n7, -⟩ := next_v T1 L1
      rw [n1, n2, BD_some, BD_some, LT, wp_wp]
      have hbx : b ≠ x := kd_ne t4.2.1 t1.1 (by omega)
      have S3 : SQ x (wp W x 0 c3) T N c3 m3 p3 a3 k3 v3' l3 b e d (o + 1) nn (w + 1) nd := by
        refine ⟨(t1.wr c3).refl, n5, n6, t4.ext (n3.gP 6) (by rw [wp_ne hbx]; exact t4.2.1) (n4.gL 19) (n4.gA 14), (n3.2.2 150 (by omega)).trans (gI_sIs _ _ _), (n4.2.2 42 (by omega)).trans ?_, by omega, (n4.2.2 41 (by omega)).trans ?_, by omega, (n4.2.2 43 (by omega)).trans (gI_sIs _ _ _), by omega, fun j hj => ?_⟩
        · rw [gI_sIn _ _ (by omega), gI_sIs]
        · rw [gI_sIn _ _ (by omega), gI_sIn _ _ (by omega)]; exact t8
        · rw [n4.gA 40]; exact t12 j hj
      have F1 : FRh c c3 := (FRh_sI c _ (by omega)).trans n3.fr2.toh
      have F2 : FMs m m3 := ((FMs_sI m _ (by omega)).trans (FMs_sI _ _ (by omega))).trans (FM2.tos n4.fm2)
      rcases tail (by omega) (by omega) c3 m3 p3 a3 k3 v3' l3 S3 with ⟨q, W', c', m', p, a, k, v, l, o', nn', nd', tp, y1, y2, y3, y4, y5, y6, y7⟩ | ⟨W', c', m', o', y1, y2, y3, y4, y5, y6, y7, y8⟩
      · exact Or.inl ⟨q, W', c', m', p, a, k, v, l, o', nn', nd', tp, y1, y2, y3, ((t1.wr c3).trans y4).mono (by omega), F1.trans y5, F2.trans y6, y7⟩
      · exact Or.inr ⟨W', c', m', o', y1, y2, ((t1.wr c3).trans y3).mono (by omega), y4, y5, F1.trans y6, F2.trans y7, y8⟩
/-- within goes down again -/
theorem out_1 {s : Rec} (h : gI s 43 = nI (w + 1)) : LT (sI s 43 ((gI s 43) - (1 : Int32))) (fun s20 => BZ (1 : Int32) (some ((1 : Int32), s20))) = some (1, sI s 43 (nI w)) := by
  rw [LT, h, nI_pred, BZ_1]
theorem out_0 (s : Rec) : LT (sI s 43 ((gI s 43) - (1 : Int32))) (fun s20 => BZ (0 : Int32) (some ((0 : Int32), s20))) = some (0, sI s 43 ((gI s 43) - (1 : Int32))) := by
  rw [LT, BZ_0]
theorem ER_43 {c' m' : Rec} (h : ER c' m') (v : Int32) : ER c' (sI m' 43 v) := by
  obtain ⟨e, a, h1, h2, h3, h4, h5, h6, h7⟩ := h
  exact ⟨e, a, h1, h2, h3, h4, h5, by rw [gI_sIn _ _ (by omega)]; exact h6, by rw [gI_sIn _ _ (by omega)]; exact h7⟩
/-- a leaf is made: the model's row and the component's object -/
theorem leaf_end {kd : Nat} {r : Rec} {wc wa wb wr : Nat} {W2 : Wd} {c2 m2 : Rec} {p2 a2 k2 v2 : Nat} {l2 : List Nat} (hno : nn ≤ 2 * o) (hS : SQ x W2 T N c2 m2 p2 a2 k2 v2 l2 b e d (o + 1) nn (w + 1) nd) (hX : XW x W W2 c2 1) (hF : FRh c c2) (hM : FMs m m2) {q : Nat} (hq : W2.2 q = some (kd, r)) (hkd : kd = 13 ∨ kd = 14) (hleaf : ∀ f : Nat → Nat, f (4 * nn) = wc → f (4 * nn + 1) = wa → f (4 * nn + 2) = wb → f (4 * nn + 3) = wr → STR (nn + 1) 1 W2 q f nn) : ∃ m3, m_saysOne m2 (nI wc) (nI wa) (nI wb) (nI wr) = some (nI nn, m3) ∧ OT x W T N c m b e d o nn w nd (some (some q, W2)) (some (1, sI (sI m3 44 (nI nn)) 43 (nI w))) ∧ gI (sI m3 44 (nI nn)) 43 = nI (w + 1) := by
  obtain ⟨t1, t2, t3, t4, t5, t6, t7, t8, t9, t10, t11, t12⟩ := id hS
  obtain ⟨m3, u1, u2, u3, u4, u5, u6⟩ := says_v t8 (by omega) t12 wc wa wb wr
  have g43 : gI (sI m3 44 (nI nn)) 43 = nI (w + 1) := by rw [gI_sIn _ _ (by omega), u4 43 (by omega)]; exact t10
  refine ⟨m3, u1, Or.inl ⟨q, W2, c2, _, p2, a2, k2, v2, l2, o + 1, nn + 1, ndU nd nn wc wa wb wr, nn, rfl, rfl, ⟨t1, TPE_ext t2 rfl (u2.1 1 (by omega)), LX_ext t3 (fun _ _ => rfl) rfl (fun i h1 h2 => ?_) (u5 12), t4.ext rfl t4.2.1 (u2.gL 19) (u2.1 14 (by omega)), t5, ?_, t7, ?_, by omega, gI_sIs _ _ _, by omega, u6⟩, hX.mono (by omega), hF, hM.trans (u2.trans ((FMs_sI _ _ (by omega)).trans (FMs_sI _ _ (by omega)))), by omega, by omega, by omega, fun j hj => ndU_n _ _ _ _ _ _ hj, ?_, by omega, ?_⟩, g43⟩
  · rw [gI_sIn _ _ (by omega), gI_sIn _ _ (by omega), u4 i (by omega)]
  · rw [gI_sIn _ _ (by omega), gI_sIn _ _ (by omega), u4 42 (by omega)]; exact t6
  · rw [gI_sIn _ _ (by omega), gI_sIn _ _ (by omega)]; exact u3
  · rw [gI_sIn _ _ (by omega), gI_sIs]
  · rw [show nn + 1 - nn = 1 by omega]
    exact hleaf _ (ndU_0 _ _ _ _ _ _) (ndU_1 _ _ _ _ _ _) (ndU_2 _ _ _ _ _ _) (ndU_3 _ _ _ _ _ _)
/-- a fresh object, written -/
theorem SQ.made {kd : Nat} {r' : Rec} {c2 m2 : Rec} {p2 a2 k2 v2 : Nat} {l2 : List Nat} (hS : SQ x W T N c m p a k v l b e d o nn w nd) (hS2 : TPE T c2 m2 ∧ LX 2 T N c2 m2 p2 a2 k2 v2 l2 ∧ FR2 c c2 ∧ FM2 m m2) (hkd : kd ≠ 0 ∧ kd ≠ 2) : SQ x (wp (wp (wn W kd r0) x 0 c2) W.1 kd r') T N c2 m2 p2 a2 k2 v2 l2 b e d o nn w nd ∧ XW x W (wp (wp (wn W kd r0) x 0 c2) W.1 kd r') c2 1 ∧ (wp (wn W kd r0) x 0 c2).2 W.1 = some (kd, r0) := by
  obtain ⟨t1, t2, t3, t4, t5, t6, t7, t8, t9, t10, t11, t12⟩ := hS
  obtain ⟨n5, n6, n3, n4⟩ := hS2
  obtain ⟨w1, w2, w3⟩ := t1.mk kd r0
  have hx := t1.lt t1.1
  have hb := t1.lt t4.2.1
  have hbx : b ≠ x := kd_ne t4.2.1 t1.1 (by omega)
  have y1 : (wp (wn W kd r0) x 0 c2).2 W.1 = some (kd, r0) := by rw [wp_ne (by omega)]; exact w2
  have X3 := (w1.wr c2).set (r' := r') y1 (by omega) (t1.2.2.1 _ (Nat.le_refl _))
  refine ⟨⟨X3.refl, n5, n6, t4.ext (n3.gP 6) ?_ (n4.gL 19) (n4.gA 14), (n3.2.2 150 (by omega)).trans t5, (n4.2.2 42 (by omega)).trans t6, t7, (n4.2.2 41 (by omega)).trans t8, t9, (n4.2.2 43 (by omega)).trans t10, t11, fun j hj => ?_⟩, X3.mono (by omega), y1⟩
  · rw [wp_ne (by omega), wp_ne hbx, w3 b (by omega)]; exact t4.2.1
  · rw [n4.gA 40]; exact t12 j hj
theorem HB.parl {j : Nat} (h : HB W c m b e d) (hT : TPE T c m) (hX : LX j T N c m p a k v l) : OC j T N c m p (x5_known j c (gL e 0) 5 (gI e 7)) (m_readNamed m (0 : Int32) (gA m 14 0)) (fun x _ m' _ => ∃ q, q < d 0 ∧ x = nI q ∧ gI m' 13 = nI q) := by
  obtain ⟨h1, h2, h3, h4, h5, h6⟩ := h
  rw [h3.1, h5, RF_a (by omega)]
  exact named_v hT hX (row := gL e 0) (R := 5) (base := 0) (n := d 0) (fun i hi => by rw [Nat.zero_add]; exact h4.1 i hi) h6.1 (by omega) (by have := h6.1; omega)
theorem HB.pers {j : Nat} (h : HB W c m b e d) (hT : TPE T c m) (hX : LX j T N c m p a k v l) : OC j T N c m p (x5_known j c (gL e 2) 4 (gI e 9)) (m_readNamed m (11 : Int32) (gA m 14 2)) (fun x _ m' _ => ∃ q, q < d 2 ∧ x = nI q ∧ gI m' 13 = nI q) := by
  obtain ⟨h1, h2, h3, h4, h5, h6⟩ := h
  rw [h3.2.2.1, h5, RF_a (by omega)]
  exact named_v hT hX (row := gL e 2) (R := 4) (base := 11) (n := d 2) h4.2.2.1 h6.2.2.1 (by omega) (by have := h6.2.2.1; omega)
/-- a mark -/
theorem tail_mark {rs ra : Wd → Nat → Int32 → Option (Option Nat × Wd)} {rc : Nat → Rec → Option (Int32 × Rec)} {x1 v13 : Int32} {i : Nat} (hi : i < 5) (hno : nn ≤ 2 * o) (hS : SQ x W T N c m p a k v l b e d (o + 1) nn (w + 1) nd) : OT x W T N c m b e d o nn w nd (sgT rs ra x x1 0 0 (nI i) v13 c W) (sdT rc 0 (nI (14 + i)) m) := by
  obtain ⟨t1, t2, t3, t4, t5, t6, t7, t8, t9, t10, t11, t12⟩ := id hS
  obtain ⟨w1, w2, w3⟩ := t1.mk 13 r0
  have hx := t1.lt t1.1
  have hb := t1.lt t4.2.1
  have eb : (wn W 13 r0).2 b = some (2, e) := by rw [w3 b (by omega)]; exact t4.2.1
  have d0 := t4.2.2.2.2.2.1
  have d2 := t4.2.2.2.2.2.2.2.1
  have e50 : (50 : Int32) + nI (14 + i) = nI (64 + i) := by rw [show (50 : Int32) = nI 50 from rfl, nI_add]; congr 1; omega
  have z1 : ¬ (1 : Int32) = 0 := by decide
  unfold sgT sdT
  rw [if_pos rfl, if_pos rfl, if_neg (nI_ne_m1 (by omega)), LT, LT, JN2, if_pos rfl, if_neg (show ¬ nI (14 + i) = (13 : Int32) from fun h => by have := (nI_eq (b := 13) (by omega) (by omega)).mp h; omega)]
  by_cases h2 : 2 ≤ i
  · rw [if_pos (show (2 : Int32) ≤ nI i from nI_le (a := 2) h2 (by omega)), if_pos (show (16 : Int32) ≤ nI (14 + i) from nI_le (a := 16) (by omega) (by omega)), if_neg (show ¬ (19 : Int32) ≤ nI (14 + i) from nI_ge (b := 19) (by omega) (by omega))]
    -- what comes behind the name
    have fin : ∀ (q : Nat) (c2 m2 : Rec) (p2 a2 k2 v2 : Nat) (l2 : List Nat), q < 5 → TPE T c2 m2 → LX 2 T N c2 m2 p2 a2 k2 v2 l2 → FR2 c c2 → FM2 m m2 → gI m2 13 = nI q → OT x W T N c m b e d o nn w nd (BD (x16_init (wp (wn W 13 r0) x 0 c2) W.1 (nI i) (nI q)) (fun w103 => MG (wp (wn W 13 r0) x 0 c2) w103 (some (some W.1, w103)))) (BD2 (BD2 (m_saysOne m2 ((50 : Int32) + nI (14 + i)) (gI m2 13) (0 : Int32) (0 : Int32)) (fun v10 s11 => LT (sI s11 44 v10) (fun s12 => some ((1 : Int32), s12)))) (fun v26 s27 => LT (sI s27 43 ((gI s27 43) - (1 : Int32))) (fun s20 => BZ v26 (some (v26, s20))))) := by
      intro q c2 m2 p2 a2 k2 v2 l2 hq a1 a2' a3 a4 a5
      obtain ⟨S2, X2, y1⟩ := hS.made (kd := 13) (r' := sI (sI r0 0 (nI i)) 1 (nI q)) ⟨a1, a2', a3, a4⟩ (by omega)
      unfold x16_init
      rw [RD_of _ y1, LT, LT, LT, LT, wp_wp, BD_some, MG_wp, a5, e50]
      obtain ⟨m3, u1, u2, u3⟩ := leaf_end (wc := 64 + i) (wa := q) (wb := 0) (wr := 0) hno S2 X2 a3.toh (FM2.tos a4) (wp_at _ _ _ _) (Or.inl rfl) (fun f f0 f1 f2 f3 => ⟨by omega, Or.inr (Or.inr (Or.inr (Or.inl ⟨_, i, wp_at _ _ _ _, hi, rfl, f0, fun _ => ⟨by rw [f1]; rfl, by omega⟩⟩)))⟩)
      rw [show m_saysOne m2 (nI (64 + i)) (nI q) (0 : Int32) (0 : Int32) = some (nI nn, m3) from u1, BD2_some, LT, BD2_some, out_1 u3]
      exact u2
    have bad : ∀ (c2 m2 : Rec), FR2 c c2 → FM2 m m2 → ER c2 m2 → OT x W T N c m b e d o nn w nd (some (none, wp (wn W 13 r0) x 0 c2)) (LT (sI m2 43 ((gI m2 43) - (1 : Int32))) (fun s20 => BZ (0 : Int32) (some ((0 : Int32), s20)))) := by
      intro c2 m2 a3 a4 a5
      rw [out_0]
      exact Or.inr ⟨_, c2, _, o + 1, rfl, rfl, (w1.wr c2).mono (by omega), by omega, t7, a3.toh, (FM2.tos a4).trans (FMs_sI _ _ (by omega)), ER_43 a5 _⟩
    unfold m_readOf
    rw [JN1]
    by_cases h4 : i = 4
    · subst h4
      rw [if_pos (show (4 : Int32) ≤ nI 4 by decide), if_pos (show nI (14 + 4) = (18 : Int32) from rfl), RD_of _ w1.1, t4.1, BD_some, RD_of _ eb, BD_some, RD_of _ eb]
      dsimp only
      rw [JN1, if_pos (show nI (14 + 4) = (18 : Int32) from rfl)]
      dsimp only
      rw [show IX (2 : Int32) 406 _ = _ from IX_nI (j := 2) _ (by omega) (by omega)]
      rcases t4.pers t2 t3 with ⟨y, c2, m2, p2, a2, k2, v2, l2, f1, f2, f3, f4, f5, f6, f7, q, g1, rfl, g3⟩ | ⟨c2, m2, f1, f2, f3, f4, f5⟩
      · rw [f1, f2, BX_r, LT, BD2_some, if_neg z1]
        exact fin q c2 m2 p2 a2 k2 v2 l2 (by omega) f5 f6 f3 f4 g3
      · rw [f1, f2, BX_t, BD2_some, if_pos rfl, BD2_some]
        exact bad c2 m2 f3 f4 f5
    · rw [if_neg (show ¬ (4 : Int32) ≤ nI i from nI_ge (b := 4) (by omega) (by omega)), if_neg (show ¬ nI (14 + i) = (18 : Int32) from fun h => by have := (nI_eq (b := 18) (by omega) (by omega)).mp h; omega), RD_of _ w1.1, t4.1, BD_some, RD_of _ eb, BD_some, RD_of _ eb]
      dsimp only
      rw [JN1, if_neg (show ¬ nI (14 + i) = (18 : Int32) from fun h => by have := (nI_eq (b := 18) (by omega) (by omega)).mp h; omega)]
      dsimp only
      rw [show IX (0 : Int32) 406 _ = _ from IX_nI (j := 0) _ (by omega) (by omega)]
      rcases t4.parl t2 t3 with ⟨y, c2, m2, p2, a2, k2, v2, l2, f1, f2, f3, f4, f5, f6, f7, q, g1, rfl, g3⟩ | ⟨c2, m2, f1, f2, f3, f4, f5⟩
      · rw [f1, f2, BX_r, LT, BD2_some, if_neg z1]
        exact fin q c2 m2 p2 a2 k2 v2 l2 (by omega) f5 f6 f3 f4 g3
      · rw [f1, f2, BX_t, BD2_some, if_pos rfl, BD2_some]
        exact bad c2 m2 f3 f4 f5
  · rw [if_neg (show ¬ (2 : Int32) ≤ nI i from nI_ge (b := 2) (by omega) (by omega)), if_neg (show ¬ (16 : Int32) ≤ nI (14 + i) from nI_ge (b := 16) (by omega) (by omega))]
    have hx0 : wp (wn W 13 r0) x 0 c = wn W 13 r0 := wp_id w1.1
    obtain ⟨S2, X2, y1⟩ := hS.made (kd := 13) (r' := sI (sI r0 0 (nI i)) 1 (-1)) ⟨t2, t3, FR2.refl c, FM2.refl m⟩ (by omega)
    rw [hx0] at S2 X2 y1
    unfold x16_init
    rw [RD_of _ y1, LT, LT, LT, LT, wp_wp, BD_some, MG_wp, e50]
    obtain ⟨m3, u1, u2, u3⟩ := leaf_end (wc := 64 + i) (wa := 0) (wb := 0) (wr := 0) hno S2 X2 (FRh.refl c) (FMs.refl m) (wp_at _ _ _ _) (Or.inl rfl) (fun f f0 f1 f2 f3 => ⟨by omega, Or.inr (Or.inr (Or.inr (Or.inl ⟨_, i, wp_at _ _ _ _, hi, rfl, f0, fun h => absurd h h2⟩)))⟩)
    rw [show m_saysOne m (nI (64 + i)) (0 : Int32) (0 : Int32) (0 : Int32) = some (nI nn, m3) from u1, BD2_some, LT]
    show OT x W T N c m b e d o nn w nd _ (LT (sI (sI m3 44 (nI nn)) 43 ((gI (sI m3 44 (nI nn)) 43) - (1 : Int32))) (fun s20 => BZ (1 : Int32) (some ((1 : Int32), s20))))
    rw [out_1 u3]
    exact u2
end ONE
