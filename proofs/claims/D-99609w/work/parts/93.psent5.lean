/-! PURE: sentences: the operation -/
theorem nI_any (v : Int32) : nI v.toBitVec.toNat = v := by
  apply Int32.toBitVec_inj.mp
  show BitVec.ofNat 32 v.toBitVec.toNat = v.toBitVec
  rw [BitVec.ofNat_toNat, BitVec.setWidth_eq]
/-- the row with a sentence -/
def sntD (d nd : Nat → Nat) (f : Nat → Int32) (n tp : Nat) : Nat → Nat := fun k => if k = 164 then 1 else if k = 165 then tp else if 166 ≤ k ∧ k < 406 then (if k - 166 < 4 * n then nd (k - 166) else (f (k - 166)).toBitVec.toNat) else d k
theorem sntD_lo {d nd : Nat → Nat} {f : Nat → Int32} {n tp k : Nat} (h : k < 164 ∨ 406 ≤ k) : sntD d nd f n tp k = d k := by unfold sntD; rw [if_neg (by omega), if_neg (by omega), if_neg (by omega)]
theorem sntD_nd {d nd : Nat → Nat} {f : Nat → Int32} {n tp j : Nat} (h : j < 4 * n) (h2 : j < 240) : sntD d nd f n tp (166 + j) = nd j := by unfold sntD; rw [if_neg (by omega), if_neg (by omega), if_pos (by omega), if_pos (by omega), Nat.add_sub_cancel_left]
theorem sntD_f {d nd : Nat → Nat} {f : Nat → Int32} {n tp j : Nat} (hf : ∀ j, j < 4 * n → f j = nI (nd j)) (h2 : j < 240) : nI (sntD d nd f n tp (166 + j)) = f j := by
  by_cases h : j < 4 * n
  · rw [sntD_nd h h2, hf j h]
  · unfold sntD
    rw [if_neg (by omega), if_neg (by omega), if_pos (by omega), if_neg (by omega), nI_any, Nat.add_sub_cancel_left]
/-- the model lays the rows down -/
theorem sent_end (s : Rec) {d nd : Nat → Nat} {n tp : Nat} (h14 : gA s 14 = RF d) (h44 : gI s 44 = nI tp) (hf : ∀ j, j < 4 * n → gA s 40 j = nI (nd j)) : LT (sA s 14 164 (1 : Int32)) (fun s9 => LT (sA s9 14 165 (gI s9 44)) (fun s10 => LP2 (fun (rec13 : Int32 → Rec → Option (Int32 × Rec)) (v11 : Int32) (s12 : Rec) => (if (240 : Int32) ≤ v11 then some ((gI s12 42), s12) else IX v11 240 (fun i14 => IX ((166 : Int32) + v11) 406 (fun i15 => LT (sA s12 14 i15 (gA s12 40 i14)) (fun s16 => rec13 (v11 + (1 : Int32)) s16))))) FU (0 : Int32) s10)) = some (gI s 42, sB s 14 (RF (sntD d nd (gA s 40) n tp))) := by
  have e0 : sA (sA s 14 164 (1 : Int32)) 14 165 (nI tp) = sB s 14 (RF (va_up (va_up d 164 1) 165 tp)) := by
    rw [sA_B, sA_B, gA_sBs, sB_sB, h14, show (1 : Int32) = nI 1 from rfl, RF_up (Or.inr (by omega)), RF_up (Or.inr (by omega))]
  rw [LT, LT, gI_sA, h44, e0]
  refine LP2_run (fun i => nI i) (fun i => sB s 14 (va_cpy (gA s 40) (RF (va_up (va_up d 164 1) 165 tp)) 0 166 i)) 0 240 (by omega) rfl (by rw [cpy_0]) (fun i _ hi rec => ?_) (fun rec => ?_)
  · have hi' : i < 240 := by omega
    have c1 := cpy_s (gA s 40) (RF (va_up (va_up d 164 1) 165 tp)) 0 166 i
    rw [Nat.zero_add] at c1
    show (if (240 : Int32) ≤ nI i then _ else _) = _
    rw [if_neg (show ¬ (240 : Int32) ≤ nI i from nI_ge (b := 240) hi' (by omega)), IX_nI _ hi' (by omega), show (166 : Int32) + nI i = nI (166 + i) from nI_add _ _, IX_nI _ (by omega) (by omega), LT, gA_sBn _ _ (by omega), sA_sB, c1, nI_1]
  · rw [Nat.zero_add]
    show (if (240 : Int32) ≤ nI 240 then _ else _) = _
    rw [if_pos (show (240 : Int32) ≤ nI 240 by decide), gI_sB]
    congr 2
    congr 1
    funext q
    by_cases h1 : 166 ≤ q ∧ q < 406
    · obtain ⟨j, rfl⟩ : ∃ j, q = 166 + j := ⟨q - 166, by omega⟩
      rw [pk_cpy_in h1.1 (by omega), RF_z (by omega), sntD_f hf (by omega), Nat.add_sub_cancel_left, Nat.zero_add]
    · rw [pk_cpy_out (by omega)]
      by_cases h2 : q = 164
      · subst h2
        rw [RF_z (by omega), RF_z (by omega), up_n _ _ (by omega), up_s]; rfl
      · by_cases h3 : q = 165
        · subst h3
          rw [RF_z (by omega), RF_z (by omega), up_s]; rfl
        · have e1 : sntD d nd (gA s 40) n tp q = d q := sntD_lo (by omega)
          unfold RF
          rw [e1, up_n _ _ h3, up_n _ _ h2]
section OPS
variable {x : Nat} {G : Wd} {m c : Rec} {b : Nat} {e z : Rec} {d : Nat → Nat} {ow : Nat → Nat} {n : Nat} {U : Nat → Nat → Nat}
/-- a sentence is told -/
theorem RR.sent (h : RR x G m c b e z d ow n U) {G' : Wd} {c' m' : Rec} {d' : Nat → Nat} (hx : G'.2 x = some (0, c')) (hs : ∀ a kd r, a ≠ x → G.2 a = some (kd, r) → G'.2 a = some (kd, r)) (hno : ∀ a, G'.1 ≤ a → G'.2 a = none) (p6 : gP c' 6 = gP c 6) (q12 : gQ c' 12 = gQ c 12) (q32 : gQ c' 32 = gQ c 32) (i13 : gI c' 13 = gI c 13) (hM : MS c' m')
    (l19 : gL m' 19 = gL m 19) (l21 : gL m' 21 = gL m 21) (a14 : gA m' 14 = RF d') (hd' : ∀ k, k < 164 → d' k = d k) (a16 : gA m' 16 = gA m 16) (a17 : gA m' 17 = gA m 17) (a22 : gA m' 22 = gA m 22) (i24 : gI m' 24 = gI m 24) (hS' : SEN G' (gP c' 31) d') : RR x G' m' c' b e z d' ow n U := by
  obtain ⟨⟨b1, b2, b3, b4, ⟨y, b5⟩, b6⟩, ⟨s1, s2, s3, s4, s5⟩, -, ⟨u1, u2, u3, u4, u5, u6, u7, u8, u9⟩, hI, hS⟩ := h
  have L : ∀ {a kd : Nat} {r : Rec}, G.2 a = some (kd, r) → kd ≠ 0 → G'.2 a = some (kd, r) := fun {a kd r} h1 h2 => hs a kd r (kd_ne h1 b1 h2) h1
  have hF : FX G G' := fun a kd r hk ha => L ha (by omega)
  refine ⟨⟨hx, p6.trans b2, L b3 (by omega), L b4 (by omega), ⟨y, L b5 (by omega)⟩, hno⟩, ⟨HS_ext s1 (fun k hk => hd' k (by omega)), NM_ext s2 s4.1.1 (fun k hk => hd' k (by omega)) (fun i _ => by rw [l19]), ZS_ext s3 (fun k h1 h2 => hd' k (by omega)), GD_ext s4 hd', a14⟩, hM, ⟨u1, i13.trans u2, i24.trans u3, fun i hi j hj => by rw [a17]; exact u4 i hi j hj, fun i hi => GD_ext (u5 i hi) (fun k hk => ?_), fun i hi => ?_, fun i hi a ha => ?_, u8, u9⟩, fun k hk => ?_, hS'⟩
  · by_cases h2 : 24 ≤ k
    · rw [mix_in h2 hk, mix_in h2 hk]
    · rw [mix_out (by omega), mix_out (by omega)]; exact hd' k hk
  · obtain ⟨a, zi, a1, a2, a3⟩ := u6 i hi
    exact ⟨a, zi, by rw [q12]; exact a1, L a2 (by omega), a3⟩
  · rw [q12] at ha
    obtain ⟨⟨zi, a1⟩, a2⟩ := u7 i hi a ha
    exact ⟨⟨zi, L a1 (by omega)⟩, a2⟩
  · exact IM1_ext hk (hI k hk) (by rw [q32]) (by rw [a22]) (fun j _ => by rw [a16]) (fun i _ => by rw [l21]) hF (fun q r _ a1 a2 => ⟨L a2 (by omega), a1⟩) (fun q r a1 a2 => ⟨L a2 (by omega), a1⟩)
theorem op_sentence (h : RR x G m c b e z d ow n U) : ANS x G (x1_sentence G x) (m_sentence m) := by
  obtain ⟨w1, ⟨k, hk, k1, k2⟩, -⟩ := id h.ms
  have hM := h.ms
  obtain ⟨b1, b2, b3, b4, ⟨yt, b5⟩, b6⟩ := id h.1
  obtain ⟨T, hT⟩ := tape_ex w1
  have ng : ∀ a kd r, G.2 a = some (kd, r) → a < G.1 := fun a kd r h1 => Nat.lt_of_not_le (fun hh => by rw [b6 a hh] at h1; cases h1)
  have tk : x1_taken c = some (sI (sI c 2 (nI k)) 1 0) := by unfold x1_taken; rw [LT, LT, k1]
  have hbx : b ≠ x := kd_ne b3 b1 (by omega)
  unfold x1_sentence m_sentence
  rw [RD_of _ b1, tk, BD_some, LT, LT, LT, wp_wp]
  generalize hc0 : sI (sI (sI c 2 (nI k)) 1 0) 11 0 = c0
  have c0A : ∀ q, gA c0 q = gA c q := fun q => by rw [← hc0]; rfl
  have c0P : ∀ q, gP c0 q = gP c q := fun q => by rw [← hc0]; rfl
  have c0Q : ∀ q, gQ c0 q = gQ c q := fun q => by rw [← hc0]; rfl
  have c0I : ∀ q, q ≠ 1 → q ≠ 2 → q ≠ 11 → gI c0 q = gI c q := fun q h1 h2 h3 => by rw [← hc0, gI_sIn _ _ h3, gI_sIn _ _ h1, gI_sIn _ _ h2]
  have c01 : gI c0 1 = 0 := by rw [← hc0]; rfl
  have c02 : gI c0 2 = nI k := by rw [← hc0]; rfl
  have c011 : gI c0 11 = 0 := by rw [← hc0]; rfl
  obtain ⟨c', m', p, a, kk, v, l, g1, g2, g3, g4, g5, g6⟩ := begin_v (m := m) (c1 := sI c0 150 0) (T := T) 2 (TPE_ext hT (c0A 0) rfl) hk k2 c02
  have g2' : m_begin m (200 : Int32) = some m' := g2
  unfold x8_read
  rw [RD_of _ (wp_at _ _ _ _), LT, LT, g1, BD_some, LT, wp_wp, wp_wp, g2', BD_some, LT, LT, LT]
  generalize hm5 : sI (sI (sI m' 41 0) 42 0) 43 0 = m5
  have m5I : ∀ q, q ≠ 41 → q ≠ 42 → q ≠ 43 → gI m5 q = gI m' q := fun q h1 h2 h3 => by rw [← hm5, gI_sIn _ _ h3, gI_sIn _ _ h2, gI_sIn _ _ h1]
  have m5A : ∀ q, gA m5 q = gA m' q := fun q => by rw [← hm5]; rfl
  have m5L : ∀ q, gL m5 q = gL m' q := fun q => by rw [← hm5]; rfl
  have X0 : XW x (wp G x 0 c') (wp G x 0 c') c' 0 := by
    refine ⟨wp_at _ _ _ _, fun _ _ _ _ h => h, fun a ha => ?_, Nat.le_refl _, Nat.le_refl _⟩
    have := ng _ _ _ b1
    have ha' : G.1 ≤ a := ha
    rw [wp_ne (by omega)]; exact b6 a ha'
  have S0 : SQ x (wp G x 0 c') T k c' m5 p a kk v l b e d 0 0 0 (fun _ => 0) := by
    refine ⟨X0, TPE_ext g5 rfl (m5A 1), LX_ext g6 (fun _ _ => rfl) rfl (fun i h1 h2 => m5I i (by omega) (by omega) (by omega)) (by rw [← hm5]; rfl), ⟨((g3.gP 6).trans (c0P 6)).trans b2, by rw [wp_ne hbx]; exact b3, h.he, by rw [m5L 19, g4.gL 19]; exact h.nm, by rw [m5A 14, g4.gA 14]; exact h.h14, h.di.1⟩, (g3.2.2 150 (by omega)).trans (gI_sIs _ _ _), by rw [← hm5]; rfl, by omega, by rw [← hm5]; rfl, by omega, by rw [← hm5]; rfl, by omega, fun j hj => absurd hj (by omega)⟩
  have FC : ∀ {c2 : Rec}, FRh c' c2 → (∀ q, gA c2 q = gA c q) ∧ (∀ q, gP c2 q = gP c q) ∧ (∀ q, gQ c2 q = gQ c q) ∧ (∀ q, q < 40 → q ≠ 1 → q ≠ 2 → q ≠ 11 → gI c2 q = gI c q) ∧ gI c2 1 = 0 ∧ gI c2 11 = 0 := by
    intro c2 f
    refine ⟨fun q => ?_, fun q => ?_, fun q => ?_, fun q h1 h2 h3 h4 => ?_, ?_, ?_⟩
    · exact (congrFun f.1 q).trans ((g3.gA q).trans (c0A q))
    · exact (FRh_gP f q).trans ((g3.gP q).trans (c0P q))
    · have e1 : gQ c2 q = gQ c' q := congrArg (fun r : (Nat → Nat → Int64) × (Nat → Option Nat) × (Nat → Nat → Option Nat) => r.2.2 q) f.2.1
      exact e1.trans ((g3.gQ q).trans (c0Q q))
    · rw [f.2.2 q h1, g3.2.2 q (by omega), gI_sIn _ _ (by omega), c0I q h2 h3 h4]
    · rw [f.2.2 1 (by omega), g3.2.2 1 (by omega), gI_sIn _ _ (by omega), c01]
    · rw [f.2.2 11 (by omega), g3.2.2 11 (by omega), gI_sIn _ _ (by omega), c011]
  have FM : ∀ {m2 : Rec}, FMs m5 m2 → (∀ q, q ≠ 40 → gA m2 q = gA m q) ∧ (∀ q, gL m2 q = gL m q) ∧ (∀ q, 13 < q → q < 41 → gI m2 q = gI m q) ∧ gI m2 2 = 0 := by
    intro m2 f
    refine ⟨fun q h1 => ?_, fun q => ?_, fun q hq h41 => ?_, ?_⟩
    · rw [f.1 q h1, m5A q, g4.gA q]; rfl
    · rw [f.gL q, m5L q, g4.gL q]; rfl
    · rw [f.2.2 q (by omega), m5I q (by omega) (by omega) (by omega), g4.2.2 q (by omega)]
      unfold mBg
      rw [gI_sIn _ _ (by omega), gI_sIn _ _ (by omega), gI_sIn _ _ (by omega), gI_sIn _ _ (by omega), gI_sIn _ _ (by omega), gI_sIn _ _ (by omega)]
    · rw [f.2.2 2 (by omega), m5I 2 (by omega) (by omega) (by omega), g4.2.2 2 (by omega)]; rfl
  -- it fails
  have bad : ∀ {W2 : Wd} {c2 m2 : Rec} {o2 : Nat}, XW x (wp G x 0 c') W2 c2 (2 * (o2 - 0) + 1) → o2 ≤ 20 → FRh c' c2 → FMs m5 m2 → ER c2 m2 → ANS x G (MG (wp G x 0 c0) W2 (RD W2 x 0 (fun s13 => LT (sI s13 11 (gI s13 40)) (fun s14 => LT (wp W2 x 0 s14) (fun w15 => some (((-1 : Int32) - (gI s14 41)), w15)))))) (some (((-1 : Int32) - (gI m2 11)), m2)) := by
    intro W2 c2 m2 o2 r3 r5 r6 r7 r8
    obtain ⟨fA, fP, fQ, fI, f1, f11⟩ := FC r6
    obtain ⟨gA', gL', gI', gI2⟩ := FM r7
    obtain ⟨ee, aa, z1, z2, z3, z4, z5, z6, z7⟩ := r8
    have e1 : ∀ a kd r, a ≠ x → G.2 a = some (kd, r) → W2.2 a = some (kd, r) := fun a kd r h1 h2 => r3.2.1 a kd r h1 (by rw [wp_ne h1]; exact h2)
    have e2 : G.1 ≤ W2.1 := r3.2.2.2.1
    have e3 : W2.1 ≤ G.1 + (2 * (o2 - 0) + 1) := r3.2.2.2.2
    rw [MG_of _ (show (wp G x 0 c0).1 ≤ W2.1 from e2), RD_of _ r3.1, LT, LT, z4, gI_sIn _ _ (by omega), z5, z7]
    have X9 := r3.wr (sI c2 11 (nI ee))
    refine ⟨_, _, _, rfl, rfl, ⟨e2, by show W2.1 ≤ G.1 + 90; omega, fun a kd r hk ha => ?_⟩, (h.ext (wp_at _ _ _ _) (fun a kd r h1 h2 => ?_) X9.2.2.1 ⟨fP 6, fP 31, fQ 12, fQ 32, ?_⟩ (MS_read (f := nI ee) hM (fun q _ => fA q) (fun q h1 h2 h3 h4 h5 => ?_) ?_ (gI_sIs _ _ _) (fun q hq => gA' q (by omega)) (fun q h1 h2 _ => gI' q (by omega) (by omega)) gI2 z6) ⟨gL' 19, gL' 21, gA' 14 (by omega), gA' 16 (by omega), gA' 17 (by omega), gA' 22 (by omega), gI' 24 (by omega) (by omega)⟩).rel⟩
    · rw [wp_ne (kd_ne ha b1 (by omega))]; exact e1 a kd r (kd_ne ha b1 (by omega)) ha
    · rw [wp_ne h1]; exact e1 a kd r h1 h2
    · rw [gI_sIn _ _ (by omega)]; exact fI 13 (by omega) (by omega) (by omega) (by omega)
    · rw [gI_sIn _ _ h4]; exact fI q h1 h2 h3 h4
    · rw [gI_sIn _ _ (by omega)]; exact f1
  have hp := any_v (x := x) (b := b) (e := e) (d := d) (sg_v (x := x) (b := b) (e := e) (d := d) 8 0 10 57 (by omega) (by omega) (by omega))
  rcases hp _ T k c' m5 p a kk v l 0 0 _ S0 with ⟨q, W2, c2, m2, p2, a2, k2', v2, l2, o2, nn2, nd2, tp, r1, r2, r3, r4, r5, r6, r7, r8, r9, r10, r11, r12, r13⟩ | ⟨W2, c2, m2, o2, r1, r2, r3, r4, r5, r6, r7, r8⟩
  · obtain ⟨t1, t2, t3, t4, t5, t6, t7, t8, t9, t10, t11, t12⟩ := id r3
    obtain ⟨k4, tc, tm⟩ := t3.tok
    have r1' : x8_any (wp G x 0 c') x (1 : Int32) = some (some q, W2) := r1
    have r2' : m_readOr 59 m5 = some (1, m2) := r2
    rw [r1', r2', BD2_some, if_neg (show ¬ (1 : Int32) = 0 by decide)]
    have tc' : gI c2 143 = nI k2' := tc
    have e1 : ∀ a kd r, a ≠ x → G.2 a = some (kd, r) → W2.2 a = some (kd, r) := fun a kd r h1 h2 => r4.2.1 a kd r h1 (by rw [wp_ne h1]; exact h2)
    have e2 : G.1 ≤ W2.1 := r4.2.2.2.1
    have e3 : W2.1 ≤ G.1 + (2 * (o2 - 0) - 1) := r4.2.2.2.2
    by_cases hk0 : k2' = 0
    · obtain ⟨fA, fP, fQ, fI, f1, f11⟩ := FC r5
      obtain ⟨gA', gL', gI', gI2⟩ := FM r6
      rw [if_pos (show gI m2 7 = 0 by rw [tm, hk0]; rfl), sent_end m2 (d := d) (by rw [gA' 14 (by omega)]; exact h.h14) r11 t12]
      show ANS x G (BXW (MG _ W2 (RD W2 x 0 _)) _ _) _
      rw [MG_of _ (show (wp G x 0 c').1 ≤ W2.1 from e2), RD_of _ r4.1, if_pos (show gI c2 143 = 0 by rw [tc', hk0]; rfl), must_1, BX_r, LT, wp_id r4.1]
      show ANS x G (MG _ W2 (RD W2 x 0 _)) _
      rw [MG_of _ (show (wp G x 0 c0).1 ≤ W2.1 from e2), RD_of _ r4.1, LT, LT, gI_sP, t5, t6]
      have c2q : gI c2 11 = 0 := f11
      have X9 := r4.wr (sP c2 31 (some q))
      have hF2 : ∀ aa kd r, 12 ≤ kd → kd ≤ 16 → (kd = 13 ∨ kd = 14 ∨ ¬ gP r 0 = none) → W2.2 aa = some (kd, r) → (wp W2 x 0 (sP c2 31 (some q))).2 aa = some (kd, r) := fun aa kd r h1 h2 _ h4 => by rw [wp_ne (kd_ne h4 r4.1 (by omega))]; exact h4
      refine ⟨_, _, _, rfl, rfl, ⟨e2, by show W2.1 ≤ G.1 + 90; omega, fun a kd r hk ha => ?_⟩, (h.sent (m' := sB m2 14 (RF (sntD d nd2 (gA m2 40) nn2 tp))) (d' := sntD d nd2 (gA m2 40) nn2 tp) (wp_at _ _ _ _) (fun a kd r h1 h2 => ?_) X9.2.2.1 ?_ (fQ 12) (fQ 32) (fI 13 (by omega) (by omega) (by omega) (by omega)) (MS_read (f := 0) hM (fun q _ => fA q) (fun q h1 h2 h3 h4 h5 => fI q h1 h2 h3 h4) f1 c2q (fun q hq => ?_) (fun q h1 h2 _ => gI' q (by omega) (by omega)) gI2 t3.f10) (gL' 19) (gL' 21) (gA_sBs _ _ _) (fun k hk => sntD_lo (by omega)) ?_ ?_ ?_ (gI' 24 (by omega) (by omega)) (Or.inr ⟨q, gP_sPs _ _ _, ?_, ?_, ?_⟩)).rel⟩
      · rw [wp_ne (kd_ne ha b1 (by omega))]; exact e1 a kd r (kd_ne ha b1 (by omega)) ha
      · rw [wp_ne h1]; exact e1 a kd r h1 h2
      · rw [gP_sPn _ _ (by omega)]; exact fP 6
      · rw [gA_sBn _ _ (by omega)]; exact gA' q (by omega)
      · rw [gA_sBn _ _ (by omega)]; exact gA' 16 (by omega)
      · rw [gA_sBn _ _ (by omega)]; exact gA' 17 (by omega)
      · rw [gA_sBn _ _ (by omega)]; exact gA' 22 (by omega)
      · rfl
      · show tp < 45
        omega
      · show CTR 50 _ q (fun j => sntD d nd2 (gA m2 40) nn2 tp (166 + j)) tp
        exact STR.ctr (M := 60) (by omega) (STR.ext (M := nn2) (by omega) hF2 (fun j hj => sntD_nd hj (by omega)) (by omega) r13)
    · obtain ⟨cf, mf, f1, f2, f3, f4, f5⟩ := fail_v t3 (e := 1) (by omega) (by omega) (by omega)
      have f1' : x5_must 2 c2 0 1 = some (none, cf) := f1
      have f2' : m_bad m2 (1 : Int32) = some (0, mf) := f2
      rw [if_neg (show ¬ gI m2 7 = 0 from fun hh => hk0 ((mk_0 k4).mp (tm.symm.trans hh))), f2', BD2_some]
      show ANS x G (BXW (MG _ W2 (RD W2 x 0 _)) _ _) _
      rw [MG_of _ (show (wp G x 0 c').1 ≤ W2.1 from e2), RD_of _ r4.1, if_neg (show ¬ gI c2 143 = 0 from fun hh => hk0 ((nI_eq (b := 0) (by omega) (by omega)).mp (tc'.symm.trans hh))), f1', BX_t]
      exact bad (o2 := o2) ((r4.wr cf).mono (by omega)) t7 (r5.trans f3.toh) (r6.trans (FM2.tos f4)) f5
  · have r1' : x8_any (wp G x 0 c') x (1 : Int32) = some (none, W2) := r1
    have r2' : m_readOr 59 m5 = some (0, m2) := r2
    rw [r1', r2', BD2_some, if_pos rfl]
    show ANS x G (BXW (MG _ W2 _) _ _) _
    rw [MG_of _ (show (wp G x 0 c').1 ≤ W2.1 from r3.2.2.2.1)]
    exact bad r3 r5 r6 r7 r8
end OPS
