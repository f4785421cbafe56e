/-! PURE: longs; names as letters; texts -/
theorem l_tn {n : Nat} (h : n < 2 ^ 64) : (lN n).toBitVec.toNat = n := Nat.mod_eq_of_lt h
theorem l_and {n : Nat} (h : n < 2 ^ 64) {m : Int64} (k : Nat) (hm : m.toBitVec.toNat = 2 ^ k - 1) : lN n &&& m = lN (n % 2 ^ k) := by
  apply Int64.toBitVec_inj.mp
  apply BitVec.eq_of_toNat_eq
  rw [Int64.toBitVec_and, BitVec.toNat_and, hm, Nat.and_two_pow_sub_one_eq_mod, l_tn h, l_tn (Nat.lt_of_le_of_lt (Nat.mod_le _ _) h)]
theorem l_shr {n : Nat} (h : n < 2 ^ 63) (s : Int64) (k : Nat) (hs : (s.toBitVec.smod 64).toNat = k) : lN n >>> s = lN (n / 2 ^ k) := by
  apply Int64.toInt_inj.mp
  have h2 : n / 2 ^ k ≤ n := Nat.div_le_self _ _
  have e : (lN n >>> s).toInt = (lN n).toInt >>> k := by
    show ((lN n).toBitVec.sshiftRight (s.toBitVec.smod 64).toNat).toInt = _
    rw [hs, BitVec.toInt_sshiftRight]
    rfl
  rw [e, pk_lT h, pk_lT (by omega), Int.shiftRight_eq_div_pow]
  rfl
theorem l_byte {n : Nat} (h : n < 2 ^ 63) {v : Int32} (k : Nat) (hs : ((Int32.toInt64 v &&& 63).toBitVec.smod 64).toNat = k) : (lN n >>> (Int32.toInt64 v &&& 63)) &&& 255 = lN (n / 2 ^ k % 256) := by
  have h2 : n / 2 ^ k ≤ n := Nat.div_le_self _ _
  rw [l_shr h _ k hs, l_and (by omega) 8 rfl]
theorem l_shl8 {n : Nat} (h : n < 2 ^ 55) : lN n <<< (Int32.toInt64 8 &&& 63) = lN (n * 256) := by
  apply Int64.toBitVec_inj.mp
  apply BitVec.eq_of_toNat_eq
  have e : (lN n <<< (Int32.toInt64 8 &&& 63)).toBitVec.toNat = (lN n).toBitVec.toNat * 2 ^ 8 % 2 ^ 64 := by
    show ((lN n).toBitVec <<< ((Int32.toInt64 8 &&& 63).toBitVec.smod 64).toNat).toNat = _
    rw [show ((Int32.toInt64 8 &&& 63).toBitVec.smod 64).toNat = 8 by decide, BitVec.toNat_shiftLeft, Nat.shiftLeft_eq]
  rw [e, l_tn (by omega), l_tn (by omega)]
  omega
theorem l_or {n t : Nat} (h : n < 2 ^ 55) (ht : t < 256) : lN (n * 256) ||| lN t = lN (n * 256 + t) := by
  apply Int64.toBitVec_inj.mp
  apply BitVec.eq_of_toNat_eq
  rw [Int64.toBitVec_or, BitVec.toNat_or, l_tn (by omega), l_tn (by omega), l_tn (by omega)]
  have := Nat.two_pow_add_eq_or_of_lt (i := 8) (show t < 2 ^ 8 by omega) n
  rw [show n * 256 = 2 ^ 8 * n by omega]
  exact this.symm
/-- the letters of a name, by their places -/
theorem p8_dig : ∀ (l : List Nat), (∀ c ∈ l, 97 ≤ c ∧ c ≤ 122) → ∀ j, p8 l / 256 ^ j % 256 = l.getD j 0 := by
  intro l
  induction l with
  | nil => intro _ j; show 0 / _ % 256 = _; simp
  | cons c t ih =>
    intro h j
    have hc := h c List.mem_cons_self
    cases j with
    | zero =>
      show (p8 t * 256 + c) / 256 ^ 0 % 256 = c
      rw [Nat.pow_zero, Nat.div_one]; omega
    | succ j =>
      show (p8 t * 256 + c) / 256 ^ (j + 1) % 256 = t.getD j 0
      rw [← ih (fun x hx => h x (List.mem_cons_of_mem _ hx)) j, Nat.pow_succ, Nat.mul_comm (256 ^ j) 256, ← Nat.div_div_eq_div_mul, show (p8 t * 256 + c) / 256 = p8 t by omega]
/-- a row written over at its head -/
def wrt (f : Nat → Int32) (L : List Nat) : Nat → Int32 := fun i => if i < L.length then nI (L.getD i 0) else f i
theorem wrt_nil (f : Nat → Int32) : wrt f [] = f := by
  funext i; unfold wrt; rw [if_neg (by simp)]
theorem wrt_snoc (f : Nat → Int32) (L : List Nat) (c : Nat) : va_up (wrt f L) L.length (nI c) = wrt f (L ++ [c]) := by
  funext i
  unfold wrt
  by_cases h : i = L.length
  · subst h
    rw [up_s, if_pos (by simp)]
    simp [List.getD]
  · rw [up_n _ _ h]
    by_cases h2 : i < L.length
    · rw [if_pos h2, if_pos (by simp; omega)]
      simp [List.getD, List.getElem?_append, h2]
    · rw [if_neg h2, if_neg (by simp; omega)]
def cT (c : Rec) (L : List Nat) : Rec := sI (sB c 26 (wrt (gA c 26) L)) 27 (nI L.length)
def mT (m : Rec) (L : List Nat) : Rec := sI (sB m 33 (wrt (gA m 33) L)) 34 (nI L.length)
theorem b7 : ∀ t, t < 128 → (nI t).toInt8.toInt32 = nI t := by decide +kernel
theorem b7c : ∀ t, t < 128 → chr (nI t) = nI t := by decide +kernel
theorem x1_put_2_v (c : Rec) {L : List Nat} {t : Nat} (hL : L.length < 40) (ht : t < 128) : x1_put_2 (cT c L) (nI t) = some (cT c (L ++ [t])) := by
  unfold x1_put_2
  have e1 : gI (cT c L) 27 = nI L.length := rfl
  have e2 : vp_nar .byte (Int8.toInt32 (Int32.toInt8 (nI t))) = nI t := by rw [nar_b, i8_back, b7 t ht]
  have e3 : sA (cT c L) 26 L.length (nI t) = sI (sB c 26 (wrt (gA c 26) (L ++ [t]))) 27 (nI L.length) := by
    show sI (sA (sB c 26 (wrt (gA c 26) L)) 26 L.length (nI t)) 27 (nI L.length) = _
    rw [sA_sB, wrt_snoc]
  rw [e1, IX_nI _ hL (by omega), e2, LT, e3, LT, gI_sIs, sI_sI, nI_1]
  show some (sI _ 27 (nI (L.length + 1))) = some (sI _ 27 (nI (L ++ [t]).length))
  rw [List.length_append]; rfl
theorem m_write_v (m : Rec) {L : List Nat} {t : Nat} (hL : L.length < 64) : m_write (mT m L) (nI t) = some (mT m (L ++ [t])) := by
  unfold m_write
  have e1 : gI (mT m L) 34 = nI L.length := rfl
  have e3 : sA (mT m L) 33 L.length (nI t) = sI (sB m 33 (wrt (gA m 33) (L ++ [t]))) 34 (nI L.length) := by
    show sI (sA (sB m 33 (wrt (gA m 33) L)) 33 L.length (nI t)) 34 (nI L.length) = _
    rw [sA_sB, wrt_snoc]
  rw [e1, IX_nI _ hL (by omega), LT, e3, LT, gI_sIs, sI_sI, nI_1]
  show some (sI _ 34 (nI (L.length + 1))) = some (sI _ 34 (nI (L ++ [t]).length))
  rw [List.length_append]; rfl
theorem m_writeWord_v (m : Rec) : ∀ (l : List Nat) (n : Nat) (L : List Nat), l ≠ [] → (∀ c ∈ l, 97 ≤ c ∧ c ≤ 122) → l.length ≤ 7 → l.length ≤ n → L.length + l.length ≤ 64 → m_writeWord n (mT m L) (lN (p27 l)) = some (mT m (L ++ l.reverse)) := by
  intro l
  induction l with
  | nil => intro _ _ h; exact absurd rfl h
  | cons c t ih =>
    intro n L _ hc h7 hn hL
    obtain ⟨n, rfl⟩ : ∃ k, n = k + 1 := ⟨n - 1, by simp at hn; omega⟩
    have hcc := hc c List.mem_cons_self
    have ht := fun x hx => hc x (List.mem_cons_of_mem _ hx)
    have hb := p27_lt (c :: t) hc
    have hb2 : (27 : Nat) ^ (c :: t).length ≤ 27 ^ 7 := Nat.pow_le_pow_right (by omega) h7
    have hp : p27 (c :: t) = p27 t * 27 + (c - 96) := rfl
    have h63 : p27 (c :: t) < 2 ^ 63 := by
      have : (27 : Nat) ^ 7 < 2 ^ 63 := by decide
      omega
    show b_writeWord (m_writeWord n) (mT m L) (lN (p27 (c :: t))) = _
    unfold b_writeWord
    have z27 : ¬ (27 : Int64) = 0 := by decide
    have nz : ∀ {β : Type} (k : Option β), NZL (27 : Int64) k = k := fun k => if_neg z27
    have er : lN (p27 (c :: t)) - lN (p27 (c :: t)) / (27 : Int64) * (27 : Int64) = lN (c - 96) := by
      rw [show (27 : Int64) = lN 27 from rfl, pk_lRem h63 (by omega) (by omega), hp]; congr 1; omega
    have ed : lN (p27 (c :: t)) / (27 : Int64) = lN (p27 t) := by
      rw [show (27 : Int64) = lN 27 from rfl, pk_lDiv h63 (by omega) (by omega), hp]; congr 1; omega
    have ew : (96 : Int32) + (Int64.toInt32 (lN (c - 96))) = nI c := by
      rw [lN_i, show (96 : Int32) = nI 96 from rfl, nI_add]; congr 1; omega
    rw [ed] at er
    simp only [JN1, nz, ed, er, ew]
    have hlt : (lg_cmp (lN (p27 (c :: t))) (27 : Int64) < 0) ↔ p27 (c :: t) < 27 := (lg_cmp_lt _ _).trans (pk_lLT h63 (b := 27) (by omega))
    cases t with
    | nil =>
      have : p27 [c] = c - 96 := by show 0 * 27 + (c - 96) = _; omega
      rw [if_pos (hlt.mpr (by omega)), m_write_v m (by simp at hL; omega), BD_some]
      rfl
    | cons c2 t2 =>
      have hc2 := ht c2 List.mem_cons_self
      have hp2 : p27 (c2 :: t2) = p27 t2 * 27 + (c2 - 96) := rfl
      rw [if_neg (fun h => by have := hlt.mp h; omega), ih n L (by simp) ht (by simp at h7 ⊢; omega) (by simp at hn ⊢; omega) (by simp at hL ⊢; omega), BD_some, m_write_v m (by simp at hL ⊢; omega), BD_some]
      simp
theorem x1_put_v (c : Rec) {l L : List Nat} (hl : WD l) (hL : L.length + l.length ≤ 40) : x1_put (cT c L) (lN (p8 l)) = some (cT c (L ++ l.reverse)) := by
  have h56 : p8 l < 2 ^ 56 := WD.p8 hl
  obtain ⟨h1, h7, hc⟩ := hl
  have key : ∀ (q q' : Int32) (k : Nat) (rec : Int32 → Rec → Option Rec), k < 8 → ¬ q < 0 → q + (-8 : Int32) = q' → ((Int32.toInt64 q &&& 63).toBitVec.smod 64).toNat = 8 * k → (if q < 0 then some (cT c (L ++ (l.drop (k + 1)).reverse)) else (if (lg_cmp ((lN (p8 l) >>> (Int32.toInt64 q &&& 63)) &&& (255 : Int64)) (0 : Int64)) = 0 then rec (q + (-8 : Int32)) (cT c (L ++ (l.drop (k + 1)).reverse)) else BD (x1_put_2 (cT c (L ++ (l.drop (k + 1)).reverse)) (Int64.toInt32 ((lN (p8 l) >>> (Int32.toInt64 q &&& 63)) &&& (255 : Int64)))) (fun s5 => rec (q + (-8 : Int32)) s5))) = rec q' (cT c (L ++ (l.drop k).reverse)) := by
    intro q q' k rec hk h0 hq hs
    have eb : (lN (p8 l) >>> (Int32.toInt64 q &&& 63)) &&& (255 : Int64) = lN (l.getD k 0) := by
      rw [l_byte (by omega) (8 * k) hs, Nat.pow_mul]
      congr 1
      exact p8_dig l hc k
    rw [if_neg h0, eb, hq]
    have hg : (lg_cmp (lN (l.getD k 0)) (0 : Int64) = 0) ↔ lN (l.getD k 0) = 0 := lg_cmp_eq _ _
    by_cases hkl : k < l.length
    · have em : l.getD k 0 = l[k] := by simp [List.getD, hkl]
      have hm := hc l[k] (List.getElem_mem hkl)
      have ne : ¬ lN (l.getD k 0) = 0 := by
        rw [em]
        intro e
        have := (pk_lEQ (a := l[k]) (b := 0) (by omega) (by omega)).mp e
        omega
      rw [if_neg (fun e => ne (hg.mp e)), lN_i, em, x1_put_2_v c (by simp; omega) (by omega), BD_some]
      congr 2
      rw [List.append_assoc]
      congr 1
      rw [List.drop_eq_getElem_cons hkl, List.reverse_cons]
    · have e0 : l.getD k 0 = 0 := by simp [List.getD, List.getElem?_eq_none (show l.length ≤ k by omega)]
      rw [if_pos (hg.mpr (by rw [e0]; rfl)), List.drop_eq_nil_of_le (show l.length ≤ k + 1 by omega), List.drop_eq_nil_of_le (show l.length ≤ k by omega)]
  unfold x1_put
  obtain ⟨n, hn⟩ := FU_ge (n := 9) (by omega)
  have e8 : cT c L = cT c (L ++ (l.drop (7 + 1)).reverse) := by rw [List.drop_eq_nil_of_le (by omega)]; simp
  rw [hn, e8, LP2_s]
  refine (key 56 48 7 _ (by omega) (by decide) (by decide) (by decide)).trans ?_
  rw [LP2_s]
  refine (key 48 40 6 _ (by omega) (by decide) (by decide) (by decide)).trans ?_
  rw [LP2_s]
  refine (key 40 32 5 _ (by omega) (by decide) (by decide) (by decide)).trans ?_
  rw [LP2_s]
  refine (key 32 24 4 _ (by omega) (by decide) (by decide) (by decide)).trans ?_
  rw [LP2_s]
  refine (key 24 16 3 _ (by omega) (by decide) (by decide) (by decide)).trans ?_
  rw [LP2_s]
  refine (key 16 8 2 _ (by omega) (by decide) (by decide) (by decide)).trans ?_
  rw [LP2_s]
  refine (key 8 0 1 _ (by omega) (by decide) (by decide) (by decide)).trans ?_
  rw [LP2_s]
  refine (key 0 (-8) 0 _ (by omega) (by decide) (by decide) (by decide)).trans ?_
  rw [LP2_s]
  refine (if_pos (by decide)).trans ?_
  rw [List.drop_zero]
theorem x1_put_3_v (c : Rec) {j : Nat} {K L : List Nat} (hj : strs.getD j [] = K.map nI) (hK : ∀ t ∈ K, t < 128) (hL : L.length + K.length ≤ 40) : x1_put_3 (cT c L) j = some (cT c (L ++ K)) := by
  have hl : slen j = K.length := by unfold slen; rw [hj, List.length_map]
  have hs : ∀ i, i < K.length → sch j i = nI (K.getD i 0) := fun i hi => by
    unfold sch; rw [hj]; simp [List.getD, hi]
  unfold x1_put_3
  rw [hl]
  refine LP2_run (fun i => nI i) (fun i => cT c (L ++ K.take i)) 0 K.length (by omega) rfl (by simp) (fun i _ hi rec => ?_) (fun rec => ?_)
  · have hi' : i < K.length := by omega
    have em : K.getD i 0 = K[i] := by simp [List.getD, hi']
    have hp := x1_put_2_v c (L := L ++ K.take i) (t := K[i]) (by simp; omega) (hK _ (List.getElem_mem hi'))
    show (if nI K.length ≤ nI i then _ else _) = rec (nI (i + 1)) (cT c (L ++ K.take (i + 1)))
    rw [if_neg (nI_ge hi' (by omega)), IX_nI _ hi' (by omega), hs i hi', em, hp, BD_some, nI_1]
    congr 2
    rw [List.append_assoc, List.take_succ_eq_append_getElem hi']
  · rw [Nat.zero_add]
    show (if nI K.length ≤ nI K.length then _ else _) = _
    rw [if_pos (nI_le (Nat.le_refl _) (by omega)), List.take_length]
section OPS
variable {x : Nat} {G : Wd} {m c : Rec} {b : Nat} {e z : Rec} {d : Nat → Nat} {ow : Nat → Nat} {n : Nat} {U : Nat → Nat → Nat}
/-- the main object is written, and things are made -/
theorem RR.ext (h : RR x G m c b e z d ow n U) {G' : Wd} {c' m' : Rec} (hx : G'.2 x = some (0, c')) (hs : ∀ a kd r, a ≠ x → G.2 a = some (kd, r) → G'.2 a = some (kd, r)) (hno : ∀ a, G'.1 ≤ a → G'.2 a = none) (hC : CK c c') (hM : MS c' m') (hm : MK m m') : RR x G' m' c' b e z d ow n U := by
  obtain ⟨⟨b1, b2, b3, b4, ⟨y, b5⟩, b6⟩, ⟨s1, s2, s3, s4, s5⟩, -, ⟨u1, u2, u3, u4, u5, u6, u7, u8, u9⟩, hI, hS⟩ := h
  obtain ⟨k1, k2, k3, k4, k5, k6, k7⟩ := hm
  obtain ⟨l1, l2, l3, l4, l5⟩ := hC
  have L : ∀ {a kd : Nat} {r : Rec}, G.2 a = some (kd, r) → kd ≠ 0 → G'.2 a = some (kd, r) := fun {a kd r} h1 h2 => hs a kd r (kd_ne h1 b1 h2) h1
  have hF : FX G G' := fun a kd r hk ha => L ha (by omega)
  refine ⟨⟨hx, l1.trans b2, L b3 (by omega), L b4 (by omega), ⟨y, L b5 (by omega)⟩, hno⟩, ⟨s1, by rw [k1]; exact s2, s3, s4, k3.trans s5⟩, hM, ⟨u1, l5.trans u2, k7.trans u3, fun i hi j hj => by rw [k5]; exact u4 i hi j hj, u5, fun i hi => ?_, fun i hi a ha => ?_, u8, u9⟩, fun k hk => ?_, ?_⟩
  · obtain ⟨a, zi, a1, a2, a3⟩ := u6 i hi
    exact ⟨a, zi, by rw [l3]; exact a1, L a2 (by omega), a3⟩
  · rw [l3] at ha
    obtain ⟨⟨zi, a1⟩, a2⟩ := u7 i hi a ha
    exact ⟨⟨zi, L a1 (by omega)⟩, a2⟩
  · exact IM1_ext hk (hI k hk) (by rw [l4]) (by rw [k6]) (fun j _ => by rw [k4]) (fun i _ => by rw [k2]) hF (fun q r _ a1 a2 => ⟨L a2 (by omega), a1⟩) (fun q r a1 a2 => ⟨L a2 (by omega), a1⟩)
  · rw [l2]; exact SEN_ext hF (fun _ _ _ => rfl) hS
end OPS
