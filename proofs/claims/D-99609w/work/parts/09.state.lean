/-! House and State, and the static methods that they call (written by gen/cdec.py) -/
set_option maxRecDepth 100000
def j_fill (f : Nat → Int32) (N : Nat) (v : Int32) : Option (Nat → Int32) := LP2 (fun (rec : Int32 → (Nat → Int32) → Option (Nat → Int32)) (i : Int32) (f : Nat → Int32) => (if nI N ≤ i then some f else IX i N (fun j => LT (va_up f j v) (fun f1 => rec (i + (1 : Int32)) f1)))) FU (0 : Int32) f
theorem j_fill_ok {l : Launch} {g : Gh} {G G1 : Wd} {a kd ie q N : Nat} {r : Rec} {set : (Nat → Int32) → Rec} {c : ClassId} {f f1 : Nat → Int32} {v : Int32} (hG : G.2 a = some (kd, r)) (he : ∀ f, (gE g kd a (set f))[ie]? = some (q, .inl (c, N, .inl f))) (hset : ∀ f f1, gE g kd a (set f1) = (gE g kd a (set f)).set ie (q, .inl (c, N, .inl f1))) (h0 : set f = r) (t0 : Nat) (hty : (gty g)[t0]? = some (c, .int)) (hf : j_fill f N v = some f1) (hw : wp G a kd (set f1) = G1) : MT l g yJ2_fill cJ2_fill 4 none 1 G [.ref q, .int v] none G1 := by
  refine pv_start (by decide) (Nat.le_of_ble_eq_true rfl) ?_
  intro X hl hg hN hc hr _ _ _ hQ
  subst hl; subst hg
  subst h0
  refine pv_G (wp_id hG) ?_
  have h := hf
  unfold j_fill at h
  show V X 0 0 _ [(0, .ref q), (1, .int v)] [] 0
  refine pv_iconst (0 : Int32) hc dJ2_fill_0 rfl ?_
  refine pv_istore_n (L' := [(2, .int (0 : Int32)), (0, .ref q), (1, .int v)]) hc dJ2_fill_1 rfl hN (by decide) rfl ?_
  refine pv_aload_n 1 hc dJ2_fill_2 rfl rfl ?_
  refine pv_alen hc (wp_at _ _ _ _) (he f) hty dJ2_fill_3 ?_
  refine pv_istore_n (L' := [(3, .int (nI N)), (2, .int (0 : Int32)), (0, .ref q), (1, .int v)]) hc dJ2_fill_4 rfl hN (by decide) rfl ?_
  refine pv_sub [2, 3, 1, 0] rfl ?_
  refine LP2_el (P := fun i f => V X 0 0 (wp G a kd (set f)) [(0, .ref q), (1, .int v), (2, .int i), (3, .int (nI N))] [] 5) ?_ FU _ _ h
  intro rec hrec i f h
  refine pv_iload_n 2 hc dJ2_fill_5 rfl rfl ?_
  refine pv_iload_n 3 hc dJ2_fill_6 rfl rfl ?_
  refine pv_icmp_ge (tgt := 20) hc dJ2_fill_7 (by decide) h (fun h => ?_) (fun h => ?_)
  · cases h
    exact pv_vret hc hr hQ rfl hw.symm dJ2_fill_20
  · refine pv_aload_n 0 hc dJ2_fill_10 rfl rfl ?_
    refine pv_iload_n 2 hc dJ2_fill_11 rfl rfl ?_
    refine pv_iload_n 1 hc dJ2_fill_12 rfl rfl ?_
    obtain ⟨j, hj, h⟩ := IX_el h
    obtain ⟨f2, hf2, h⟩ := LT_el h
    refine pv_iast hc (wp_at _ _ _ _) (he f) t0 hty hj (r' := set f2) (by rw [hf2]; exact hset _ _) dJ2_fill_13 ?_
    refine pv_G (wp_wp _ _ _ _ _ _).symm ?_
    refine pv_iinc (L' := [(2, .int (i + (1 : Int32))), (0, .ref q), (1, .int v), (3, .int (nI N))]) 2 (i + (1 : Int32)) hc dJ2_fill_14 rfl rfl hN (by decide) rfl ?_
    refine pv_goto (tgt := 5) hc dJ2_fill_17 (by decide) ?_
    refine pv_sub [1, 2, 0, 3] rfl ?_
    exact hrec _ _ h
theorem fin_w1 {s s' : Rec} {G : Wd} {a kd : Nat} {ro : List (Nat × Nat × Rec)} (hro : ∀ u ∈ ro, G.2 u.1 = some u.2) (h : some s = some s') : wp G a kd s' = wz G (ro ++ [(a, kd, s)]) := by cases h; exact (wz_ro (vs := [(a, kd, s)]) hro).symm
theorem fin_w2 {v r : Int32} {s s' : Rec} {G : Wd} {a kd : Nat} {ro : List (Nat × Nat × Rec)} (hro : ∀ u ∈ ro, G.2 u.1 = some u.2) (h : some (v, s) = some (r, s')) : wp G a kd s' = wz G (ro ++ [(a, kd, s)]) := by cases h; exact (wz_ro (vs := [(a, kd, s)]) hro).symm
def x1_has (x0 : Int32) (x1 : Int32) : Option Int32 := (if ((x0 >>> (x1 &&& 31)) &&& (1 : Int32)) = (1 : Int32) then some (1 : Int32) else some (0 : Int32))
set_option maxHeartbeats 4000000 in
theorem x1_has_ok {l : Launch} {g : Gh} {G : Wd}  {x0 : Int32} {x1 : Int32} {r : Int32} (hf : x1_has x0 x1 = some r) : MT l g yX1_has cX1_has 2 (some .boolean) 1 G [.int x0, .int x1] (some (.int r)) G := by
  refine pv_start (by decide) (Nat.le_of_ble_eq_true rfl) ?_
  intro X hl hg hN hc hr _ _ _ hQ
  subst hl; subst hg
  have h := hf
  unfold x1_has at h
  show V X 0 0 _ [(0, .int x0), (1, .int x1)] [] 0
  refine pv_iload_n 0 hc dX1_has_0 rfl rfl ?_
  refine pv_iload_n 1 hc dX1_has_1 rfl rfl ?_
  refine pv_ishr hc dX1_has_2 ?_
  refine pv_iconst (1 : Int32) hc dX1_has_3 rfl ?_
  refine pv_iand hc dX1_has_4 ?_
  refine pv_iconst (1 : Int32) hc dX1_has_5 rfl ?_
  refine pv_icmp_ne (tgt := 13) hc dX1_has_6 (by decide) h (fun h => ?_) (fun h => ?_)
  · refine pv_iconst (0 : Int32) hc dX1_has_13 rfl ?_
    exact pv_zret hc hr hQ (by decide) (e_i1 h) rfl dX1_has_14
  · refine pv_iconst (1 : Int32) hc dX1_has_9 rfl ?_
    refine pv_goto (tgt := 14) hc dX1_has_10 (by decide) ?_
    exact pv_zret hc hr hQ (by decide) (e_i1 h) rfl dX1_has_14
def x1_isIn (x0 : Int32) (x1 : Int32) (x2 : Int32) : Option Int32 := (if x0 < x1 then some (0 : Int32) else (if x2 < x0 then some (0 : Int32) else some (1 : Int32)))
set_option maxHeartbeats 4000000 in
theorem x1_isIn_ok {l : Launch} {g : Gh} {G : Wd}  {x0 : Int32} {x1 : Int32} {x2 : Int32} {r : Int32} (hf : x1_isIn x0 x1 x2 = some r) : MT l g yX1_isIn cX1_isIn 3 (some .boolean) 1 G [.int x0, .int x1, .int x2] (some (.int r)) G := by
  refine pv_start (by decide) (Nat.le_of_ble_eq_true rfl) ?_
  intro X hl hg hN hc hr _ _ _ hQ
  subst hl; subst hg
  have h := hf
  unfold x1_isIn at h
  show V X 0 0 _ [(0, .int x0), (1, .int x1), (2, .int x2)] [] 0
  refine pv_iload_n 0 hc dX1_isIn_0 rfl rfl ?_
  refine pv_iload_n 1 hc dX1_isIn_1 rfl rfl ?_
  refine pv_icmp_lt (tgt := 14) hc dX1_isIn_2 (by decide) h (fun h => ?_) (fun h => ?_)
  · refine pv_iconst (0 : Int32) hc dX1_isIn_14 rfl ?_
    exact pv_zret hc hr hQ (by decide) (e_i1 h) rfl dX1_isIn_15
  · refine pv_iload_n 0 hc dX1_isIn_5 rfl rfl ?_
    refine pv_iload_n 2 hc dX1_isIn_6 rfl rfl ?_
    refine pv_icmp_gt (tgt := 14) hc dX1_isIn_7 (by decide) h (fun h => ?_) (fun h => ?_)
    · refine pv_iconst (0 : Int32) hc dX1_isIn_14 rfl ?_
      exact pv_zret hc hr hQ (by decide) (e_i1 h) rfl dX1_isIn_15
    · refine pv_iconst (1 : Int32) hc dX1_isIn_10 rfl ?_
      refine pv_goto (tgt := 15) hc dX1_isIn_11 (by decide) ?_
      exact pv_zret hc hr hQ (by decide) (e_i1 h) rfl dX1_isIn_15
def j9_bitCount (x0 : Int32) : Option Int32 := some ((((((((x0 - ((ushr x0 (1 : Int32)) &&& (1431655765 : Int32))) &&& (858993459 : Int32)) + ((ushr (x0 - ((ushr x0 (1 : Int32)) &&& (1431655765 : Int32))) (2 : Int32)) &&& (858993459 : Int32))) + (ushr (((x0 - ((ushr x0 (1 : Int32)) &&& (1431655765 : Int32))) &&& (858993459 : Int32)) + ((ushr (x0 - ((ushr x0 (1 : Int32)) &&& (1431655765 : Int32))) (2 : Int32)) &&& (858993459 : Int32))) (4 : Int32))) &&& (252645135 : Int32)) + (ushr (((((x0 - ((ushr x0 (1 : Int32)) &&& (1431655765 : Int32))) &&& (858993459 : Int32)) + ((ushr (x0 - ((ushr x0 (1 : Int32)) &&& (1431655765 : Int32))) (2 : Int32)) &&& (858993459 : Int32))) + (ushr (((x0 - ((ushr x0 (1 : Int32)) &&& (1431655765 : Int32))) &&& (858993459 : Int32)) + ((ushr (x0 - ((ushr x0 (1 : Int32)) &&& (1431655765 : Int32))) (2 : Int32)) &&& (858993459 : Int32))) (4 : Int32))) &&& (252645135 : Int32)) (8 : Int32))) + (ushr ((((((x0 - ((ushr x0 (1 : Int32)) &&& (1431655765 : Int32))) &&& (858993459 : Int32)) + ((ushr (x0 - ((ushr x0 (1 : Int32)) &&& (1431655765 : Int32))) (2 : Int32)) &&& (858993459 : Int32))) + (ushr (((x0 - ((ushr x0 (1 : Int32)) &&& (1431655765 : Int32))) &&& (858993459 : Int32)) + ((ushr (x0 - ((ushr x0 (1 : Int32)) &&& (1431655765 : Int32))) (2 : Int32)) &&& (858993459 : Int32))) (4 : Int32))) &&& (252645135 : Int32)) + (ushr (((((x0 - ((ushr x0 (1 : Int32)) &&& (1431655765 : Int32))) &&& (858993459 : Int32)) + ((ushr (x0 - ((ushr x0 (1 : Int32)) &&& (1431655765 : Int32))) (2 : Int32)) &&& (858993459 : Int32))) + (ushr (((x0 - ((ushr x0 (1 : Int32)) &&& (1431655765 : Int32))) &&& (858993459 : Int32)) + ((ushr (x0 - ((ushr x0 (1 : Int32)) &&& (1431655765 : Int32))) (2 : Int32)) &&& (858993459 : Int32))) (4 : Int32))) &&& (252645135 : Int32)) (8 : Int32))) (16 : Int32))) &&& (63 : Int32))
set_option maxHeartbeats 4000000 in
theorem j9_bitCount_ok {l : Launch} {g : Gh} {G : Wd}  {x0 : Int32} {r : Int32} (hf : j9_bitCount x0 = some r) : MT l g yJ9_bitCount cJ9_bitCount 1 (some .int) 1 G [.int x0] (some (.int r)) G := by
  refine pv_start (by decide) (Nat.le_of_ble_eq_true rfl) ?_
  intro X hl hg hN hc hr _ _ _ hQ
  subst hl; subst hg
  have h := hf
  unfold j9_bitCount at h
  show V X 0 0 _ [(0, .int x0)] [] 0
  refine pv_iload_n 0 hc dJ9_bitCount_0 rfl rfl ?_
  refine pv_iload_n 0 hc dJ9_bitCount_1 rfl rfl ?_
  refine pv_iconst (1 : Int32) hc dJ9_bitCount_2 rfl ?_
  refine pv_iushr hc dJ9_bitCount_3 ?_
  refine pv_ldcw hc q905 dJ9_bitCount_4 ?_
  refine pv_iand hc dJ9_bitCount_7 ?_
  refine pv_isub hc dJ9_bitCount_8 ?_
  refine pv_istore_n (L' := [(0, .int (x0 - ((ushr x0 (1 : Int32)) &&& (1431655765 : Int32))))]) hc dJ9_bitCount_9 rfl hN (by decide) rfl ?_
  refine pv_iload_n 0 hc dJ9_bitCount_10 rfl rfl ?_
  refine pv_ldcw hc q906 dJ9_bitCount_11 ?_
  refine pv_iand hc dJ9_bitCount_14 ?_
  refine pv_iload_n 0 hc dJ9_bitCount_15 rfl rfl ?_
  refine pv_iconst (2 : Int32) hc dJ9_bitCount_16 rfl ?_
  refine pv_iushr hc dJ9_bitCount_17 ?_
  refine pv_ldcw hc q906 dJ9_bitCount_18 ?_
  refine pv_iand hc dJ9_bitCount_21 ?_
  refine pv_iadd hc dJ9_bitCount_22 ?_
  refine pv_istore_n (L' := [(0, .int (((x0 - ((ushr x0 (1 : Int32)) &&& (1431655765 : Int32))) &&& (858993459 : Int32)) + ((ushr (x0 - ((ushr x0 (1 : Int32)) &&& (1431655765 : Int32))) (2 : Int32)) &&& (858993459 : Int32))))]) hc dJ9_bitCount_23 rfl hN (by decide) rfl ?_
  refine pv_iload_n 0 hc dJ9_bitCount_24 rfl rfl ?_
  refine pv_iload_n 0 hc dJ9_bitCount_25 rfl rfl ?_
  refine pv_iconst (4 : Int32) hc dJ9_bitCount_26 rfl ?_
  refine pv_iushr hc dJ9_bitCount_27 ?_
  refine pv_iadd hc dJ9_bitCount_28 ?_
  refine pv_ldcw hc q907 dJ9_bitCount_29 ?_
  refine pv_iand hc dJ9_bitCount_32 ?_
  refine pv_istore_n (L' := [(0, .int (((((x0 - ((ushr x0 (1 : Int32)) &&& (1431655765 : Int32))) &&& (858993459 : Int32)) + ((ushr (x0 - ((ushr x0 (1 : Int32)) &&& (1431655765 : Int32))) (2 : Int32)) &&& (858993459 : Int32))) + (ushr (((x0 - ((ushr x0 (1 : Int32)) &&& (1431655765 : Int32))) &&& (858993459 : Int32)) + ((ushr (x0 - ((ushr x0 (1 : Int32)) &&& (1431655765 : Int32))) (2 : Int32)) &&& (858993459 : Int32))) (4 : Int32))) &&& (252645135 : Int32)))]) hc dJ9_bitCount_33 rfl hN (by decide) rfl ?_
  refine pv_iload_n 0 hc dJ9_bitCount_34 rfl rfl ?_
  refine pv_iload_n 0 hc dJ9_bitCount_35 rfl rfl ?_
  refine pv_bipush (8 : Int32) hc dJ9_bitCount_36 rfl ?_
  refine pv_iushr hc dJ9_bitCount_38 ?_
  refine pv_iadd hc dJ9_bitCount_39 ?_
  refine pv_istore_n (L' := [(0, .int ((((((x0 - ((ushr x0 (1 : Int32)) &&& (1431655765 : Int32))) &&& (858993459 : Int32)) + ((ushr (x0 - ((ushr x0 (1 : Int32)) &&& (1431655765 : Int32))) (2 : Int32)) &&& (858993459 : Int32))) + (ushr (((x0 - ((ushr x0 (1 : Int32)) &&& (1431655765 : Int32))) &&& (858993459 : Int32)) + ((ushr (x0 - ((ushr x0 (1 : Int32)) &&& (1431655765 : Int32))) (2 : Int32)) &&& (858993459 : Int32))) (4 : Int32))) &&& (252645135 : Int32)) + (ushr (((((x0 - ((ushr x0 (1 : Int32)) &&& (1431655765 : Int32))) &&& (858993459 : Int32)) + ((ushr (x0 - ((ushr x0 (1 : Int32)) &&& (1431655765 : Int32))) (2 : Int32)) &&& (858993459 : Int32))) + (ushr (((x0 - ((ushr x0 (1 : Int32)) &&& (1431655765 : Int32))) &&& (858993459 : Int32)) + ((ushr (x0 - ((ushr x0 (1 : Int32)) &&& (1431655765 : Int32))) (2 : Int32)) &&& (858993459 : Int32))) (4 : Int32))) &&& (252645135 : Int32)) (8 : Int32))))]) hc dJ9_bitCount_40 rfl hN (by decide) rfl ?_
  refine pv_iload_n 0 hc dJ9_bitCount_41 rfl rfl ?_
  refine pv_iload_n 0 hc dJ9_bitCount_42 rfl rfl ?_
  refine pv_bipush (16 : Int32) hc dJ9_bitCount_43 rfl ?_
  refine pv_iushr hc dJ9_bitCount_45 ?_
  refine pv_iadd hc dJ9_bitCount_46 ?_
  refine pv_istore_n (L' := [(0, .int (((((((x0 - ((ushr x0 (1 : Int32)) &&& (1431655765 : Int32))) &&& (858993459 : Int32)) + ((ushr (x0 - ((ushr x0 (1 : Int32)) &&& (1431655765 : Int32))) (2 : Int32)) &&& (858993459 : Int32))) + (ushr (((x0 - ((ushr x0 (1 : Int32)) &&& (1431655765 : Int32))) &&& (858993459 : Int32)) + ((ushr (x0 - ((ushr x0 (1 : Int32)) &&& (1431655765 : Int32))) (2 : Int32)) &&& (858993459 : Int32))) (4 : Int32))) &&& (252645135 : Int32)) + (ushr (((((x0 - ((ushr x0 (1 : Int32)) &&& (1431655765 : Int32))) &&& (858993459 : Int32)) + ((ushr (x0 - ((ushr x0 (1 : Int32)) &&& (1431655765 : Int32))) (2 : Int32)) &&& (858993459 : Int32))) + (ushr (((x0 - ((ushr x0 (1 : Int32)) &&& (1431655765 : Int32))) &&& (858993459 : Int32)) + ((ushr (x0 - ((ushr x0 (1 : Int32)) &&& (1431655765 : Int32))) (2 : Int32)) &&& (858993459 : Int32))) (4 : Int32))) &&& (252645135 : Int32)) (8 : Int32))) + (ushr ((((((x0 - ((ushr x0 (1 : Int32)) &&& (1431655765 : Int32))) &&& (858993459 : Int32)) + ((ushr (x0 - ((ushr x0 (1 : Int32)) &&& (1431655765 : Int32))) (2 : Int32)) &&& (858993459 : Int32))) + (ushr (((x0 - ((ushr x0 (1 : Int32)) &&& (1431655765 : Int32))) &&& (858993459 : Int32)) + ((ushr (x0 - ((ushr x0 (1 : Int32)) &&& (1431655765 : Int32))) (2 : Int32)) &&& (858993459 : Int32))) (4 : Int32))) &&& (252645135 : Int32)) + (ushr (((((x0 - ((ushr x0 (1 : Int32)) &&& (1431655765 : Int32))) &&& (858993459 : Int32)) + ((ushr (x0 - ((ushr x0 (1 : Int32)) &&& (1431655765 : Int32))) (2 : Int32)) &&& (858993459 : Int32))) + (ushr (((x0 - ((ushr x0 (1 : Int32)) &&& (1431655765 : Int32))) &&& (858993459 : Int32)) + ((ushr (x0 - ((ushr x0 (1 : Int32)) &&& (1431655765 : Int32))) (2 : Int32)) &&& (858993459 : Int32))) (4 : Int32))) &&& (252645135 : Int32)) (8 : Int32))) (16 : Int32))))]) hc dJ9_bitCount_47 rfl hN (by decide) rfl ?_
  refine pv_iload_n 0 hc dJ9_bitCount_48 rfl rfl ?_
  refine pv_bipush (63 : Int32) hc dJ9_bitCount_49 rfl ?_
  refine pv_iand hc dJ9_bitCount_51 ?_
  exact pv_iret hc hr hQ (e_i1 h) rfl dJ9_bitCount_52
def x3_seenFrom (s : Rec) (x1 : Int32) : Option Int32 := LP2 (fun (rec3 : Int32 → Int32 → Option Int32) (v1 : Int32) (v2 : Int32) => (if (gI s 7) ≤ v2 then some v1 else BD (x1_has x1 v2) (fun v5 => (if v5 = 0 then rec3 v1 (v2 + (1 : Int32)) else IX v2 5 (fun i6 => rec3 (v1 ||| (gA s 4 i6)) (v2 + (1 : Int32))))))) FU x1 (0 : Int32)
set_option maxHeartbeats 4000000 in
theorem x3_seenFrom_ok {l : Launch} {g : Gh} {G : Wd} (hX3 : OKX3 g) {a : Nat} {s : Rec} (hGt : G.2 a = some (2, s)) {x1 : Int32} {r : Int32} (hf : x3_seenFrom s x1 = some r) : MT l g yX3_seenFrom cX3_seenFrom 4 (some .int) 2 G [.ref a, .int x1] (some (.int r)) G := by
  refine pv_start (by decide) (Nat.le_of_ble_eq_true rfl) ?_
  intro X hl hg hN hc hr _ _ _ hQ
  subst hl; subst hg
  have hn : ([a] : List Nat).Nodup := nd1 
  have hro := ((wz_c hGt wz_n) : ∀ u ∈ ([(a, 2, s)] : List (Nat × Nat × Rec)), G.2 u.1 = some u.2)
  refine pv_G (wz_id (us := [(a, 2, s)]) (wz_c hGt wz_n)) ?_
  have h := hf
  unfold x3_seenFrom at h
  show V X 0 0 _ [(0, .ref a), (1, .int x1)] [] 0
  refine pv_iload_n 1 hc dX3_seenFrom_0 rfl rfl ?_
  refine pv_istore_n (L' := [(2, .int x1), (0, .ref a), (1, .int x1)]) hc dX3_seenFrom_1 rfl hN (by decide) rfl ?_
  refine pv_iconst (0 : Int32) hc dX3_seenFrom_2 rfl ?_
  refine pv_istore_n (L' := [(3, .int (0 : Int32)), (2, .int x1), (0, .ref a), (1, .int x1)]) hc dX3_seenFrom_3 rfl hN (by decide) rfl ?_
  refine pv_sub [2, 3, 1, 0] rfl ?_
  refine LP2_el (P := fun v1 v2 => V X 0 0 (wz G [(a, 2, s)]) [(0, .ref a), (1, .int x1), (2, .int v1), (3, .int v2)] [] 4) ?_ FU _ _ h
  intro rec3 hrec3 v1 v2 h
  refine pv_iload_n 3 hc dX3_seenFrom_4 rfl rfl ?_
  refine pv_aload_n 0 hc dX3_seenFrom_5 rfl rfl ?_
  refine gf_X3_41 hc hX3 (wz_at hn rfl 0 rfl) dX3_seenFrom_6 ?_
  refine pv_icmp_ge (tgt := 35) hc dX3_seenFrom_9 (by decide) h (fun h => ?_) (fun h => ?_)
  · refine pv_iload_n 2 hc dX3_seenFrom_35 rfl rfl ?_
    exact pv_iret hc hr hQ (e_i1 h) (wz_id hro).symm dX3_seenFrom_36
  · refine pv_iload_n 1 hc dX3_seenFrom_12 rfl rfl ?_
    refine pv_iload_n 3 hc dX3_seenFrom_13 rfl rfl ?_
    obtain ⟨v5, hf4, h⟩ := BD_el h
    refine ca_X3_44 hc (x1_has_ok   hf4) (by decide) (Nat.le_of_ble_eq_true rfl) dX3_seenFrom_14 ?_
    refine pv_if_eq (tgt := 29) hc dX3_seenFrom_17 (by decide) h (fun h => ?_) (fun h => ?_)
    · refine pv_iinc (L' := [(3, .int (v2 + (1 : Int32))), (0, .ref a), (1, .int x1), (2, .int v1)]) 3 (v2 + (1 : Int32)) hc dX3_seenFrom_29 rfl rfl hN (by decide) rfl ?_
      refine pv_goto (tgt := 4) hc dX3_seenFrom_32 (by decide) ?_
      refine pv_sub [1, 2, 3, 0] rfl ?_
      exact hrec3 _ _ h
    · refine pv_iload_n 2 hc dX3_seenFrom_20 rfl rfl ?_
      refine pv_aload_n 0 hc dX3_seenFrom_21 rfl rfl ?_
      refine gf_X3_24 hc hX3 (wz_at hn rfl 0 rfl) dX3_seenFrom_22 ?_
      refine pv_iload_n 3 hc dX3_seenFrom_25 rfl rfl ?_
      obtain ⟨i6, hi6, h⟩ := IX_el h
      refine al_X3_4 hc hX3 (wz_at hn rfl 0 rfl) hi6 dX3_seenFrom_26 ?_
      refine pv_ior hc dX3_seenFrom_27 ?_
      refine pv_istore_n (L' := [(2, .int (v1 ||| (gA s 4 i6))), (0, .ref a), (1, .int x1), (3, .int v2)]) hc dX3_seenFrom_28 rfl hN (by decide) rfl ?_
      refine pv_iinc (L' := [(3, .int (v2 + (1 : Int32))), (2, .int (v1 ||| (gA s 4 i6))), (0, .ref a), (1, .int x1)]) 3 (v2 + (1 : Int32)) hc dX3_seenFrom_29 rfl rfl hN (by decide) rfl ?_
      refine pv_goto (tgt := 4) hc dX3_seenFrom_32 (by decide) ?_
      refine pv_sub [2, 3, 1, 0] rfl ?_
      exact hrec3 _ _ h
def x3_all (s : Rec) : Option Int32 := some (((1 : Int32) <<< ((gI s 7) &&& 31)) - (1 : Int32))
set_option maxHeartbeats 4000000 in
theorem x3_all_ok {l : Launch} {g : Gh} {G : Wd} (hX3 : OKX3 g) {a : Nat} {s : Rec} (hGt : G.2 a = some (2, s)) {r : Int32} (hf : x3_all s = some r) : MT l g yX3_all cX3_all 1 (some .int) 1 G [.ref a] (some (.int r)) G := by
  refine pv_start (by decide) (Nat.le_of_ble_eq_true rfl) ?_
  intro X hl hg hN hc hr _ _ _ hQ
  subst hl; subst hg
  have hn : ([a] : List Nat).Nodup := nd1 
  have hro := ((wz_c hGt wz_n) : ∀ u ∈ ([(a, 2, s)] : List (Nat × Nat × Rec)), G.2 u.1 = some u.2)
  refine pv_G (wz_id (us := [(a, 2, s)]) (wz_c hGt wz_n)) ?_
  have h := hf
  unfold x3_all at h
  show V X 0 0 _ [(0, .ref a)] [] 0
  refine pv_iconst (1 : Int32) hc dX3_all_0 rfl ?_
  refine pv_aload_n 0 hc dX3_all_1 rfl rfl ?_
  refine gf_X3_41 hc hX3 (wz_at hn rfl 0 rfl) dX3_all_2 ?_
  refine pv_ishl hc dX3_all_5 ?_
  refine pv_iconst (1 : Int32) hc dX3_all_6 rfl ?_
  refine pv_isub hc dX3_all_7 ?_
  exact pv_iret hc hr hQ (e_i1 h) (wz_id hro).symm dX3_all_8
def x4_begin (s : Rec) (e1 : Rec) : Option Rec := LT (sB s 0 (va_cpy (gA e1 5) (gA s 0) 0 0 6)) (fun s1 => BD (j_fill (gA s1 1) 6 (0 : Int32)) (fun f2 => LT (sB s1 1 f2) (fun s4 => BD (j_fill (gA s4 2) 12 (0 : Int32)) (fun f5 => LT (sB s4 2 f5) (fun s7 => BD (j_fill (gA s7 3) 12 (0 : Int32)) (fun f8 => LT (sB s7 3 f8) (fun s10 => BD (j_fill (gA s10 4) 12 (0 : Int32)) (fun f11 => LT (sB s10 4 f11) (fun s13 => BD (j_fill (gA s13 5) 12 (0 : Int32)) (fun f14 => LT (sB s13 5 f14) (fun s16 => BD (j_fill (gA s16 6) 72 (-1 : Int32)) (fun f17 => LT (sB s16 6 f17) (fun s19 => LT (sI s19 7 (0 : Int32)) (fun s20 => LT (sI s20 8 (0 : Int32)) (fun s21 => some s21)))))))))))))))
set_option maxHeartbeats 4000000 in
theorem x4_begin_ok {l : Launch} {g : Gh} {G : Wd} (hX3 : OKX3 g) (hX4 : OKX4 g) {a : Nat} {s : Rec} (hGt : G.2 a = some (3, s)) {b1 : Nat} {e1 : Rec} (hGp1 : G.2 b1 = some (2, e1)) {s' : Rec} (hf : x4_begin s e1 = some s') : MT l g yX4_begin cX4_begin 2 none 2 G [.ref a, .ref b1] none (wp G a 3 s') := by
  refine pv_start (by decide) (Nat.le_of_ble_eq_true rfl) ?_
  intro X hl hg hN hc hr _ _ _ hQ
  subst hl; subst hg
  have hn : ([b1, a] : List Nat).Nodup := nd2 (kd_ne hGp1 hGt (by decide))
  have hro := ((wz_c hGp1 wz_n) : ∀ u ∈ ([(b1, 2, e1)] : List (Nat × Nat × Rec)), G.2 u.1 = some u.2)
  refine pv_G (wz_id (us := [(b1, 2, e1), (a, 3, s)]) (wz_c hGp1 (wz_c hGt wz_n))) ?_
  have h := hf
  unfold x4_begin at h
  show V X 0 0 _ [(0, .ref a), (1, .ref b1)] [] 0
  refine pv_aload_n 1 hc dX4_begin_0 rfl rfl ?_
  refine gf_X4_46 hc hX3 (wz_at hn rfl 0 rfl) dX4_begin_1 ?_
  refine pv_iconst (0 : Int32) hc dX4_begin_4 rfl ?_
  refine pv_aload_n 0 hc dX4_begin_5 rfl rfl ?_
  refine gf_X4_9 hc hX4 (wz_at hn rfl 1 rfl) dX4_begin_6 ?_
  refine pv_iconst (0 : Int32) hc dX4_begin_9 rfl ?_
  refine pv_bipush (6 : Int32) hc dX4_begin_10 rfl ?_
  obtain ⟨s1, hs1, h⟩ := LT_el h
  refine cp_X4_0 (G1 := (wz G [(b1, 2, e1), (a, 3, s1)])) hc hX4 q473 q475 q474 q118 (wz_at hn rfl 0 rfl) (c_X3_5 hX3) (wz_at hn rfl 1 rfl) (by decide) (by decide) (by decide) (by decide) (by decide) (by decide) (Nat.le_of_ble_eq_true rfl) hs1 (wz_set hn rfl 1 rfl rfl) dX4_begin_12 ?_
  refine pv_aload_n 0 hc dX4_begin_15 rfl rfl ?_
  refine gf_X4_15 hc hX4 (wz_at hn rfl 1 rfl) dX4_begin_16 ?_
  refine pv_iconst (0 : Int32) hc dX4_begin_19 rfl ?_
  obtain ⟨f2, hf3, h⟩ := BD_el h
  obtain ⟨s4, hs4, h⟩ := LT_el h
  refine ca_X4_49 (G1 := (wz G [(b1, 2, e1), (a, 3, s4)])) hc (j_fill_ok (ie := 2) (set := fun f => sB s1 1 f) (wz_at hn rfl 1 rfl) (fun f => by rw [hX4.2.1]; rfl) (fun f f1 => by rw [hX4.2.1, hX4.2.1]; rfl) (sB_id _ _) 0 hX4.2.2.1 hf3 (by rw [← hs4]; exact wz_set hn rfl 1 rfl rfl)) (by decide) (Nat.le_of_ble_eq_true rfl) dX4_begin_20 ?_
  refine pv_aload_n 0 hc dX4_begin_23 rfl rfl ?_
  refine gf_X4_18 hc hX4 (wz_at hn rfl 1 rfl) dX4_begin_24 ?_
  refine pv_iconst (0 : Int32) hc dX4_begin_27 rfl ?_
  obtain ⟨f5, hf6, h⟩ := BD_el h
  obtain ⟨s7, hs7, h⟩ := LT_el h
  refine ca_X4_49 (G1 := (wz G [(b1, 2, e1), (a, 3, s7)])) hc (j_fill_ok (ie := 3) (set := fun f => sB s4 2 f) (wz_at hn rfl 1 rfl) (fun f => by rw [hX4.2.1]; rfl) (fun f f1 => by rw [hX4.2.1, hX4.2.1]; rfl) (sB_id _ _) 0 hX4.2.2.1 hf6 (by rw [← hs7]; exact wz_set hn rfl 1 rfl rfl)) (by decide) (Nat.le_of_ble_eq_true rfl) dX4_begin_28 ?_
  refine pv_aload_n 0 hc dX4_begin_31 rfl rfl ?_
  refine gf_X4_21 hc hX4 (wz_at hn rfl 1 rfl) dX4_begin_32 ?_
  refine pv_iconst (0 : Int32) hc dX4_begin_35 rfl ?_
  obtain ⟨f8, hf9, h⟩ := BD_el h
  obtain ⟨s10, hs10, h⟩ := LT_el h
  refine ca_X4_49 (G1 := (wz G [(b1, 2, e1), (a, 3, s10)])) hc (j_fill_ok (ie := 4) (set := fun f => sB s7 3 f) (wz_at hn rfl 1 rfl) (fun f => by rw [hX4.2.1]; rfl) (fun f f1 => by rw [hX4.2.1, hX4.2.1]; rfl) (sB_id _ _) 0 hX4.2.2.1 hf9 (by rw [← hs10]; exact wz_set hn rfl 1 rfl rfl)) (by decide) (Nat.le_of_ble_eq_true rfl) dX4_begin_36 ?_
  refine pv_aload_n 0 hc dX4_begin_39 rfl rfl ?_
  refine gf_X4_24 hc hX4 (wz_at hn rfl 1 rfl) dX4_begin_40 ?_
  refine pv_iconst (0 : Int32) hc dX4_begin_43 rfl ?_
  obtain ⟨f11, hf12, h⟩ := BD_el h
  obtain ⟨s13, hs13, h⟩ := LT_el h
  refine ca_X4_49 (G1 := (wz G [(b1, 2, e1), (a, 3, s13)])) hc (j_fill_ok (ie := 5) (set := fun f => sB s10 4 f) (wz_at hn rfl 1 rfl) (fun f => by rw [hX4.2.1]; rfl) (fun f f1 => by rw [hX4.2.1, hX4.2.1]; rfl) (sB_id _ _) 0 hX4.2.2.1 hf12 (by rw [← hs13]; exact wz_set hn rfl 1 rfl rfl)) (by decide) (Nat.le_of_ble_eq_true rfl) dX4_begin_44 ?_
  refine pv_aload_n 0 hc dX4_begin_47 rfl rfl ?_
  refine gf_X4_27 hc hX4 (wz_at hn rfl 1 rfl) dX4_begin_48 ?_
  refine pv_iconst (0 : Int32) hc dX4_begin_51 rfl ?_
  obtain ⟨f14, hf15, h⟩ := BD_el h
  obtain ⟨s16, hs16, h⟩ := LT_el h
  refine ca_X4_49 (G1 := (wz G [(b1, 2, e1), (a, 3, s16)])) hc (j_fill_ok (ie := 6) (set := fun f => sB s13 5 f) (wz_at hn rfl 1 rfl) (fun f => by rw [hX4.2.1]; rfl) (fun f f1 => by rw [hX4.2.1, hX4.2.1]; rfl) (sB_id _ _) 0 hX4.2.2.1 hf15 (by rw [← hs16]; exact wz_set hn rfl 1 rfl rfl)) (by decide) (Nat.le_of_ble_eq_true rfl) dX4_begin_52 ?_
  refine pv_aload_n 0 hc dX4_begin_55 rfl rfl ?_
  refine gf_X4_30 hc hX4 (wz_at hn rfl 1 rfl) dX4_begin_56 ?_
  refine pv_iconst (-1 : Int32) hc dX4_begin_59 rfl ?_
  obtain ⟨f17, hf18, h⟩ := BD_el h
  obtain ⟨s19, hs19, h⟩ := LT_el h
  refine ca_X4_49 (G1 := (wz G [(b1, 2, e1), (a, 3, s19)])) hc (j_fill_ok (ie := 7) (set := fun f => sB s16 6 f) (wz_at hn rfl 1 rfl) (fun f => by rw [hX4.2.1]; rfl) (fun f f1 => by rw [hX4.2.1, hX4.2.1]; rfl) (sB_id _ _) 0 hX4.2.2.1 hf18 (by rw [← hs19]; exact wz_set hn rfl 1 rfl rfl)) (by decide) (Nat.le_of_ble_eq_true rfl) dX4_begin_60 ?_
  refine pv_aload_n 0 hc dX4_begin_63 rfl rfl ?_
  refine pv_iconst (0 : Int32) hc dX4_begin_64 rfl ?_
  obtain ⟨s20, hs20, h⟩ := LT_el h
  refine pf_X4_39 (G1 := (wz G [(b1, 2, e1), (a, 3, s20)])) hc hX4 (wz_at hn rfl 1 rfl) hs20 (wz_set hn rfl 1 rfl rfl) dX4_begin_65 ?_
  refine pv_aload_n 0 hc dX4_begin_68 rfl rfl ?_
  refine pv_iconst (0 : Int32) hc dX4_begin_69 rfl ?_
  obtain ⟨s21, hs21, h⟩ := LT_el h
  refine pf_X4_43 (G1 := (wz G [(b1, 2, e1), (a, 3, s21)])) hc hX4 (wz_at hn rfl 1 rfl) hs21 (wz_set hn rfl 1 rfl rfl) dX4_begin_70 ?_
  exact pv_vret hc hr hQ rfl (fin_w1 (ro := [(b1, 2, e1)]) hro h) dX4_begin_73
def x4_comes (s : Rec) (x1 : Int32) (x2 : Int32) : Option Int32 := IX (((12 : Int32) * x1) + x2) 72 (fun i1 => some (gA s 6 i1))
set_option maxHeartbeats 4000000 in
theorem x4_comes_ok {l : Launch} {g : Gh} {G : Wd} (hX4 : OKX4 g) {a : Nat} {s : Rec} (hGt : G.2 a = some (3, s)) {x1 : Int32} {x2 : Int32} {r : Int32} (hf : x4_comes s x1 x2 = some r) : MT l g yX4_comes cX4_comes 3 (some .int) 1 G [.ref a, .int x1, .int x2] (some (.int r)) G := by
  refine pv_start (by decide) (Nat.le_of_ble_eq_true rfl) ?_
  intro X hl hg hN hc hr _ _ _ hQ
  subst hl; subst hg
  have hn : ([a] : List Nat).Nodup := nd1 
  have hro := ((wz_c hGt wz_n) : ∀ u ∈ ([(a, 3, s)] : List (Nat × Nat × Rec)), G.2 u.1 = some u.2)
  refine pv_G (wz_id (us := [(a, 3, s)]) (wz_c hGt wz_n)) ?_
  have h := hf
  unfold x4_comes at h
  show V X 0 0 _ [(0, .ref a), (1, .int x1), (2, .int x2)] [] 0
  refine pv_aload_n 0 hc dX4_comes_0 rfl rfl ?_
  refine gf_X4_30 hc hX4 (wz_at hn rfl 0 rfl) dX4_comes_1 ?_
  refine pv_bipush (12 : Int32) hc dX4_comes_4 rfl ?_
  refine pv_iload_n 1 hc dX4_comes_6 rfl rfl ?_
  refine pv_imul hc dX4_comes_7 ?_
  refine pv_iload_n 2 hc dX4_comes_8 rfl rfl ?_
  refine pv_iadd hc dX4_comes_9 ?_
  obtain ⟨i1, hi1, h⟩ := IX_el h
  refine al_X4_6 hc hX4 (wz_at hn rfl 0 rfl) hi1 dX4_comes_10 ?_
  exact pv_iret hc hr hQ (e_i1 h) (wz_id hro).symm dX4_comes_11
def x4_sees (s : Rec) (e1 : Rec) (x2 : Int32) : Option Int32 := BD (x1_has (gI e1 11) x2) (fun v2 => (if v2 = 0 then IX x2 6 (fun i3 => (if (gA s 1 i3) < (gI e1 12) then BD (x3_seenFrom e1 ((1 : Int32) <<< ((gA s 0 i3) &&& 31))) (fun v5 => some v5) else some (0 : Int32))) else some (0 : Int32)))
set_option maxHeartbeats 4000000 in
theorem x4_sees_ok {l : Launch} {g : Gh} {G : Wd} (hX3 : OKX3 g) (hX4 : OKX4 g) {a : Nat} {s : Rec} (hGt : G.2 a = some (3, s)) {b1 : Nat} {e1 : Rec} (hGp1 : G.2 b1 = some (2, e1)) {x2 : Int32} {r : Int32} (hf : x4_sees s e1 x2 = some r) : MT l g yX4_sees cX4_sees 3 (some .int) 3 G [.ref a, .ref b1, .int x2] (some (.int r)) G := by
  refine pv_start (by decide) (Nat.le_of_ble_eq_true rfl) ?_
  intro X hl hg hN hc hr _ _ _ hQ
  subst hl; subst hg
  have hn : ([a, b1] : List Nat).Nodup := nd2 (kd_ne hGt hGp1 (by decide))
  have hro := ((wz_c hGt (wz_c hGp1 wz_n)) : ∀ u ∈ ([(a, 3, s), (b1, 2, e1)] : List (Nat × Nat × Rec)), G.2 u.1 = some u.2)
  refine pv_G (wz_id (us := [(a, 3, s), (b1, 2, e1)]) (wz_c hGt (wz_c hGp1 wz_n))) ?_
  have h := hf
  unfold x4_sees at h
  show V X 0 0 _ [(0, .ref a), (1, .ref b1), (2, .int x2)] [] 0
  refine pv_aload_n 1 hc dX4_sees_0 rfl rfl ?_
  refine gf_X4_55 hc hX3 (wz_at hn rfl 1 rfl) dX4_sees_1 ?_
  refine pv_iload_n 2 hc dX4_sees_4 rfl rfl ?_
  obtain ⟨v2, hf1, h⟩ := BD_el h
  refine ca_X4_58 hc (x1_has_ok   hf1) (by decide) (Nat.le_of_ble_eq_true rfl) dX4_sees_5 ?_
  refine pv_if_ne (tgt := 24) hc dX4_sees_8 (by decide) h (fun h => ?_) (fun h => ?_)
  · refine pv_iconst (0 : Int32) hc dX4_sees_24 rfl ?_
    refine pv_goto (tgt := 40) hc dX4_sees_25 (by decide) ?_
    exact pv_iret hc hr hQ (e_i1 h) (wz_id hro).symm dX4_sees_40
  · refine pv_aload_n 0 hc dX4_sees_11 rfl rfl ?_
    refine gf_X4_15 hc hX4 (wz_at hn rfl 0 rfl) dX4_sees_12 ?_
    refine pv_iload_n 2 hc dX4_sees_15 rfl rfl ?_
    obtain ⟨i3, hi3, h⟩ := IX_el h
    refine al_X4_1 hc hX4 (wz_at hn rfl 0 rfl) hi3 dX4_sees_16 ?_
    refine pv_aload_n 1 hc dX4_sees_17 rfl rfl ?_
    refine gf_X4_62 hc hX3 (wz_at hn rfl 1 rfl) dX4_sees_18 ?_
    refine pv_icmp_lt (tgt := 28) hc dX4_sees_21 (by decide) h (fun h => ?_) (fun h => ?_)
    · refine pv_aload_n 1 hc dX4_sees_28 rfl rfl ?_
      refine pv_iconst (1 : Int32) hc dX4_sees_29 rfl ?_
      refine pv_aload_n 0 hc dX4_sees_30 rfl rfl ?_
      refine gf_X4_9 hc hX4 (wz_at hn rfl 0 rfl) dX4_sees_31 ?_
      refine pv_iload_n 2 hc dX4_sees_34 rfl rfl ?_
      refine al_X4_0 hc hX4 (wz_at hn rfl 0 rfl) hi3 dX4_sees_35 ?_
      refine pv_ishl hc dX4_sees_36 ?_
      obtain ⟨v5, hf4, h⟩ := BD_el h
      refine ca_X4_65 hc hX3 (wz_at hn rfl 1 rfl) (x3_seenFrom_ok hX3 (wz_at hn rfl 1 rfl) hf4) (by decide) (Nat.le_of_ble_eq_true rfl) dX4_sees_37 ?_
      exact pv_iret hc hr hQ (e_i1 h) (wz_id hro).symm dX4_sees_40
    · refine pv_iconst (0 : Int32) hc dX4_sees_24 rfl ?_
      refine pv_goto (tgt := 40) hc dX4_sees_25 (by decide) ?_
      exact pv_iret hc hr hQ (e_i1 h) (wz_id hro).symm dX4_sees_40
def x4_hasCome (s : Rec) (x1 : Int32) (x2 : Int32) : Option Int32 := BD (x4_comes s x1 x2) (fun v2 => (if v2 = (-1 : Int32) then some (0 : Int32) else BD (x4_comes s x1 x2) (fun v4 => (if (gI s 7) < v4 then some (0 : Int32) else some (1 : Int32)))))
set_option maxHeartbeats 4000000 in
theorem x4_hasCome_ok {l : Launch} {g : Gh} {G : Wd} (hX4 : OKX4 g) {a : Nat} {s : Rec} (hGt : G.2 a = some (3, s)) {x1 : Int32} {x2 : Int32} {r : Int32} (hf : x4_hasCome s x1 x2 = some r) : MT l g yX4_hasCome cX4_hasCome 3 (some .boolean) 2 G [.ref a, .int x1, .int x2] (some (.int r)) G := by
  refine pv_start (by decide) (Nat.le_of_ble_eq_true rfl) ?_
  intro X hl hg hN hc hr _ _ _ hQ
  subst hl; subst hg
  have hn : ([a] : List Nat).Nodup := nd1 
  have hro := ((wz_c hGt wz_n) : ∀ u ∈ ([(a, 3, s)] : List (Nat × Nat × Rec)), G.2 u.1 = some u.2)
  refine pv_G (wz_id (us := [(a, 3, s)]) (wz_c hGt wz_n)) ?_
  have h := hf
  unfold x4_hasCome at h
  show V X 0 0 _ [(0, .ref a), (1, .int x1), (2, .int x2)] [] 0
  refine pv_aload_n 0 hc dX4_hasCome_0 rfl rfl ?_
  refine pv_iload_n 1 hc dX4_hasCome_1 rfl rfl ?_
  refine pv_iload_n 2 hc dX4_hasCome_2 rfl rfl ?_
  obtain ⟨v2, hf1, h⟩ := BD_el h
  refine ca_X4_76 hc hX4 (wz_at hn rfl 0 rfl) (x4_comes_ok hX4 (wz_at hn rfl 0 rfl) hf1) (by decide) (Nat.le_of_ble_eq_true rfl) dX4_hasCome_3 ?_
  refine pv_iconst (-1 : Int32) hc dX4_hasCome_6 rfl ?_
  refine pv_icmp_eq (tgt := 27) hc dX4_hasCome_7 (by decide) h (fun h => ?_) (fun h => ?_)
  · refine pv_iconst (0 : Int32) hc dX4_hasCome_27 rfl ?_
    exact pv_zret hc hr hQ (by decide) (e_i1 h) (wz_id hro).symm dX4_hasCome_28
  · refine pv_aload_n 0 hc dX4_hasCome_10 rfl rfl ?_
    refine pv_iload_n 1 hc dX4_hasCome_11 rfl rfl ?_
    refine pv_iload_n 2 hc dX4_hasCome_12 rfl rfl ?_
    obtain ⟨v4, hf3, h⟩ := BD_el h
    refine ca_X4_76 hc hX4 (wz_at hn rfl 0 rfl) (x4_comes_ok hX4 (wz_at hn rfl 0 rfl) hf3) (by decide) (Nat.le_of_ble_eq_true rfl) dX4_hasCome_13 ?_
    refine pv_aload_n 0 hc dX4_hasCome_16 rfl rfl ?_
    refine gf_X4_39 hc hX4 (wz_at hn rfl 0 rfl) dX4_hasCome_17 ?_
    refine pv_icmp_gt (tgt := 27) hc dX4_hasCome_20 (by decide) h (fun h => ?_) (fun h => ?_)
    · refine pv_iconst (0 : Int32) hc dX4_hasCome_27 rfl ?_
      exact pv_zret hc hr hQ (by decide) (e_i1 h) (wz_id hro).symm dX4_hasCome_28
    · refine pv_iconst (1 : Int32) hc dX4_hasCome_23 rfl ?_
      refine pv_goto (tgt := 28) hc dX4_hasCome_24 (by decide) ?_
      exact pv_zret hc hr hQ (by decide) (e_i1 h) (wz_id hro).symm dX4_hasCome_28
def x4_leaves (s : Rec) (x1 : Int32) (x2 : Int32) : Option Int32 := LP2 (fun (rec3 : Int32 → Int32 → Option Int32) (v1 : Int32) (v2 : Int32) => (if (gI s 8) ≤ v2 then some v1 else BD (x4_comes s x1 v2) (fun v5 => (if v5 = (-1 : Int32) then rec3 v1 (v2 + (1 : Int32)) else BD (x4_hasCome s x1 v2) (fun v7 => (if v7 = x2 then rec3 (v1 + (1 : Int32)) (v2 + (1 : Int32)) else rec3 v1 (v2 + (1 : Int32)))))))) FU (0 : Int32) (0 : Int32)
set_option maxHeartbeats 4000000 in
theorem x4_leaves_ok {l : Launch} {g : Gh} {G : Wd} (hX4 : OKX4 g) {a : Nat} {s : Rec} (hGt : G.2 a = some (3, s)) {x1 : Int32} {x2 : Int32} {r : Int32} (hf : x4_leaves s x1 x2 = some r) : MT l g yX4_leaves cX4_leaves 5 (some .int) 3 G [.ref a, .int x1, .int x2] (some (.int r)) G := by
  refine pv_start (by decide) (Nat.le_of_ble_eq_true rfl) ?_
  intro X hl hg hN hc hr _ _ _ hQ
  subst hl; subst hg
  have hn : ([a] : List Nat).Nodup := nd1 
  have hro := ((wz_c hGt wz_n) : ∀ u ∈ ([(a, 3, s)] : List (Nat × Nat × Rec)), G.2 u.1 = some u.2)
  refine pv_G (wz_id (us := [(a, 3, s)]) (wz_c hGt wz_n)) ?_
  have h := hf
  unfold x4_leaves at h
  show V X 0 0 _ [(0, .ref a), (1, .int x1), (2, .int x2)] [] 0
  refine pv_iconst (0 : Int32) hc dX4_leaves_0 rfl ?_
  refine pv_istore_n (L' := [(3, .int (0 : Int32)), (0, .ref a), (1, .int x1), (2, .int x2)]) hc dX4_leaves_1 rfl hN (by decide) rfl ?_
  refine pv_iconst (0 : Int32) hc dX4_leaves_2 rfl ?_
  refine pv_istore (L' := [(4, .int (0 : Int32)), (3, .int (0 : Int32)), (0, .ref a), (1, .int x1), (2, .int x2)]) hc dX4_leaves_3 hN (by decide) rfl ?_
  refine pv_sub [2, 3, 4, 1, 0] rfl ?_
  refine LP2_el (P := fun v1 v2 => V X 0 0 (wz G [(a, 3, s)]) [(0, .ref a), (1, .int x1), (2, .int x2), (3, .int v1), (4, .int v2)] [] 5) ?_ FU _ _ h
  intro rec3 hrec3 v1 v2 h
  refine pv_iload 4 hc dX4_leaves_5 rfl ?_
  refine pv_aload_n 0 hc dX4_leaves_7 rfl rfl ?_
  refine gf_X4_43 hc hX4 (wz_at hn rfl 0 rfl) dX4_leaves_8 ?_
  refine pv_icmp_ge (tgt := 45) hc dX4_leaves_11 (by decide) h (fun h => ?_) (fun h => ?_)
  · refine pv_iload_n 3 hc dX4_leaves_45 rfl rfl ?_
    exact pv_iret hc hr hQ (e_i1 h) (wz_id hro).symm dX4_leaves_46
  · refine pv_aload_n 0 hc dX4_leaves_14 rfl rfl ?_
    refine pv_iload_n 1 hc dX4_leaves_15 rfl rfl ?_
    refine pv_iload 4 hc dX4_leaves_16 rfl ?_
    obtain ⟨v5, hf4, h⟩ := BD_el h
    refine ca_X4_76 hc hX4 (wz_at hn rfl 0 rfl) (x4_comes_ok hX4 (wz_at hn rfl 0 rfl) hf4) (by decide) (Nat.le_of_ble_eq_true rfl) dX4_leaves_18 ?_
    refine pv_iconst (-1 : Int32) hc dX4_leaves_21 rfl ?_
    refine pv_icmp_eq (tgt := 39) hc dX4_leaves_22 (by decide) h (fun h => ?_) (fun h => ?_)
    · refine pv_iinc (L' := [(4, .int (v2 + (1 : Int32))), (0, .ref a), (1, .int x1), (2, .int x2), (3, .int v1)]) 4 (v2 + (1 : Int32)) hc dX4_leaves_39 rfl rfl hN (by decide) rfl ?_
      refine pv_goto (tgt := 5) hc dX4_leaves_42 (by decide) ?_
      refine pv_sub [1, 2, 3, 4, 0] rfl ?_
      exact hrec3 _ _ h
    · refine pv_aload_n 0 hc dX4_leaves_25 rfl rfl ?_
      refine pv_iload_n 1 hc dX4_leaves_26 rfl rfl ?_
      refine pv_iload 4 hc dX4_leaves_27 rfl ?_
      obtain ⟨v7, hf6, h⟩ := BD_el h
      refine ca_X4_87 hc hX4 (wz_at hn rfl 0 rfl) (x4_hasCome_ok hX4 (wz_at hn rfl 0 rfl) hf6) (by decide) (Nat.le_of_ble_eq_true rfl) dX4_leaves_29 ?_
      refine pv_iload_n 2 hc dX4_leaves_32 rfl rfl ?_
      refine pv_icmp_ne (tgt := 39) hc dX4_leaves_33 (by decide) h (fun h => ?_) (fun h => ?_)
      · refine pv_iinc (L' := [(4, .int (v2 + (1 : Int32))), (0, .ref a), (1, .int x1), (2, .int x2), (3, .int v1)]) 4 (v2 + (1 : Int32)) hc dX4_leaves_39 rfl rfl hN (by decide) rfl ?_
        refine pv_goto (tgt := 5) hc dX4_leaves_42 (by decide) ?_
        refine pv_sub [1, 2, 3, 4, 0] rfl ?_
        exact hrec3 _ _ h
      · refine pv_iinc (L' := [(3, .int (v1 + (1 : Int32))), (0, .ref a), (1, .int x1), (2, .int x2), (4, .int v2)]) 3 (v1 + (1 : Int32)) hc dX4_leaves_36 rfl rfl hN (by decide) rfl ?_
        refine pv_iinc (L' := [(4, .int (v2 + (1 : Int32))), (3, .int (v1 + (1 : Int32))), (0, .ref a), (1, .int x1), (2, .int x2)]) 4 (v2 + (1 : Int32)) hc dX4_leaves_39 rfl rfl hN (by decide) rfl ?_
        refine pv_goto (tgt := 5) hc dX4_leaves_42 (by decide) ?_
        refine pv_sub [2, 3, 4, 1, 0] rfl ?_
        exact hrec3 _ _ h
def x4_witnesses (s : Rec) (e1 : Rec) (x2 : Int32) (x3 : Int32) : Option Int32 := LP2 (fun (rec3 : Int32 → Int32 → Option Int32) (v1 : Int32) (v2 : Int32) => (if (gI e1 8) ≤ v2 then some v1 else BD (x4_comes s v2 x2) (fun v5 => (if v5 = (-1 : Int32) then rec3 v1 (v2 + (1 : Int32)) else BD (x4_hasCome s v2 x2) (fun v7 => (if v7 = x3 then rec3 (v1 ||| ((1 : Int32) <<< (v2 &&& 31))) (v2 + (1 : Int32)) else rec3 v1 (v2 + (1 : Int32)))))))) FU (0 : Int32) (0 : Int32)
set_option maxHeartbeats 4000000 in
theorem x4_witnesses_ok {l : Launch} {g : Gh} {G : Wd} (hX3 : OKX3 g) (hX4 : OKX4 g) {a : Nat} {s : Rec} (hGt : G.2 a = some (3, s)) {b1 : Nat} {e1 : Rec} (hGp1 : G.2 b1 = some (2, e1)) {x2 : Int32} {x3 : Int32} {r : Int32} (hf : x4_witnesses s e1 x2 x3 = some r) : MT l g yX4_witnesses cX4_witnesses 6 (some .int) 3 G [.ref a, .ref b1, .int x2, .int x3] (some (.int r)) G := by
  refine pv_start (by decide) (Nat.le_of_ble_eq_true rfl) ?_
  intro X hl hg hN hc hr _ _ _ hQ
  subst hl; subst hg
  have hn : ([a, b1] : List Nat).Nodup := nd2 (kd_ne hGt hGp1 (by decide))
  have hro := ((wz_c hGt (wz_c hGp1 wz_n)) : ∀ u ∈ ([(a, 3, s), (b1, 2, e1)] : List (Nat × Nat × Rec)), G.2 u.1 = some u.2)
  refine pv_G (wz_id (us := [(a, 3, s), (b1, 2, e1)]) (wz_c hGt (wz_c hGp1 wz_n))) ?_
  have h := hf
  unfold x4_witnesses at h
  show V X 0 0 _ [(0, .ref a), (1, .ref b1), (2, .int x2), (3, .int x3)] [] 0
  refine pv_iconst (0 : Int32) hc dX4_witnesses_0 rfl ?_
  refine pv_istore (L' := [(4, .int (0 : Int32)), (0, .ref a), (1, .ref b1), (2, .int x2), (3, .int x3)]) hc dX4_witnesses_1 hN (by decide) rfl ?_
  refine pv_iconst (0 : Int32) hc dX4_witnesses_3 rfl ?_
  refine pv_istore (L' := [(5, .int (0 : Int32)), (4, .int (0 : Int32)), (0, .ref a), (1, .ref b1), (2, .int x2), (3, .int x3)]) hc dX4_witnesses_4 hN (by decide) rfl ?_
  refine pv_sub [2, 3, 4, 5, 1, 0] rfl ?_
  refine LP2_el (P := fun v1 v2 => V X 0 0 (wz G [(a, 3, s), (b1, 2, e1)]) [(0, .ref a), (1, .ref b1), (2, .int x2), (3, .int x3), (4, .int v1), (5, .int v2)] [] 6) ?_ FU _ _ h
  intro rec3 hrec3 v1 v2 h
  refine pv_iload 5 hc dX4_witnesses_6 rfl ?_
  refine pv_aload_n 1 hc dX4_witnesses_8 rfl rfl ?_
  refine gf_X4_69 hc hX3 (wz_at hn rfl 1 rfl) dX4_witnesses_9 ?_
  refine pv_icmp_ge (tgt := 52) hc dX4_witnesses_12 (by decide) h (fun h => ?_) (fun h => ?_)
  · refine pv_iload 4 hc dX4_witnesses_52 rfl ?_
    exact pv_iret hc hr hQ (e_i1 h) (wz_id hro).symm dX4_witnesses_54
  · refine pv_aload_n 0 hc dX4_witnesses_15 rfl rfl ?_
    refine pv_iload 5 hc dX4_witnesses_16 rfl ?_
    refine pv_iload_n 2 hc dX4_witnesses_18 rfl rfl ?_
    obtain ⟨v5, hf4, h⟩ := BD_el h
    refine ca_X4_76 hc hX4 (wz_at hn rfl 0 rfl) (x4_comes_ok hX4 (wz_at hn rfl 0 rfl) hf4) (by decide) (Nat.le_of_ble_eq_true rfl) dX4_witnesses_19 ?_
    refine pv_iconst (-1 : Int32) hc dX4_witnesses_22 rfl ?_
    refine pv_icmp_eq (tgt := 46) hc dX4_witnesses_23 (by decide) h (fun h => ?_) (fun h => ?_)
    · refine pv_iinc (L' := [(5, .int (v2 + (1 : Int32))), (0, .ref a), (1, .ref b1), (2, .int x2), (3, .int x3), (4, .int v1)]) 5 (v2 + (1 : Int32)) hc dX4_witnesses_46 rfl rfl hN (by decide) rfl ?_
      refine pv_goto (tgt := 6) hc dX4_witnesses_49 (by decide) ?_
      refine pv_sub [1, 2, 3, 4, 5, 0] rfl ?_
      exact hrec3 _ _ h
    · refine pv_aload_n 0 hc dX4_witnesses_26 rfl rfl ?_
      refine pv_iload 5 hc dX4_witnesses_27 rfl ?_
      refine pv_iload_n 2 hc dX4_witnesses_29 rfl rfl ?_
      obtain ⟨v7, hf6, h⟩ := BD_el h
      refine ca_X4_87 hc hX4 (wz_at hn rfl 0 rfl) (x4_hasCome_ok hX4 (wz_at hn rfl 0 rfl) hf6) (by decide) (Nat.le_of_ble_eq_true rfl) dX4_witnesses_30 ?_
      refine pv_iload_n 3 hc dX4_witnesses_33 rfl rfl ?_
      refine pv_icmp_ne (tgt := 46) hc dX4_witnesses_34 (by decide) h (fun h => ?_) (fun h => ?_)
      · refine pv_iinc (L' := [(5, .int (v2 + (1 : Int32))), (0, .ref a), (1, .ref b1), (2, .int x2), (3, .int x3), (4, .int v1)]) 5 (v2 + (1 : Int32)) hc dX4_witnesses_46 rfl rfl hN (by decide) rfl ?_
        refine pv_goto (tgt := 6) hc dX4_witnesses_49 (by decide) ?_
        refine pv_sub [1, 2, 3, 4, 5, 0] rfl ?_
        exact hrec3 _ _ h
      · refine pv_iload 4 hc dX4_witnesses_37 rfl ?_
        refine pv_iconst (1 : Int32) hc dX4_witnesses_39 rfl ?_
        refine pv_iload 5 hc dX4_witnesses_40 rfl ?_
        refine pv_ishl hc dX4_witnesses_42 ?_
        refine pv_ior hc dX4_witnesses_43 ?_
        refine pv_istore (L' := [(4, .int (v1 ||| ((1 : Int32) <<< (v2 &&& 31)))), (0, .ref a), (1, .ref b1), (2, .int x2), (3, .int x3), (5, .int v2)]) hc dX4_witnesses_44 hN (by decide) rfl ?_
        refine pv_iinc (L' := [(5, .int (v2 + (1 : Int32))), (4, .int (v1 ||| ((1 : Int32) <<< (v2 &&& 31)))), (0, .ref a), (1, .ref b1), (2, .int x2), (3, .int x3)]) 5 (v2 + (1 : Int32)) hc dX4_witnesses_46 rfl rfl hN (by decide) rfl ?_
        refine pv_goto (tgt := 6) hc dX4_witnesses_49 (by decide) ?_
        refine pv_sub [2, 3, 4, 5, 1, 0] rfl ?_
        exact hrec3 _ _ h
def x4_isProved (s : Rec) (e1 : Rec) (x2 : Int32) : Option Int32 := BD (x4_witnesses s e1 x2 (1 : Int32)) (fun v2 => BD (j9_bitCount v2) (fun v4 => (if v4 < (gI e1 13) then some (0 : Int32) else some (1 : Int32))))
set_option maxHeartbeats 4000000 in
theorem x4_isProved_ok {l : Launch} {g : Gh} {G : Wd} (hX3 : OKX3 g) (hX4 : OKX4 g) {a : Nat} {s : Rec} (hGt : G.2 a = some (3, s)) {b1 : Nat} {e1 : Rec} (hGp1 : G.2 b1 = some (2, e1)) {x2 : Int32} {r : Int32} (hf : x4_isProved s e1 x2 = some r) : MT l g yX4_isProved cX4_isProved 3 (some .boolean) 4 G [.ref a, .ref b1, .int x2] (some (.int r)) G := by
  refine pv_start (by decide) (Nat.le_of_ble_eq_true rfl) ?_
  intro X hl hg hN hc hr _ _ _ hQ
  subst hl; subst hg
  have hn : ([a, b1] : List Nat).Nodup := nd2 (kd_ne hGt hGp1 (by decide))
  have hro := ((wz_c hGt (wz_c hGp1 wz_n)) : ∀ u ∈ ([(a, 3, s), (b1, 2, e1)] : List (Nat × Nat × Rec)), G.2 u.1 = some u.2)
  refine pv_G (wz_id (us := [(a, 3, s), (b1, 2, e1)]) (wz_c hGt (wz_c hGp1 wz_n))) ?_
  have h := hf
  unfold x4_isProved at h
  show V X 0 0 _ [(0, .ref a), (1, .ref b1), (2, .int x2)] [] 0
  refine pv_aload_n 0 hc dX4_isProved_0 rfl rfl ?_
  refine pv_aload_n 1 hc dX4_isProved_1 rfl rfl ?_
  refine pv_iload_n 2 hc dX4_isProved_2 rfl rfl ?_
  refine pv_iconst (1 : Int32) hc dX4_isProved_3 rfl ?_
  obtain ⟨v2, hf1, h⟩ := BD_el h
  refine ca_X4_90 hc hX4 (wz_at hn rfl 0 rfl) (x4_witnesses_ok hX3 hX4 (wz_at hn rfl 0 rfl) (wz_at hn rfl 1 rfl) hf1) (by decide) (Nat.le_of_ble_eq_true rfl) dX4_isProved_4 ?_
  obtain ⟨v4, hf3, h⟩ := BD_el h
  refine ca_X4_94 hc (j9_bitCount_ok   hf3) (by decide) (Nat.le_of_ble_eq_true rfl) dX4_isProved_7 ?_
  refine pv_aload_n 1 hc dX4_isProved_10 rfl rfl ?_
  refine gf_X4_99 hc hX3 (wz_at hn rfl 1 rfl) dX4_isProved_11 ?_
  refine pv_icmp_lt (tgt := 21) hc dX4_isProved_14 (by decide) h (fun h => ?_) (fun h => ?_)
  · refine pv_iconst (0 : Int32) hc dX4_isProved_21 rfl ?_
    exact pv_zret hc hr hQ (by decide) (e_i1 h) (wz_id hro).symm dX4_isProved_22
  · refine pv_iconst (1 : Int32) hc dX4_isProved_17 rfl ?_
    refine pv_goto (tgt := 22) hc dX4_isProved_18 (by decide) ?_
    exact pv_zret hc hr hQ (by decide) (e_i1 h) (wz_id hro).symm dX4_isProved_22
def x4_proved (s : Rec) (e1 : Rec) : Option Int32 := LP2 (fun (rec3 : Int32 → Int32 → Option Int32) (v1 : Int32) (v2 : Int32) => (if (gI s 8) ≤ v2 then some v1 else BD (x4_isProved s e1 v2) (fun v5 => (if v5 = 0 then rec3 v1 (v2 + (1 : Int32)) else rec3 (v1 ||| ((1 : Int32) <<< (v2 &&& 31))) (v2 + (1 : Int32)))))) FU (0 : Int32) (0 : Int32)
set_option maxHeartbeats 4000000 in
theorem x4_proved_ok {l : Launch} {g : Gh} {G : Wd} (hX3 : OKX3 g) (hX4 : OKX4 g) {a : Nat} {s : Rec} (hGt : G.2 a = some (3, s)) {b1 : Nat} {e1 : Rec} (hGp1 : G.2 b1 = some (2, e1)) {r : Int32} (hf : x4_proved s e1 = some r) : MT l g yX4_proved cX4_proved 4 (some .int) 5 G [.ref a, .ref b1] (some (.int r)) G := by
  refine pv_start (by decide) (Nat.le_of_ble_eq_true rfl) ?_
  intro X hl hg hN hc hr _ _ _ hQ
  subst hl; subst hg
  have hn : ([a, b1] : List Nat).Nodup := nd2 (kd_ne hGt hGp1 (by decide))
  have hro := ((wz_c hGt (wz_c hGp1 wz_n)) : ∀ u ∈ ([(a, 3, s), (b1, 2, e1)] : List (Nat × Nat × Rec)), G.2 u.1 = some u.2)
  refine pv_G (wz_id (us := [(a, 3, s), (b1, 2, e1)]) (wz_c hGt (wz_c hGp1 wz_n))) ?_
  have h := hf
  unfold x4_proved at h
  show V X 0 0 _ [(0, .ref a), (1, .ref b1)] [] 0
  refine pv_iconst (0 : Int32) hc dX4_proved_0 rfl ?_
  refine pv_istore_n (L' := [(2, .int (0 : Int32)), (0, .ref a), (1, .ref b1)]) hc dX4_proved_1 rfl hN (by decide) rfl ?_
  refine pv_iconst (0 : Int32) hc dX4_proved_2 rfl ?_
  refine pv_istore_n (L' := [(3, .int (0 : Int32)), (2, .int (0 : Int32)), (0, .ref a), (1, .ref b1)]) hc dX4_proved_3 rfl hN (by decide) rfl ?_
  refine pv_sub [2, 3, 1, 0] rfl ?_
  refine LP2_el (P := fun v1 v2 => V X 0 0 (wz G [(a, 3, s), (b1, 2, e1)]) [(0, .ref a), (1, .ref b1), (2, .int v1), (3, .int v2)] [] 4) ?_ FU _ _ h
  intro rec3 hrec3 v1 v2 h
  refine pv_iload_n 3 hc dX4_proved_4 rfl rfl ?_
  refine pv_aload_n 0 hc dX4_proved_5 rfl rfl ?_
  refine gf_X4_43 hc hX4 (wz_at hn rfl 0 rfl) dX4_proved_6 ?_
  refine pv_icmp_ge (tgt := 33) hc dX4_proved_9 (by decide) h (fun h => ?_) (fun h => ?_)
  · refine pv_iload_n 2 hc dX4_proved_33 rfl rfl ?_
    exact pv_iret hc hr hQ (e_i1 h) (wz_id hro).symm dX4_proved_34
  · refine pv_aload_n 0 hc dX4_proved_12 rfl rfl ?_
    refine pv_aload_n 1 hc dX4_proved_13 rfl rfl ?_
    refine pv_iload_n 3 hc dX4_proved_14 rfl rfl ?_
    obtain ⟨v5, hf4, h⟩ := BD_el h
    refine ca_X4_102 hc hX4 (wz_at hn rfl 0 rfl) (x4_isProved_ok hX3 hX4 (wz_at hn rfl 0 rfl) (wz_at hn rfl 1 rfl) hf4) (by decide) (Nat.le_of_ble_eq_true rfl) dX4_proved_15 ?_
    refine pv_if_eq (tgt := 27) hc dX4_proved_18 (by decide) h (fun h => ?_) (fun h => ?_)
    · refine pv_iinc (L' := [(3, .int (v2 + (1 : Int32))), (0, .ref a), (1, .ref b1), (2, .int v1)]) 3 (v2 + (1 : Int32)) hc dX4_proved_27 rfl rfl hN (by decide) rfl ?_
      refine pv_goto (tgt := 4) hc dX4_proved_30 (by decide) ?_
      refine pv_sub [1, 2, 3, 0] rfl ?_
      exact hrec3 _ _ h
    · refine pv_iload_n 2 hc dX4_proved_21 rfl rfl ?_
      refine pv_iconst (1 : Int32) hc dX4_proved_22 rfl ?_
      refine pv_iload_n 3 hc dX4_proved_23 rfl rfl ?_
      refine pv_ishl hc dX4_proved_24 ?_
      refine pv_ior hc dX4_proved_25 ?_
      refine pv_istore_n (L' := [(2, .int (v1 ||| ((1 : Int32) <<< (v2 &&& 31)))), (0, .ref a), (1, .ref b1), (3, .int v2)]) hc dX4_proved_26 rfl hN (by decide) rfl ?_
      refine pv_iinc (L' := [(3, .int (v2 + (1 : Int32))), (2, .int (v1 ||| ((1 : Int32) <<< (v2 &&& 31)))), (0, .ref a), (1, .ref b1)]) 3 (v2 + (1 : Int32)) hc dX4_proved_27 rfl rfl hN (by decide) rfl ?_
      refine pv_goto (tgt := 4) hc dX4_proved_30 (by decide) ?_
      refine pv_sub [2, 3, 1, 0] rfl ?_
      exact hrec3 _ _ h
def x4_be (s : Rec) (e1 : Rec) : Option Rec := LT (sB s 0 (va_cpy (gA e1 0) (gA s 0) 0 0 6)) (fun s1 => LT (sB s1 1 (va_cpy (gA e1 1) (gA s1 1) 0 0 6)) (fun s2 => LT (sB s2 2 (va_cpy (gA e1 2) (gA s2 2) 0 0 12)) (fun s3 => LT (sB s3 3 (va_cpy (gA e1 3) (gA s3 3) 0 0 12)) (fun s4 => LT (sB s4 4 (va_cpy (gA e1 4) (gA s4 4) 0 0 12)) (fun s5 => LT (sB s5 5 (va_cpy (gA e1 5) (gA s5 5) 0 0 12)) (fun s6 => LT (sB s6 6 (va_cpy (gA e1 6) (gA s6 6) 0 0 72)) (fun s7 => LT (sI s7 7 (gI e1 7)) (fun s8 => LT (sI s8 8 (gI e1 8)) (fun s9 => some s9)))))))))
set_option maxHeartbeats 4000000 in
theorem x4_be_ok {l : Launch} {g : Gh} {G : Wd} (hX4 : OKX4 g) {a : Nat} {s : Rec} (hGt : G.2 a = some (3, s)) {b1 : Nat} {e1 : Rec} (hGp1 : G.2 b1 = some (3, e1)) (hne : b1 ≠ a) {s' : Rec} (hf : x4_be s e1 = some s') : MT l g yX4_be cX4_be 2 none 2 G [.ref a, .ref b1] none (wp G a 3 s') := by
  refine pv_start (by decide) (Nat.le_of_ble_eq_true rfl) ?_
  intro X hl hg hN hc hr _ _ _ hQ
  subst hl; subst hg
  have hn : ([b1, a] : List Nat).Nodup := nd2 hne
  have hro := ((wz_c hGp1 wz_n) : ∀ u ∈ ([(b1, 3, e1)] : List (Nat × Nat × Rec)), G.2 u.1 = some u.2)
  refine pv_G (wz_id (us := [(b1, 3, e1), (a, 3, s)]) (wz_c hGp1 (wz_c hGt wz_n))) ?_
  have h := hf
  unfold x4_be at h
  show V X 0 0 _ [(0, .ref a), (1, .ref b1)] [] 0
  refine pv_aload_n 1 hc dX4_be_0 rfl rfl ?_
  refine gf_X4_9 hc hX4 (wz_at hn rfl 0 rfl) dX4_be_1 ?_
  refine pv_iconst (0 : Int32) hc dX4_be_4 rfl ?_
  refine pv_aload_n 0 hc dX4_be_5 rfl rfl ?_
  refine gf_X4_9 hc hX4 (wz_at hn rfl 1 rfl) dX4_be_6 ?_
  refine pv_iconst (0 : Int32) hc dX4_be_9 rfl ?_
  refine pv_bipush (6 : Int32) hc dX4_be_10 rfl ?_
  obtain ⟨s1, hs1, h⟩ := LT_el h
  refine cp_X4_0 (G1 := (wz G [(b1, 3, e1), (a, 3, s1)])) hc hX4 q473 q475 q474 q118 (wz_at hn rfl 0 rfl) (c_X4_0 hX4) (wz_at hn rfl 1 rfl) (by decide) (by decide) (by decide) (by decide) (by decide) (by decide) (Nat.le_of_ble_eq_true rfl) hs1 (wz_set hn rfl 1 rfl rfl) dX4_be_12 ?_
  refine pv_aload_n 1 hc dX4_be_15 rfl rfl ?_
  refine gf_X4_15 hc hX4 (wz_at hn rfl 0 rfl) dX4_be_16 ?_
  refine pv_iconst (0 : Int32) hc dX4_be_19 rfl ?_
  refine pv_aload_n 0 hc dX4_be_20 rfl rfl ?_
  refine gf_X4_15 hc hX4 (wz_at hn rfl 1 rfl) dX4_be_21 ?_
  refine pv_iconst (0 : Int32) hc dX4_be_24 rfl ?_
  refine pv_bipush (6 : Int32) hc dX4_be_25 rfl ?_
  obtain ⟨s2, hs2, h⟩ := LT_el h
  refine cp_X4_1 (G1 := (wz G [(b1, 3, e1), (a, 3, s2)])) hc hX4 q473 q475 q474 q118 (wz_at hn rfl 0 rfl) (c_X4_1 hX4) (wz_at hn rfl 1 rfl) (by decide) (by decide) (by decide) (by decide) (by decide) (by decide) (Nat.le_of_ble_eq_true rfl) hs2 (wz_set hn rfl 1 rfl rfl) dX4_be_27 ?_
  refine pv_aload_n 1 hc dX4_be_30 rfl rfl ?_
  refine gf_X4_18 hc hX4 (wz_at hn rfl 0 rfl) dX4_be_31 ?_
  refine pv_iconst (0 : Int32) hc dX4_be_34 rfl ?_
  refine pv_aload_n 0 hc dX4_be_35 rfl rfl ?_
  refine gf_X4_18 hc hX4 (wz_at hn rfl 1 rfl) dX4_be_36 ?_
  refine pv_iconst (0 : Int32) hc dX4_be_39 rfl ?_
  refine pv_bipush (12 : Int32) hc dX4_be_40 rfl ?_
  obtain ⟨s3, hs3, h⟩ := LT_el h
  refine cp_X4_2 (G1 := (wz G [(b1, 3, e1), (a, 3, s3)])) hc hX4 q473 q475 q474 q118 (wz_at hn rfl 0 rfl) (c_X4_2 hX4) (wz_at hn rfl 1 rfl) (by decide) (by decide) (by decide) (by decide) (by decide) (by decide) (Nat.le_of_ble_eq_true rfl) hs3 (wz_set hn rfl 1 rfl rfl) dX4_be_42 ?_
  refine pv_aload_n 1 hc dX4_be_45 rfl rfl ?_
  refine gf_X4_21 hc hX4 (wz_at hn rfl 0 rfl) dX4_be_46 ?_
  refine pv_iconst (0 : Int32) hc dX4_be_49 rfl ?_
  refine pv_aload_n 0 hc dX4_be_50 rfl rfl ?_
  refine gf_X4_21 hc hX4 (wz_at hn rfl 1 rfl) dX4_be_51 ?_
  refine pv_iconst (0 : Int32) hc dX4_be_54 rfl ?_
  refine pv_bipush (12 : Int32) hc dX4_be_55 rfl ?_
  obtain ⟨s4, hs4, h⟩ := LT_el h
  refine cp_X4_3 (G1 := (wz G [(b1, 3, e1), (a, 3, s4)])) hc hX4 q473 q475 q474 q118 (wz_at hn rfl 0 rfl) (c_X4_3 hX4) (wz_at hn rfl 1 rfl) (by decide) (by decide) (by decide) (by decide) (by decide) (by decide) (Nat.le_of_ble_eq_true rfl) hs4 (wz_set hn rfl 1 rfl rfl) dX4_be_57 ?_
  refine pv_aload_n 1 hc dX4_be_60 rfl rfl ?_
  refine gf_X4_24 hc hX4 (wz_at hn rfl 0 rfl) dX4_be_61 ?_
  refine pv_iconst (0 : Int32) hc dX4_be_64 rfl ?_
  refine pv_aload_n 0 hc dX4_be_65 rfl rfl ?_
  refine gf_X4_24 hc hX4 (wz_at hn rfl 1 rfl) dX4_be_66 ?_
  refine pv_iconst (0 : Int32) hc dX4_be_69 rfl ?_
  refine pv_bipush (12 : Int32) hc dX4_be_70 rfl ?_
  obtain ⟨s5, hs5, h⟩ := LT_el h
  refine cp_X4_4 (G1 := (wz G [(b1, 3, e1), (a, 3, s5)])) hc hX4 q473 q475 q474 q118 (wz_at hn rfl 0 rfl) (c_X4_4 hX4) (wz_at hn rfl 1 rfl) (by decide) (by decide) (by decide) (by decide) (by decide) (by decide) (Nat.le_of_ble_eq_true rfl) hs5 (wz_set hn rfl 1 rfl rfl) dX4_be_72 ?_
  refine pv_aload_n 1 hc dX4_be_75 rfl rfl ?_
  refine gf_X4_27 hc hX4 (wz_at hn rfl 0 rfl) dX4_be_76 ?_
  refine pv_iconst (0 : Int32) hc dX4_be_79 rfl ?_
  refine pv_aload_n 0 hc dX4_be_80 rfl rfl ?_
  refine gf_X4_27 hc hX4 (wz_at hn rfl 1 rfl) dX4_be_81 ?_
  refine pv_iconst (0 : Int32) hc dX4_be_84 rfl ?_
  refine pv_bipush (12 : Int32) hc dX4_be_85 rfl ?_
  obtain ⟨s6, hs6, h⟩ := LT_el h
  refine cp_X4_5 (G1 := (wz G [(b1, 3, e1), (a, 3, s6)])) hc hX4 q473 q475 q474 q118 (wz_at hn rfl 0 rfl) (c_X4_5 hX4) (wz_at hn rfl 1 rfl) (by decide) (by decide) (by decide) (by decide) (by decide) (by decide) (Nat.le_of_ble_eq_true rfl) hs6 (wz_set hn rfl 1 rfl rfl) dX4_be_87 ?_
  refine pv_aload_n 1 hc dX4_be_90 rfl rfl ?_
  refine gf_X4_30 hc hX4 (wz_at hn rfl 0 rfl) dX4_be_91 ?_
  refine pv_iconst (0 : Int32) hc dX4_be_94 rfl ?_
  refine pv_aload_n 0 hc dX4_be_95 rfl rfl ?_
  refine gf_X4_30 hc hX4 (wz_at hn rfl 1 rfl) dX4_be_96 ?_
  refine pv_iconst (0 : Int32) hc dX4_be_99 rfl ?_
  refine pv_aload_n 0 hc dX4_be_100 rfl rfl ?_
  refine gf_X4_30 hc hX4 (wz_at hn rfl 1 rfl) dX4_be_101 ?_
  refine pv_alen hc (wz_at hn rfl 1 rfl) (c_X4_6 hX4) hX4.2.2.1 dX4_be_104 ?_
  obtain ⟨s7, hs7, h⟩ := LT_el h
  refine cp_X4_6 (G1 := (wz G [(b1, 3, e1), (a, 3, s7)])) hc hX4 q473 q475 q474 q118 (wz_at hn rfl 0 rfl) (c_X4_6 hX4) (wz_at hn rfl 1 rfl) (by decide) (by decide) (by decide) (by decide) (by decide) (by decide) (Nat.le_of_ble_eq_true rfl) hs7 (wz_set hn rfl 1 rfl rfl) dX4_be_105 ?_
  refine pv_aload_n 0 hc dX4_be_108 rfl rfl ?_
  refine pv_aload_n 1 hc dX4_be_109 rfl rfl ?_
  refine gf_X4_39 hc hX4 (wz_at hn rfl 0 rfl) dX4_be_110 ?_
  obtain ⟨s8, hs8, h⟩ := LT_el h
  refine pf_X4_39 (G1 := (wz G [(b1, 3, e1), (a, 3, s8)])) hc hX4 (wz_at hn rfl 1 rfl) hs8 (wz_set hn rfl 1 rfl rfl) dX4_be_113 ?_
  refine pv_aload_n 0 hc dX4_be_116 rfl rfl ?_
  refine pv_aload_n 1 hc dX4_be_117 rfl rfl ?_
  refine gf_X4_43 hc hX4 (wz_at hn rfl 0 rfl) dX4_be_118 ?_
  obtain ⟨s9, hs9, h⟩ := LT_el h
  refine pf_X4_43 (G1 := (wz G [(b1, 3, e1), (a, 3, s9)])) hc hX4 (wz_at hn rfl 1 rfl) hs9 (wz_set hn rfl 1 rfl rfl) dX4_be_121 ?_
  exact pv_vret hc hr hQ rfl (fin_w1 (ro := [(b1, 3, e1)]) hro h) dX4_be_124
def x4_whyDo (s : Rec) : Option Int32 := (if (gI s 8) = (12 : Int32) then some (1 : Int32) else some (0 : Int32))
set_option maxHeartbeats 4000000 in
theorem x4_whyDo_ok {l : Launch} {g : Gh} {G : Wd} (hX4 : OKX4 g) {a : Nat} {s : Rec} (hGt : G.2 a = some (3, s)) {r : Int32} (hf : x4_whyDo s = some r) : MT l g yX4_whyDo cX4_whyDo 1 (some .int) 1 G [.ref a] (some (.int r)) G := by
  refine pv_start (by decide) (Nat.le_of_ble_eq_true rfl) ?_
  intro X hl hg hN hc hr _ _ _ hQ
  subst hl; subst hg
  have hn : ([a] : List Nat).Nodup := nd1 
  have hro := ((wz_c hGt wz_n) : ∀ u ∈ ([(a, 3, s)] : List (Nat × Nat × Rec)), G.2 u.1 = some u.2)
  refine pv_G (wz_id (us := [(a, 3, s)]) (wz_c hGt wz_n)) ?_
  have h := hf
  unfold x4_whyDo at h
  show V X 0 0 _ [(0, .ref a)] [] 0
  refine pv_aload_n 0 hc dX4_whyDo_0 rfl rfl ?_
  refine gf_X4_43 hc hX4 (wz_at hn rfl 0 rfl) dX4_whyDo_1 ?_
  refine pv_bipush (12 : Int32) hc dX4_whyDo_4 rfl ?_
  refine pv_icmp_ne (tgt := 13) hc dX4_whyDo_6 (by decide) h (fun h => ?_) (fun h => ?_)
  · refine pv_iconst (0 : Int32) hc dX4_whyDo_13 rfl ?_
    exact pv_iret hc hr hQ (e_i1 h) (wz_id hro).symm dX4_whyDo_14
  · refine pv_iconst (1 : Int32) hc dX4_whyDo_9 rfl ?_
    refine pv_goto (tgt := 14) hc dX4_whyDo_10 (by decide) ?_
    exact pv_iret hc hr hQ (e_i1 h) (wz_id hro).symm dX4_whyDo_14
def x4_next (s : Rec) (e1 : Rec) (x2 : Int32) : Option Int32 := LP2 (fun (rec3 : Int32 → Int32 → Option Int32) (v1 : Int32) (v2 : Int32) => (if (gI s 8) ≤ v2 then IX x2 6 (fun i4 => some (v1 + (gA e1 6 i4))) else BD (x4_comes s x2 v2) (fun v6 => rec3 (if v1 < v6 then v6 else v1) (v2 + (1 : Int32))))) FU (gI s 7) (0 : Int32)
set_option maxHeartbeats 4000000 in
theorem x4_next_ok {l : Launch} {g : Gh} {G : Wd} (hX3 : OKX3 g) (hX4 : OKX4 g) {a : Nat} {s : Rec} (hGt : G.2 a = some (3, s)) {b1 : Nat} {e1 : Rec} (hGp1 : G.2 b1 = some (2, e1)) {x2 : Int32} {r : Int32} (hf : x4_next s e1 x2 = some r) : MT l g yX4_next cX4_next 5 (some .int) 2 G [.ref a, .ref b1, .int x2] (some (.int r)) G := by
  refine pv_start (by decide) (Nat.le_of_ble_eq_true rfl) ?_
  intro X hl hg hN hc hr _ _ _ hQ
  subst hl; subst hg
  have hn : ([a, b1] : List Nat).Nodup := nd2 (kd_ne hGt hGp1 (by decide))
  have hro := ((wz_c hGt (wz_c hGp1 wz_n)) : ∀ u ∈ ([(a, 3, s), (b1, 2, e1)] : List (Nat × Nat × Rec)), G.2 u.1 = some u.2)
  refine pv_G (wz_id (us := [(a, 3, s), (b1, 2, e1)]) (wz_c hGt (wz_c hGp1 wz_n))) ?_
  have h := hf
  unfold x4_next at h
  show V X 0 0 _ [(0, .ref a), (1, .ref b1), (2, .int x2)] [] 0
  refine pv_aload_n 0 hc dX4_next_0 rfl rfl ?_
  refine gf_X4_39 hc hX4 (wz_at hn rfl 0 rfl) dX4_next_1 ?_
  refine pv_istore_n (L' := [(3, .int (gI s 7)), (0, .ref a), (1, .ref b1), (2, .int x2)]) hc dX4_next_4 rfl hN (by decide) rfl ?_
  refine pv_iconst (0 : Int32) hc dX4_next_5 rfl ?_
  refine pv_istore (L' := [(4, .int (0 : Int32)), (3, .int (gI s 7)), (0, .ref a), (1, .ref b1), (2, .int x2)]) hc dX4_next_6 hN (by decide) rfl ?_
  refine pv_sub [2, 3, 4, 1, 0] rfl ?_
  refine LP2_el (P := fun v1 v2 => V X 0 0 (wz G [(a, 3, s), (b1, 2, e1)]) [(0, .ref a), (1, .ref b1), (2, .int x2), (3, .int v1), (4, .int v2)] [] 8) ?_ FU _ _ h
  intro rec3 hrec3 v1 v2 h
  refine pv_iload 4 hc dX4_next_8 rfl ?_
  refine pv_aload_n 0 hc dX4_next_10 rfl rfl ?_
  refine gf_X4_43 hc hX4 (wz_at hn rfl 0 rfl) dX4_next_11 ?_
  refine pv_icmp_ge (tgt := 35) hc dX4_next_14 (by decide) h (fun h => ?_) (fun h => ?_)
  · refine pv_iload_n 3 hc dX4_next_35 rfl rfl ?_
    refine pv_aload_n 1 hc dX4_next_36 rfl rfl ?_
    refine gf_X4_84 hc hX3 (wz_at hn rfl 1 rfl) dX4_next_37 ?_
    refine pv_iload_n 2 hc dX4_next_40 rfl rfl ?_
    obtain ⟨i4, hi4, h⟩ := IX_el h
    refine al_X3_6 hc hX3 (wz_at hn rfl 1 rfl) hi4 dX4_next_41 ?_
    refine pv_iadd hc dX4_next_42 ?_
    exact pv_iret hc hr hQ (e_i1 h) (wz_id hro).symm dX4_next_43
  · refine pv_iload_n 3 hc dX4_next_17 rfl rfl ?_
    refine pv_aload_n 0 hc dX4_next_18 rfl rfl ?_
    refine pv_iload_n 2 hc dX4_next_19 rfl rfl ?_
    refine pv_iload 4 hc dX4_next_20 rfl ?_
    obtain ⟨v6, hf5, h⟩ := BD_el h
    refine ca_X4_76 hc hX4 (wz_at hn rfl 0 rfl) (x4_comes_ok hX4 (wz_at hn rfl 0 rfl) hf5) (by decide) (Nat.le_of_ble_eq_true rfl) dX4_next_22 ?_
    refine pv_mmax hc q950 q951 q130 q952 rfl (by decide) (Nat.le_of_ble_eq_true rfl) dX4_next_25 ?_
    refine pv_istore_n (L' := [(3, .int (if v1 < v6 then v6 else v1)), (0, .ref a), (1, .ref b1), (2, .int x2), (4, .int v2)]) hc dX4_next_28 rfl hN (by decide) rfl ?_
    refine pv_iinc (L' := [(4, .int (v2 + (1 : Int32))), (3, .int (if v1 < v6 then v6 else v1)), (0, .ref a), (1, .ref b1), (2, .int x2)]) 4 (v2 + (1 : Int32)) hc dX4_next_29 rfl rfl hN (by decide) rfl ?_
    refine pv_goto (tgt := 8) hc dX4_next_32 (by decide) ?_
    refine pv_sub [2, 3, 4, 1, 0] rfl ?_
    exact hrec3 _ _ h
def x4_does (s : Rec) (e1 : Rec) (x2 : Int32) (x3 : Int32) (x4 : Int32) : Option Rec := IX (gI s 8) 12 (fun i1 => LT (sA s 2 i1 x2) (fun s2 => IX (gI s2 8) 12 (fun i3 => LT (sA s2 3 i3 x3) (fun s4 => IX (gI s4 8) 12 (fun i5 => LT (sA s4 4 i5 x4) (fun s6 => IX (gI s6 8) 12 (fun i7 => LT (sA s6 5 i7 (gI s6 7)) (fun s8 => LP2 (fun (rec11 : Int32 → Rec → Option Rec) (v9 : Int32) (s10 : Rec) => (if (gI e1 8) ≤ v9 then LT (sI s10 8 ((gI s10 8) + (1 : Int32))) (fun s12 => some s12) else BD (x4_sees s10 e1 v9) (fun v14 => BD (x1_has v14 x4) (fun v16 => (if v16 = 0 then rec11 (v9 + (1 : Int32)) s10 else BD (x4_next s10 e1 v9) (fun v18 => IX (((12 : Int32) * v9) + (gI s10 8)) 72 (fun i19 => LT (sA s10 6 i19 v18) (fun s20 => rec11 (v9 + (1 : Int32)) s20)))))))) FU (0 : Int32) s8))))))))
set_option maxHeartbeats 4000000 in
theorem x4_does_ok {l : Launch} {g : Gh} {G : Wd} (hX3 : OKX3 g) (hX4 : OKX4 g) {a : Nat} {s : Rec} (hGt : G.2 a = some (3, s)) {b1 : Nat} {e1 : Rec} (hGp1 : G.2 b1 = some (2, e1)) {x2 : Int32} {x3 : Int32} {x4 : Int32} {s' : Rec} (hf : x4_does s e1 x2 x3 x4 = some s') : MT l g yX4_does cX4_does 6 none 4 G [.ref a, .ref b1, .int x2, .int x3, .int x4] none (wp G a 3 s') := by
  refine pv_start (by decide) (Nat.le_of_ble_eq_true rfl) ?_
  intro X hl hg hN hc hr _ _ _ hQ
  subst hl; subst hg
  have hn : ([b1, a] : List Nat).Nodup := nd2 (kd_ne hGp1 hGt (by decide))
  have hro := ((wz_c hGp1 wz_n) : ∀ u ∈ ([(b1, 2, e1)] : List (Nat × Nat × Rec)), G.2 u.1 = some u.2)
  refine pv_G (wz_id (us := [(b1, 2, e1), (a, 3, s)]) (wz_c hGp1 (wz_c hGt wz_n))) ?_
  have h := hf
  unfold x4_does at h
  show V X 0 0 _ [(0, .ref a), (1, .ref b1), (2, .int x2), (3, .int x3), (4, .int x4)] [] 0
  refine pv_aload_n 0 hc dX4_does_0 rfl rfl ?_
  refine gf_X4_18 hc hX4 (wz_at hn rfl 1 rfl) dX4_does_1 ?_
  refine pv_aload_n 0 hc dX4_does_4 rfl rfl ?_
  refine gf_X4_43 hc hX4 (wz_at hn rfl 1 rfl) dX4_does_5 ?_
  refine pv_iload_n 2 hc dX4_does_8 rfl rfl ?_
  obtain ⟨i1, hi1, h⟩ := IX_el h
  obtain ⟨s2, hs2, h⟩ := LT_el h
  refine as_X4_2 (G1 := (wz G [(b1, 2, e1), (a, 3, s2)])) hc hX4 (wz_at hn rfl 1 rfl) hi1 hs2 (wz_set hn rfl 1 rfl rfl) dX4_does_9 ?_
  refine pv_aload_n 0 hc dX4_does_10 rfl rfl ?_
  refine gf_X4_21 hc hX4 (wz_at hn rfl 1 rfl) dX4_does_11 ?_
  refine pv_aload_n 0 hc dX4_does_14 rfl rfl ?_
  refine gf_X4_43 hc hX4 (wz_at hn rfl 1 rfl) dX4_does_15 ?_
  refine pv_iload_n 3 hc dX4_does_18 rfl rfl ?_
  obtain ⟨i3, hi3, h⟩ := IX_el h
  obtain ⟨s4, hs4, h⟩ := LT_el h
  refine as_X4_3 (G1 := (wz G [(b1, 2, e1), (a, 3, s4)])) hc hX4 (wz_at hn rfl 1 rfl) hi3 hs4 (wz_set hn rfl 1 rfl rfl) dX4_does_19 ?_
  refine pv_aload_n 0 hc dX4_does_20 rfl rfl ?_
  refine gf_X4_24 hc hX4 (wz_at hn rfl 1 rfl) dX4_does_21 ?_
  refine pv_aload_n 0 hc dX4_does_24 rfl rfl ?_
  refine gf_X4_43 hc hX4 (wz_at hn rfl 1 rfl) dX4_does_25 ?_
  refine pv_iload 4 hc dX4_does_28 rfl ?_
  obtain ⟨i5, hi5, h⟩ := IX_el h
  obtain ⟨s6, hs6, h⟩ := LT_el h
  refine as_X4_4 (G1 := (wz G [(b1, 2, e1), (a, 3, s6)])) hc hX4 (wz_at hn rfl 1 rfl) hi5 hs6 (wz_set hn rfl 1 rfl rfl) dX4_does_30 ?_
  refine pv_aload_n 0 hc dX4_does_31 rfl rfl ?_
  refine gf_X4_27 hc hX4 (wz_at hn rfl 1 rfl) dX4_does_32 ?_
  refine pv_aload_n 0 hc dX4_does_35 rfl rfl ?_
  refine gf_X4_43 hc hX4 (wz_at hn rfl 1 rfl) dX4_does_36 ?_
  refine pv_aload_n 0 hc dX4_does_39 rfl rfl ?_
  refine gf_X4_39 hc hX4 (wz_at hn rfl 1 rfl) dX4_does_40 ?_
  obtain ⟨i7, hi7, h⟩ := IX_el h
  obtain ⟨s8, hs8, h⟩ := LT_el h
  refine as_X4_5 (G1 := (wz G [(b1, 2, e1), (a, 3, s8)])) hc hX4 (wz_at hn rfl 1 rfl) hi7 hs8 (wz_set hn rfl 1 rfl rfl) dX4_does_43 ?_
  refine pv_iconst (0 : Int32) hc dX4_does_44 rfl ?_
  refine pv_istore (L' := [(5, .int (0 : Int32)), (0, .ref a), (1, .ref b1), (2, .int x2), (3, .int x3), (4, .int x4)]) hc dX4_does_45 hN (by decide) rfl ?_
  refine pv_sub [1, 2, 5, 0] rfl ?_
  refine LP2_el (P := fun v9 s10 => V X 0 0 (wz G [(b1, 2, e1), (a, 3, s10)]) [(0, .ref a), (1, .ref b1), (4, .int x4), (5, .int v9)] [] 47) ?_ FU _ _ h
  intro rec11 hrec11 v9 s10 h
  refine pv_iload 3 hc dX4_does_47 rfl ?_
  refine pv_aload_n 1 hc dX4_does_49 rfl rfl ?_
  refine gf_X4_69 hc hX3 (wz_at hn rfl 0 rfl) dX4_does_50 ?_
  refine pv_icmp_ge (tgt := 99) hc dX4_does_53 (by decide) h (fun h => ?_) (fun h => ?_)
  · refine pv_aload_n 0 hc dX4_does_99 rfl rfl ?_
    refine pv_dup hc dX4_does_100 rfl ?_
    refine gf_X4_43 hc hX4 (wz_at hn rfl 1 rfl) dX4_does_101 ?_
    refine pv_iconst (1 : Int32) hc dX4_does_104 rfl ?_
    refine pv_iadd hc dX4_does_105 ?_
    obtain ⟨s12, hs12, h⟩ := LT_el h
    refine pf_X4_43 (G1 := (wz G [(b1, 2, e1), (a, 3, s12)])) hc hX4 (wz_at hn rfl 1 rfl) hs12 (wz_set hn rfl 1 rfl rfl) dX4_does_106 ?_
    exact pv_vret hc hr hQ rfl (fin_w1 (ro := [(b1, 2, e1)]) hro h) dX4_does_109
  · refine pv_aload_n 0 hc dX4_does_56 rfl rfl ?_
    refine pv_aload_n 1 hc dX4_does_57 rfl rfl ?_
    refine pv_iload 3 hc dX4_does_58 rfl ?_
    obtain ⟨v14, hf13, h⟩ := BD_el h
    refine ca_X4_72 hc hX4 (wz_at hn rfl 1 rfl) (x4_sees_ok hX3 hX4 (wz_at hn rfl 1 rfl) (wz_at hn rfl 0 rfl) hf13) (by decide) (Nat.le_of_ble_eq_true rfl) dX4_does_60 ?_
    refine pv_iload 2 hc dX4_does_63 rfl ?_
    obtain ⟨v16, hf15, h⟩ := BD_el h
    refine ca_X4_58 hc (x1_has_ok   hf15) (by decide) (Nat.le_of_ble_eq_true rfl) dX4_does_65 ?_
    refine pv_if_eq (tgt := 93) hc dX4_does_68 (by decide) h (fun h => ?_) (fun h => ?_)
    · refine pv_iinc (L' := [(5, .int (v9 + (1 : Int32))), (0, .ref a), (1, .ref b1), (4, .int x4)]) 3 (v9 + (1 : Int32)) hc dX4_does_93 rfl rfl hN (by decide) rfl ?_
      refine pv_goto (tgt := 47) hc dX4_does_96 (by decide) ?_
      refine pv_sub [1, 2, 3, 0] rfl ?_
      exact hrec11 _ _ h
    · refine pv_aload_n 0 hc dX4_does_71 rfl rfl ?_
      refine gf_X4_30 hc hX4 (wz_at hn rfl 1 rfl) dX4_does_72 ?_
      refine pv_bipush (12 : Int32) hc dX4_does_75 rfl ?_
      refine pv_iload 3 hc dX4_does_77 rfl ?_
      refine pv_imul hc dX4_does_79 ?_
      refine pv_aload_n 0 hc dX4_does_80 rfl rfl ?_
      refine gf_X4_43 hc hX4 (wz_at hn rfl 1 rfl) dX4_does_81 ?_
      refine pv_iadd hc dX4_does_84 ?_
      refine pv_aload_n 0 hc dX4_does_85 rfl rfl ?_
      refine pv_aload_n 1 hc dX4_does_86 rfl rfl ?_
      refine pv_iload 3 hc dX4_does_87 rfl ?_
      obtain ⟨v18, hf17, h⟩ := BD_el h
      refine ca_X4_106 hc hX4 (wz_at hn rfl 1 rfl) (x4_next_ok hX3 hX4 (wz_at hn rfl 1 rfl) (wz_at hn rfl 0 rfl) hf17) (by decide) (Nat.le_of_ble_eq_true rfl) dX4_does_89 ?_
      obtain ⟨i19, hi19, h⟩ := IX_el h
      obtain ⟨s20, hs20, h⟩ := LT_el h
      refine as_X4_6 (G1 := (wz G [(b1, 2, e1), (a, 3, s20)])) hc hX4 (wz_at hn rfl 1 rfl) hi19 hs20 (wz_set hn rfl 1 rfl rfl) dX4_does_92 ?_
      refine pv_iinc (L' := [(5, .int (v9 + (1 : Int32))), (0, .ref a), (1, .ref b1), (4, .int x4)]) 3 (v9 + (1 : Int32)) hc dX4_does_93 rfl rfl hN (by decide) rfl ?_
      refine pv_goto (tgt := 47) hc dX4_does_96 (by decide) ?_
      refine pv_sub [1, 2, 3, 0] rfl ?_
      exact hrec11 _ _ h
def x4_whySponge (s : Rec) (x1 : Int32) : Option Int32 := IX x1 6 (fun i1 => (if (gA s 1 i1) = 0 then some (1 : Int32) else some (0 : Int32)))
set_option maxHeartbeats 4000000 in
theorem x4_whySponge_ok {l : Launch} {g : Gh} {G : Wd} (hX4 : OKX4 g) {a : Nat} {s : Rec} (hGt : G.2 a = some (3, s)) {x1 : Int32} {r : Int32} (hf : x4_whySponge s x1 = some r) : MT l g yX4_whySponge cX4_whySponge 2 (some .int) 1 G [.ref a, .int x1] (some (.int r)) G := by
  refine pv_start (by decide) (Nat.le_of_ble_eq_true rfl) ?_
  intro X hl hg hN hc hr _ _ _ hQ
  subst hl; subst hg
  have hn : ([a] : List Nat).Nodup := nd1 
  have hro := ((wz_c hGt wz_n) : ∀ u ∈ ([(a, 3, s)] : List (Nat × Nat × Rec)), G.2 u.1 = some u.2)
  refine pv_G (wz_id (us := [(a, 3, s)]) (wz_c hGt wz_n)) ?_
  have h := hf
  unfold x4_whySponge at h
  show V X 0 0 _ [(0, .ref a), (1, .int x1)] [] 0
  refine pv_aload_n 0 hc dX4_whySponge_0 rfl rfl ?_
  refine gf_X4_15 hc hX4 (wz_at hn rfl 0 rfl) dX4_whySponge_1 ?_
  refine pv_iload_n 1 hc dX4_whySponge_4 rfl rfl ?_
  obtain ⟨i1, hi1, h⟩ := IX_el h
  refine al_X4_1 hc hX4 (wz_at hn rfl 0 rfl) hi1 dX4_whySponge_5 ?_
  refine pv_if_ne (tgt := 13) hc dX4_whySponge_6 (by decide) h (fun h => ?_) (fun h => ?_)
  · refine pv_iconst (0 : Int32) hc dX4_whySponge_13 rfl ?_
    exact pv_iret hc hr hQ (e_i1 h) (wz_id hro).symm dX4_whySponge_14
  · refine pv_iconst (1 : Int32) hc dX4_whySponge_9 rfl ?_
    refine pv_goto (tgt := 14) hc dX4_whySponge_10 (by decide) ?_
    exact pv_iret hc hr hQ (e_i1 h) (wz_id hro).symm dX4_whySponge_14
def x4_whyCarry (s : Rec) (x1 : Int32) (x2 : Int32) : Option Int32 := IX x1 6 (fun i1 => (if (gA s 0 i1) = x2 then some (1 : Int32) else some (0 : Int32)))
set_option maxHeartbeats 4000000 in
theorem x4_whyCarry_ok {l : Launch} {g : Gh} {G : Wd} (hX4 : OKX4 g) {a : Nat} {s : Rec} (hGt : G.2 a = some (3, s)) {x1 : Int32} {x2 : Int32} {r : Int32} (hf : x4_whyCarry s x1 x2 = some r) : MT l g yX4_whyCarry cX4_whyCarry 3 (some .int) 1 G [.ref a, .int x1, .int x2] (some (.int r)) G := by
  refine pv_start (by decide) (Nat.le_of_ble_eq_true rfl) ?_
  intro X hl hg hN hc hr _ _ _ hQ
  subst hl; subst hg
  have hn : ([a] : List Nat).Nodup := nd1 
  have hro := ((wz_c hGt wz_n) : ∀ u ∈ ([(a, 3, s)] : List (Nat × Nat × Rec)), G.2 u.1 = some u.2)
  refine pv_G (wz_id (us := [(a, 3, s)]) (wz_c hGt wz_n)) ?_
  have h := hf
  unfold x4_whyCarry at h
  show V X 0 0 _ [(0, .ref a), (1, .int x1), (2, .int x2)] [] 0
  refine pv_aload_n 0 hc dX4_whyCarry_0 rfl rfl ?_
  refine gf_X4_9 hc hX4 (wz_at hn rfl 0 rfl) dX4_whyCarry_1 ?_
  refine pv_iload_n 1 hc dX4_whyCarry_4 rfl rfl ?_
  obtain ⟨i1, hi1, h⟩ := IX_el h
  refine al_X4_0 hc hX4 (wz_at hn rfl 0 rfl) hi1 dX4_whyCarry_5 ?_
  refine pv_iload_n 2 hc dX4_whyCarry_6 rfl rfl ?_
  refine pv_icmp_ne (tgt := 14) hc dX4_whyCarry_7 (by decide) h (fun h => ?_) (fun h => ?_)
  · refine pv_iconst (0 : Int32) hc dX4_whyCarry_14 rfl ?_
    exact pv_iret hc hr hQ (e_i1 h) (wz_id hro).symm dX4_whyCarry_15
  · refine pv_iconst (1 : Int32) hc dX4_whyCarry_10 rfl ?_
    refine pv_goto (tgt := 15) hc dX4_whyCarry_11 (by decide) ?_
    exact pv_iret hc hr hQ (e_i1 h) (wz_id hro).symm dX4_whyCarry_15
def x4_goOn (s : Rec) (e1 : Rec) : Option Rec := LP2 (fun (rec3 : Int32 → Rec → Option Rec) (v1 : Int32) (s2 : Rec) => (if (gI e1 8) ≤ v1 then LT (sI s2 7 ((gI s2 7) + (1 : Int32))) (fun s4 => some s4) else IX v1 6 (fun i5 => LT (sA s2 1 i5 (if ((gA s2 1 i5) + (1 : Int32)) < (99 : Int32) then ((gA s2 1 i5) + (1 : Int32)) else (99 : Int32))) (fun s6 => rec3 (v1 + (1 : Int32)) s6)))) FU (0 : Int32) s
set_option maxHeartbeats 4000000 in
theorem x4_goOn_ok {l : Launch} {g : Gh} {G : Wd} (hX3 : OKX3 g) (hX4 : OKX4 g) {a : Nat} {s : Rec} (hGt : G.2 a = some (3, s)) {b1 : Nat} {e1 : Rec} (hGp1 : G.2 b1 = some (2, e1)) {s' : Rec} (hf : x4_goOn s e1 = some s') : MT l g yX4_goOn cX4_goOn 3 none 2 G [.ref a, .ref b1] none (wp G a 3 s') := by
  refine pv_start (by decide) (Nat.le_of_ble_eq_true rfl) ?_
  intro X hl hg hN hc hr _ _ _ hQ
  subst hl; subst hg
  have hn : ([b1, a] : List Nat).Nodup := nd2 (kd_ne hGp1 hGt (by decide))
  have hro := ((wz_c hGp1 wz_n) : ∀ u ∈ ([(b1, 2, e1)] : List (Nat × Nat × Rec)), G.2 u.1 = some u.2)
  refine pv_G (wz_id (us := [(b1, 2, e1), (a, 3, s)]) (wz_c hGp1 (wz_c hGt wz_n))) ?_
  have h := hf
  unfold x4_goOn at h
  show V X 0 0 _ [(0, .ref a), (1, .ref b1)] [] 0
  refine pv_iconst (0 : Int32) hc dX4_goOn_0 rfl ?_
  refine pv_istore_n (L' := [(2, .int (0 : Int32)), (0, .ref a), (1, .ref b1)]) hc dX4_goOn_1 rfl hN (by decide) rfl ?_
  refine pv_sub [1, 2, 0] rfl ?_
  refine LP2_el (P := fun v1 s2 => V X 0 0 (wz G [(b1, 2, e1), (a, 3, s2)]) [(0, .ref a), (1, .ref b1), (2, .int v1)] [] 2) ?_ FU _ _ h
  intro rec3 hrec3 v1 s2 h
  refine pv_iload_n 2 hc dX4_goOn_2 rfl rfl ?_
  refine pv_aload_n 1 hc dX4_goOn_3 rfl rfl ?_
  refine gf_X4_69 hc hX3 (wz_at hn rfl 0 rfl) dX4_goOn_4 ?_
  refine pv_icmp_ge (tgt := 35) hc dX4_goOn_7 (by decide) h (fun h => ?_) (fun h => ?_)
  · refine pv_aload_n 0 hc dX4_goOn_35 rfl rfl ?_
    refine pv_dup hc dX4_goOn_36 rfl ?_
    refine gf_X4_39 hc hX4 (wz_at hn rfl 1 rfl) dX4_goOn_37 ?_
    refine pv_iconst (1 : Int32) hc dX4_goOn_40 rfl ?_
    refine pv_iadd hc dX4_goOn_41 ?_
    obtain ⟨s4, hs4, h⟩ := LT_el h
    refine pf_X4_39 (G1 := (wz G [(b1, 2, e1), (a, 3, s4)])) hc hX4 (wz_at hn rfl 1 rfl) hs4 (wz_set hn rfl 1 rfl rfl) dX4_goOn_42 ?_
    exact pv_vret hc hr hQ rfl (fin_w1 (ro := [(b1, 2, e1)]) hro h) dX4_goOn_45
  · refine pv_aload_n 0 hc dX4_goOn_10 rfl rfl ?_
    refine gf_X4_15 hc hX4 (wz_at hn rfl 1 rfl) dX4_goOn_11 ?_
    refine pv_iload_n 2 hc dX4_goOn_14 rfl rfl ?_
    refine pv_bipush (99 : Int32) hc dX4_goOn_15 rfl ?_
    refine pv_aload_n 0 hc dX4_goOn_17 rfl rfl ?_
    refine gf_X4_15 hc hX4 (wz_at hn rfl 1 rfl) dX4_goOn_18 ?_
    refine pv_iload_n 2 hc dX4_goOn_21 rfl rfl ?_
    obtain ⟨i5, hi5, h⟩ := IX_el h
    refine al_X4_1 hc hX4 (wz_at hn rfl 1 rfl) hi5 dX4_goOn_22 ?_
    refine pv_iconst (1 : Int32) hc dX4_goOn_23 rfl ?_
    refine pv_iadd hc dX4_goOn_24 ?_
    refine pv_mmin hc q981 q982 q130 q983 rfl (by decide) (Nat.le_of_ble_eq_true rfl) dX4_goOn_25 ?_
    obtain ⟨s6, hs6, h⟩ := LT_el h
    refine as_X4_1 (G1 := (wz G [(b1, 2, e1), (a, 3, s6)])) hc hX4 (wz_at hn rfl 1 rfl) hi5 hs6 (wz_set hn rfl 1 rfl rfl) dX4_goOn_28 ?_
    refine pv_iinc (L' := [(2, .int (v1 + (1 : Int32))), (0, .ref a), (1, .ref b1)]) 2 (v1 + (1 : Int32)) hc dX4_goOn_29 rfl rfl hN (by decide) rfl ?_
    refine pv_goto (tgt := 2) hc dX4_goOn_32 (by decide) ?_
    refine pv_sub [1, 2, 0] rfl ?_
    exact hrec3 _ _ h
def x4_days (s : Rec) (e1 : Rec) (x2 : Int32) : Option (Int32 × Rec) := LP2 (fun (rec3 : Int32 → Rec → Option (Int32 × Rec)) (v1 : Int32) (s2 : Rec) => (if x2 ≤ v1 then some (v1, s2) else (if (400 : Int32) ≤ (gI s2 7) then some (v1, s2) else BD (x4_goOn s2 e1) (fun s5 => rec3 (v1 + (1 : Int32)) s5)))) FU (0 : Int32) s
set_option maxHeartbeats 4000000 in
theorem x4_days_ok {l : Launch} {g : Gh} {G : Wd} (hX3 : OKX3 g) (hX4 : OKX4 g) {a : Nat} {s : Rec} (hGt : G.2 a = some (3, s)) {b1 : Nat} {e1 : Rec} (hGp1 : G.2 b1 = some (2, e1)) {x2 : Int32} {r : Int32} {s' : Rec} (hf : x4_days s e1 x2 = some (r, s')) : MT l g yX4_days cX4_days 4 (some .int) 3 G [.ref a, .ref b1, .int x2] (some (.int r)) (wp G a 3 s') := by
  refine pv_start (by decide) (Nat.le_of_ble_eq_true rfl) ?_
  intro X hl hg hN hc hr _ _ _ hQ
  subst hl; subst hg
  have hn : ([b1, a] : List Nat).Nodup := nd2 (kd_ne hGp1 hGt (by decide))
  have hro := ((wz_c hGp1 wz_n) : ∀ u ∈ ([(b1, 2, e1)] : List (Nat × Nat × Rec)), G.2 u.1 = some u.2)
  refine pv_G (wz_id (us := [(b1, 2, e1), (a, 3, s)]) (wz_c hGp1 (wz_c hGt wz_n))) ?_
  have h := hf
  unfold x4_days at h
  show V X 0 0 _ [(0, .ref a), (1, .ref b1), (2, .int x2)] [] 0
  refine pv_iconst (0 : Int32) hc dX4_days_0 rfl ?_
  refine pv_istore_n (L' := [(3, .int (0 : Int32)), (0, .ref a), (1, .ref b1), (2, .int x2)]) hc dX4_days_1 rfl hN (by decide) rfl ?_
  refine pv_sub [1, 2, 3, 0] rfl ?_
  refine LP2_el (P := fun v1 s2 => V X 0 0 (wz G [(b1, 2, e1), (a, 3, s2)]) [(0, .ref a), (1, .ref b1), (2, .int x2), (3, .int v1)] [] 2) ?_ FU _ _ h
  intro rec3 hrec3 v1 s2 h
  refine pv_iload_n 3 hc dX4_days_2 rfl rfl ?_
  refine pv_iload_n 2 hc dX4_days_3 rfl rfl ?_
  refine pv_icmp_ge (tgt := 28) hc dX4_days_4 (by decide) h (fun h => ?_) (fun h => ?_)
  · refine pv_iload_n 3 hc dX4_days_28 rfl rfl ?_
    exact pv_iret hc hr hQ (e_i2 h) (fin_w2 (ro := [(b1, 2, e1)]) hro h) dX4_days_29
  · refine pv_aload_n 0 hc dX4_days_7 rfl rfl ?_
    refine gf_X4_39 hc hX4 (wz_at hn rfl 1 rfl) dX4_days_8 ?_
    refine pv_sipush (400 : Int32) hc dX4_days_11 rfl ?_
    refine pv_icmp_ge (tgt := 28) hc dX4_days_14 (by decide) h (fun h => ?_) (fun h => ?_)
    · refine pv_iload_n 3 hc dX4_days_28 rfl rfl ?_
      exact pv_iret hc hr hQ (e_i2 h) (fin_w2 (ro := [(b1, 2, e1)]) hro h) dX4_days_29
    · refine pv_aload_n 0 hc dX4_days_17 rfl rfl ?_
      refine pv_aload_n 1 hc dX4_days_18 rfl rfl ?_
      obtain ⟨s5, hf4, h⟩ := BD_el h
      refine ca_X4_112 hc hX4 (wz_at hn rfl 1 rfl) (x4_goOn_ok hX3 hX4 (wz_at hn rfl 1 rfl) (wz_at hn rfl 0 rfl) hf4) (by decide) (Nat.le_of_ble_eq_true rfl) dX4_days_19 ?_
      refine pv_G (wz_set (us' := [(b1, 2, e1), (a, 3, s5)]) hn rfl 1 rfl rfl).symm ?_
      refine pv_iinc (L' := [(3, .int (v1 + (1 : Int32))), (0, .ref a), (1, .ref b1), (2, .int x2)]) 3 (v1 + (1 : Int32)) hc dX4_days_22 rfl rfl hN (by decide) rfl ?_
      refine pv_goto (tgt := 2) hc dX4_days_25 (by decide) ?_
      refine pv_sub [1, 2, 3, 0] rfl ?_
      exact hrec3 _ _ h
def x4_seers (s : Rec) (e1 : Rec) (x2 : Int32) : Option Int32 := LP2 (fun (rec3 : Int32 → Int32 → Option Int32) (v1 : Int32) (v2 : Int32) => (if (gI e1 8) ≤ v2 then some v1 else BD (x4_sees s e1 v2) (fun v5 => BD (x1_has v5 x2) (fun v7 => (if v7 = 0 then rec3 v1 (v2 + (1 : Int32)) else rec3 (v1 ||| ((1 : Int32) <<< (v2 &&& 31))) (v2 + (1 : Int32))))))) FU (0 : Int32) (0 : Int32)
set_option maxHeartbeats 4000000 in
theorem x4_seers_ok {l : Launch} {g : Gh} {G : Wd} (hX3 : OKX3 g) (hX4 : OKX4 g) {a : Nat} {s : Rec} (hGt : G.2 a = some (3, s)) {b1 : Nat} {e1 : Rec} (hGp1 : G.2 b1 = some (2, e1)) {x2 : Int32} {r : Int32} (hf : x4_seers s e1 x2 = some r) : MT l g yX4_seers cX4_seers 5 (some .int) 4 G [.ref a, .ref b1, .int x2] (some (.int r)) G := by
  refine pv_start (by decide) (Nat.le_of_ble_eq_true rfl) ?_
  intro X hl hg hN hc hr _ _ _ hQ
  subst hl; subst hg
  have hn : ([a, b1] : List Nat).Nodup := nd2 (kd_ne hGt hGp1 (by decide))
  have hro := ((wz_c hGt (wz_c hGp1 wz_n)) : ∀ u ∈ ([(a, 3, s), (b1, 2, e1)] : List (Nat × Nat × Rec)), G.2 u.1 = some u.2)
  refine pv_G (wz_id (us := [(a, 3, s), (b1, 2, e1)]) (wz_c hGt (wz_c hGp1 wz_n))) ?_
  have h := hf
  unfold x4_seers at h
  show V X 0 0 _ [(0, .ref a), (1, .ref b1), (2, .int x2)] [] 0
  refine pv_iconst (0 : Int32) hc dX4_seers_0 rfl ?_
  refine pv_istore_n (L' := [(3, .int (0 : Int32)), (0, .ref a), (1, .ref b1), (2, .int x2)]) hc dX4_seers_1 rfl hN (by decide) rfl ?_
  refine pv_iconst (0 : Int32) hc dX4_seers_2 rfl ?_
  refine pv_istore (L' := [(4, .int (0 : Int32)), (3, .int (0 : Int32)), (0, .ref a), (1, .ref b1), (2, .int x2)]) hc dX4_seers_3 hN (by decide) rfl ?_
  refine pv_sub [2, 3, 4, 1, 0] rfl ?_
  refine LP2_el (P := fun v1 v2 => V X 0 0 (wz G [(a, 3, s), (b1, 2, e1)]) [(0, .ref a), (1, .ref b1), (2, .int x2), (3, .int v1), (4, .int v2)] [] 5) ?_ FU _ _ h
  intro rec3 hrec3 v1 v2 h
  refine pv_iload 4 hc dX4_seers_5 rfl ?_
  refine pv_aload_n 1 hc dX4_seers_7 rfl rfl ?_
  refine gf_X4_69 hc hX3 (wz_at hn rfl 1 rfl) dX4_seers_8 ?_
  refine pv_icmp_ge (tgt := 41) hc dX4_seers_11 (by decide) h (fun h => ?_) (fun h => ?_)
  · refine pv_iload_n 3 hc dX4_seers_41 rfl rfl ?_
    exact pv_iret hc hr hQ (e_i1 h) (wz_id hro).symm dX4_seers_42
  · refine pv_aload_n 0 hc dX4_seers_14 rfl rfl ?_
    refine pv_aload_n 1 hc dX4_seers_15 rfl rfl ?_
    refine pv_iload 4 hc dX4_seers_16 rfl ?_
    obtain ⟨v5, hf4, h⟩ := BD_el h
    refine ca_X4_72 hc hX4 (wz_at hn rfl 0 rfl) (x4_sees_ok hX3 hX4 (wz_at hn rfl 0 rfl) (wz_at hn rfl 1 rfl) hf4) (by decide) (Nat.le_of_ble_eq_true rfl) dX4_seers_18 ?_
    refine pv_iload_n 2 hc dX4_seers_21 rfl rfl ?_
    obtain ⟨v7, hf6, h⟩ := BD_el h
    refine ca_X4_58 hc (x1_has_ok   hf6) (by decide) (Nat.le_of_ble_eq_true rfl) dX4_seers_22 ?_
    refine pv_if_eq (tgt := 35) hc dX4_seers_25 (by decide) h (fun h => ?_) (fun h => ?_)
    · refine pv_iinc (L' := [(4, .int (v2 + (1 : Int32))), (0, .ref a), (1, .ref b1), (2, .int x2), (3, .int v1)]) 4 (v2 + (1 : Int32)) hc dX4_seers_35 rfl rfl hN (by decide) rfl ?_
      refine pv_goto (tgt := 5) hc dX4_seers_38 (by decide) ?_
      refine pv_sub [1, 2, 3, 4, 0] rfl ?_
      exact hrec3 _ _ h
    · refine pv_iload_n 3 hc dX4_seers_28 rfl rfl ?_
      refine pv_iconst (1 : Int32) hc dX4_seers_29 rfl ?_
      refine pv_iload 4 hc dX4_seers_30 rfl ?_
      refine pv_ishl hc dX4_seers_32 ?_
      refine pv_ior hc dX4_seers_33 ?_
      refine pv_istore_n (L' := [(3, .int (v1 ||| ((1 : Int32) <<< (v2 &&& 31)))), (0, .ref a), (1, .ref b1), (2, .int x2), (4, .int v2)]) hc dX4_seers_34 rfl hN (by decide) rfl ?_
      refine pv_iinc (L' := [(4, .int (v2 + (1 : Int32))), (3, .int (v1 ||| ((1 : Int32) <<< (v2 &&& 31)))), (0, .ref a), (1, .ref b1), (2, .int x2)]) 4 (v2 + (1 : Int32)) hc dX4_seers_35 rfl rfl hN (by decide) rfl ?_
      refine pv_goto (tgt := 5) hc dX4_seers_38 (by decide) ?_
      refine pv_sub [2, 3, 4, 1, 0] rfl ?_
      exact hrec3 _ _ h
def x4_draw (s : Rec) (x1 : Int32) : Option (Int32 × Rec) := LT (sI s 9 (((gI s 9) * (1103515245 : Int32)) + (12345 : Int32))) (fun s1 => NZ x1 (some (((ushr (gI s1 9) (8 : Int32)) - (ushr (gI s1 9) (8 : Int32)) / x1 * x1), s1)))
set_option maxHeartbeats 4000000 in
theorem x4_draw_ok {l : Launch} {g : Gh} {G : Wd} (hX4 : OKX4 g) {a : Nat} {s : Rec} (hGt : G.2 a = some (3, s)) {x1 : Int32} {r : Int32} {s' : Rec} (hf : x4_draw s x1 = some (r, s')) : MT l g yX4_draw cX4_draw 2 (some .int) 1 G [.ref a, .int x1] (some (.int r)) (wp G a 3 s') := by
  refine pv_start (by decide) (Nat.le_of_ble_eq_true rfl) ?_
  intro X hl hg hN hc hr _ _ _ hQ
  subst hl; subst hg
  have hn : ([a] : List Nat).Nodup := nd1 
  have hro := (wz_n : ∀ u ∈ ([] : List (Nat × Nat × Rec)), G.2 u.1 = some u.2)
  refine pv_G (wz_id (us := [(a, 3, s)]) (wz_c hGt wz_n)) ?_
  have h := hf
  unfold x4_draw at h
  show V X 0 0 _ [(0, .ref a), (1, .int x1)] [] 0
  refine pv_aload_n 0 hc dX4_draw_0 rfl rfl ?_
  refine pv_aload_n 0 hc dX4_draw_1 rfl rfl ?_
  refine gf_X4_116 hc hX4 (wz_at hn rfl 0 rfl) dX4_draw_2 ?_
  refine pv_ldc hc q1155 dX4_draw_5 ?_
  refine pv_imul hc dX4_draw_7 ?_
  refine pv_sipush (12345 : Int32) hc dX4_draw_8 rfl ?_
  refine pv_iadd hc dX4_draw_11 ?_
  obtain ⟨s1, hs1, h⟩ := LT_el h
  refine pf_X4_116 (G1 := (wz G [(a, 3, s1)])) hc hX4 (wz_at hn rfl 0 rfl) hs1 (wz_set hn rfl 0 rfl rfl) dX4_draw_12 ?_
  refine pv_aload_n 0 hc dX4_draw_15 rfl rfl ?_
  refine gf_X4_116 hc hX4 (wz_at hn rfl 0 rfl) dX4_draw_16 ?_
  refine pv_bipush (8 : Int32) hc dX4_draw_19 rfl ?_
  refine pv_iushr hc dX4_draw_21 ?_
  refine pv_iload_n 1 hc dX4_draw_22 rfl rfl ?_
  obtain ⟨hz2, h⟩ := NZ_el h
  refine pv_irem hc dX4_draw_23 hz2 ?_
  exact pv_iret hc hr hQ (e_i2 h) (fin_w2 (ro := []) hro h) dX4_draw_24
def x4_drawPerson (s : Rec) (e1 : Rec) (x2 : Int32) : Option Rec := BD2 (x4_draw s (6 : Int32)) (fun v3 s2 => JN1 (fun (s4 : Rec) => JN1 (fun (s6 : Rec) => (if v3 = (2 : Int32) then (if (gI e1 8) ≤ 0 then some s6 else BD2 (x4_draw s6 (gI e1 8)) (fun v10 s9 => BD2 (x4_draw s9 (gI e1 7)) (fun v13 s12 => IX v10 6 (fun i14 => LT (sA s12 0 i14 v13) (fun s15 => some s15))))) else some s6)) (fun (j7 : Rec → Option Rec) => (if v3 = (1 : Int32) then (if (gI e1 8) ≤ 0 then j7 s4 else BD2 (x4_draw s4 (gI e1 8)) (fun v18 s17 => IX v18 6 (fun i19 => LT (sA s17 1 i19 (0 : Int32)) (fun s20 => j7 s20)))) else j7 s4))) (fun (j5 : Rec → Option Rec) => (if v3 = 0 then (if (gI e1 10) ≤ 0 then j5 s2 else (if (gI e1 7) ≤ 0 then j5 s2 else BD2 (x4_draw s2 (gI e1 10)) (fun v23 s22 => BD2 (x4_draw s22 (gI e1 7)) (fun v26 s25 => BD (x4_whyDo s25) (fun v28 => (if v28 = 0 then BD (x4_does s25 e1 x2 v23 v26) (fun s30 => j5 s30) else j5 s25)))))) else j5 s2)))
set_option maxHeartbeats 4000000 in
theorem x4_drawPerson_ok {l : Launch} {g : Gh} {G : Wd} (hX3 : OKX3 g) (hX4 : OKX4 g) {a : Nat} {s : Rec} (hGt : G.2 a = some (3, s)) {b1 : Nat} {e1 : Rec} (hGp1 : G.2 b1 = some (2, e1)) {x2 : Int32} {s' : Rec} (hf : x4_drawPerson s e1 x2 = some s') : MT l g yX4_drawPerson cX4_drawPerson 6 none 5 G [.ref a, .ref b1, .int x2] none (wp G a 3 s') := by
  refine pv_start (by decide) (Nat.le_of_ble_eq_true rfl) ?_
  intro X hl hg hN hc hr _ _ _ hQ
  subst hl; subst hg
  have hn : ([b1, a] : List Nat).Nodup := nd2 (kd_ne hGp1 hGt (by decide))
  have hro := ((wz_c hGp1 wz_n) : ∀ u ∈ ([(b1, 2, e1)] : List (Nat × Nat × Rec)), G.2 u.1 = some u.2)
  refine pv_G (wz_id (us := [(b1, 2, e1), (a, 3, s)]) (wz_c hGp1 (wz_c hGt wz_n))) ?_
  have h := hf
  unfold x4_drawPerson at h
  show V X 0 0 _ [(0, .ref a), (1, .ref b1), (2, .int x2)] [] 0
  refine pv_aload_n 0 hc dX4_drawPerson_0 rfl rfl ?_
  refine pv_bipush (6 : Int32) hc dX4_drawPerson_1 rfl ?_
  obtain ⟨v3, s2, hf1, h⟩ := BD2_el h
  refine ca_X4_120 hc hX4 (wz_at hn rfl 1 rfl) (x4_draw_ok hX4 (wz_at hn rfl 1 rfl) hf1) (by decide) (Nat.le_of_ble_eq_true rfl) dX4_drawPerson_3 ?_
  refine pv_G (wz_set (us' := [(b1, 2, e1), (a, 3, s2)]) hn rfl 1 rfl rfl).symm ?_
  refine pv_istore_n (L' := [(3, .int v3), (0, .ref a), (1, .ref b1), (2, .int x2)]) hc dX4_drawPerson_6 rfl hN (by decide) rfl ?_
  refine pv_iload_n 0 hc dX4_drawPerson_7 rfl rfl ?_
  obtain ⟨j5, hj5, h⟩ := JN1_el (P := fun s4 => V X 0 0 (wz G [(b1, 2, e1), (a, 3, s4)]) [(0, .ref a), (1, .ref b1), (3, .int v3)] [] 62) h (by
      intro s4 h
      refine pv_iload_n 2 hc dX4_drawPerson_62 rfl rfl ?_
      refine pv_iconst (1 : Int32) hc dX4_drawPerson_63 rfl ?_
      obtain ⟨j7, hj7, h⟩ := JN1_el (P := fun s6 => V X 0 0 (wz G [(b1, 2, e1), (a, 3, s6)]) [(0, .ref a), (1, .ref b1), (3, .int v3)] [] 88) h (by
          intro s6 h
          refine pv_iload_n 2 hc dX4_drawPerson_88 rfl rfl ?_
          refine pv_iconst (2 : Int32) hc dX4_drawPerson_89 rfl ?_
          refine pv_icmp_ne (tgt := 125) hc dX4_drawPerson_90 (by decide) h (fun h => ?_) (fun h => ?_)
          · exact pv_vret hc hr hQ rfl (fin_w1 (ro := [(b1, 2, e1)]) hro h) dX4_drawPerson_125
          · refine pv_aload_n 1 hc dX4_drawPerson_93 rfl rfl ?_
            refine gf_X4_69 hc hX3 (wz_at hn rfl 0 rfl) dX4_drawPerson_94 ?_
            refine pv_if_le (tgt := 125) hc dX4_drawPerson_97 (by decide) h (fun h => ?_) (fun h => ?_)
            · exact pv_vret hc hr hQ rfl (fin_w1 (ro := [(b1, 2, e1)]) hro h) dX4_drawPerson_125
            · refine pv_aload_n 0 hc dX4_drawPerson_100 rfl rfl ?_
              refine pv_aload_n 1 hc dX4_drawPerson_101 rfl rfl ?_
              refine gf_X4_69 hc hX3 (wz_at hn rfl 0 rfl) dX4_drawPerson_102 ?_
              obtain ⟨v10, s9, hf8, h⟩ := BD2_el h
              refine ca_X4_120 hc hX4 (wz_at hn rfl 1 rfl) (x4_draw_ok hX4 (wz_at hn rfl 1 rfl) hf8) (by decide) (Nat.le_of_ble_eq_true rfl) dX4_drawPerson_105 ?_
              refine pv_G (wz_set (us' := [(b1, 2, e1), (a, 3, s9)]) hn rfl 1 rfl rfl).symm ?_
              refine pv_istore (L' := [(4, .int v10), (0, .ref a), (1, .ref b1), (3, .int v3)]) hc dX4_drawPerson_108 hN (by decide) rfl ?_
              refine pv_aload_n 1 hc dX4_drawPerson_110 rfl rfl ?_
              refine gf_X4_9 hc hX4 (wz_at hn rfl 1 rfl) dX4_drawPerson_111 ?_
              refine pv_iload 0 hc dX4_drawPerson_114 rfl ?_
              refine pv_aload_n 1 hc dX4_drawPerson_116 rfl rfl ?_
              refine pv_aload_n 2 hc dX4_drawPerson_117 rfl rfl ?_
              refine gf_X4_126 hc hX3 (wz_at hn rfl 0 rfl) dX4_drawPerson_118 ?_
              obtain ⟨v13, s12, hf11, h⟩ := BD2_el h
              refine ca_X4_120 hc hX4 (wz_at hn rfl 1 rfl) (x4_draw_ok hX4 (wz_at hn rfl 1 rfl) hf11) (by decide) (Nat.le_of_ble_eq_true rfl) dX4_drawPerson_121 ?_
              refine pv_G (wz_set (us' := [(b1, 2, e1), (a, 3, s12)]) hn rfl 1 rfl rfl).symm ?_
              obtain ⟨i14, hi14, h⟩ := IX_el h
              obtain ⟨s15, hs15, h⟩ := LT_el h
              refine as_X4_0 (G1 := (wz G [(b1, 2, e1), (a, 3, s15)])) hc hX4 (wz_at hn rfl 1 rfl) hi14 hs15 (wz_set hn rfl 1 rfl rfl) dX4_drawPerson_124 ?_
              exact pv_vret hc hr hQ rfl (fin_w1 (ro := [(b1, 2, e1)]) hro h) dX4_drawPerson_125)
      refine pv_icmp_ne (tgt := 88) hc dX4_drawPerson_64 (by decide) h (fun h => ?_) (fun h => ?_)
      · exact hj7 _ h
      · refine pv_aload_n 1 hc dX4_drawPerson_67 rfl rfl ?_
        refine gf_X4_69 hc hX3 (wz_at hn rfl 0 rfl) dX4_drawPerson_68 ?_
        refine pv_if_le (tgt := 88) hc dX4_drawPerson_71 (by decide) h (fun h => ?_) (fun h => ?_)
        · exact hj7 _ h
        · refine pv_aload_n 0 hc dX4_drawPerson_74 rfl rfl ?_
          refine gf_X4_15 hc hX4 (wz_at hn rfl 1 rfl) dX4_drawPerson_75 ?_
          refine pv_aload_n 0 hc dX4_drawPerson_78 rfl rfl ?_
          refine pv_aload_n 1 hc dX4_drawPerson_79 rfl rfl ?_
          refine gf_X4_69 hc hX3 (wz_at hn rfl 0 rfl) dX4_drawPerson_80 ?_
          obtain ⟨v18, s17, hf16, h⟩ := BD2_el h
          refine ca_X4_120 hc hX4 (wz_at hn rfl 1 rfl) (x4_draw_ok hX4 (wz_at hn rfl 1 rfl) hf16) (by decide) (Nat.le_of_ble_eq_true rfl) dX4_drawPerson_83 ?_
          refine pv_G (wz_set (us' := [(b1, 2, e1), (a, 3, s17)]) hn rfl 1 rfl rfl).symm ?_
          refine pv_iconst (0 : Int32) hc dX4_drawPerson_86 rfl ?_
          obtain ⟨i19, hi19, h⟩ := IX_el h
          obtain ⟨s20, hs20, h⟩ := LT_el h
          refine as_X4_1 (G1 := (wz G [(b1, 2, e1), (a, 3, s20)])) hc hX4 (wz_at hn rfl 1 rfl) hi19 hs20 (wz_set hn rfl 1 rfl rfl) dX4_drawPerson_87 ?_
          exact hj7 _ h)
  refine pv_if_ne (tgt := 62) hc dX4_drawPerson_8 (by decide) h (fun h => ?_) (fun h => ?_)
  · refine pv_sub [1, 2, 0] rfl ?_
    exact hj5 _ h
  · refine pv_aload_n 2 hc dX4_drawPerson_11 rfl rfl ?_
    refine gf_X4_123 hc hX3 (wz_at hn rfl 0 rfl) dX4_drawPerson_12 ?_
    refine pv_if_le (tgt := 62) hc dX4_drawPerson_15 (by decide) h (fun h => ?_) (fun h => ?_)
    · refine pv_sub [1, 2, 0] rfl ?_
      exact hj5 _ h
    · refine pv_aload_n 2 hc dX4_drawPerson_18 rfl rfl ?_
      refine gf_X4_126 hc hX3 (wz_at hn rfl 0 rfl) dX4_drawPerson_19 ?_
      refine pv_if_le (tgt := 62) hc dX4_drawPerson_22 (by decide) h (fun h => ?_) (fun h => ?_)
      · refine pv_sub [1, 2, 0] rfl ?_
        exact hj5 _ h
      · refine pv_aload_n 1 hc dX4_drawPerson_25 rfl rfl ?_
        refine pv_aload_n 2 hc dX4_drawPerson_26 rfl rfl ?_
        refine gf_X4_123 hc hX3 (wz_at hn rfl 0 rfl) dX4_drawPerson_27 ?_
        obtain ⟨v23, s22, hf21, h⟩ := BD2_el h
        refine ca_X4_120 hc hX4 (wz_at hn rfl 1 rfl) (x4_draw_ok hX4 (wz_at hn rfl 1 rfl) hf21) (by decide) (Nat.le_of_ble_eq_true rfl) dX4_drawPerson_30 ?_
        refine pv_G (wz_set (us' := [(b1, 2, e1), (a, 3, s22)]) hn rfl 1 rfl rfl).symm ?_
        refine pv_istore (L' := [(4, .int v23), (3, .int v3), (0, .ref a), (1, .ref b1), (2, .int x2)]) hc dX4_drawPerson_33 hN (by decide) rfl ?_
        refine pv_aload_n 2 hc dX4_drawPerson_35 rfl rfl ?_
        refine pv_aload_n 3 hc dX4_drawPerson_36 rfl rfl ?_
        refine gf_X4_126 hc hX3 (wz_at hn rfl 0 rfl) dX4_drawPerson_37 ?_
        obtain ⟨v26, s25, hf24, h⟩ := BD2_el h
        refine ca_X4_120 hc hX4 (wz_at hn rfl 1 rfl) (x4_draw_ok hX4 (wz_at hn rfl 1 rfl) hf24) (by decide) (Nat.le_of_ble_eq_true rfl) dX4_drawPerson_40 ?_
        refine pv_G (wz_set (us' := [(b1, 2, e1), (a, 3, s25)]) hn rfl 1 rfl rfl).symm ?_
        refine pv_istore (L' := [(5, .int v26), (4, .int v23), (3, .int v3), (0, .ref a), (1, .ref b1), (2, .int x2)]) hc dX4_drawPerson_43 hN (by decide) rfl ?_
        refine pv_aload_n 3 hc dX4_drawPerson_45 rfl rfl ?_
        obtain ⟨v28, hf27, h⟩ := BD_el h
        refine ca_X4_129 hc hX4 (wz_at hn rfl 1 rfl) (x4_whyDo_ok hX4 (wz_at hn rfl 1 rfl) hf27) (by decide) (Nat.le_of_ble_eq_true rfl) dX4_drawPerson_46 ?_
        refine pv_if_ne (tgt := 62) hc dX4_drawPerson_49 (by decide) h (fun h => ?_) (fun h => ?_)
        · refine pv_sub [3, 4, 2] rfl ?_
          exact hj5 _ h
        · refine pv_aload_n 3 hc dX4_drawPerson_52 rfl rfl ?_
          refine pv_aload_n 4 hc dX4_drawPerson_53 rfl rfl ?_
          refine pv_iload_n 5 hc dX4_drawPerson_54 rfl rfl ?_
          refine pv_iload 1 hc dX4_drawPerson_55 rfl ?_
          refine pv_iload 0 hc dX4_drawPerson_57 rfl ?_
          obtain ⟨s30, hf29, h⟩ := BD_el h
          refine ca_X4_133 hc hX4 (wz_at hn rfl 1 rfl) (x4_does_ok hX3 hX4 (wz_at hn rfl 1 rfl) (wz_at hn rfl 0 rfl) hf29) (by decide) (Nat.le_of_ble_eq_true rfl) dX4_drawPerson_59 ?_
          refine pv_G (wz_set (us' := [(b1, 2, e1), (a, 3, s30)]) hn rfl 1 rfl rfl).symm ?_
          refine pv_sub [3, 4, 2] rfl ?_
          exact hj5 _ h
def x4_draws (s : Rec) (e1 : Rec) (x2 : Int32) (x3 : Int32) : Option (Int32 × Rec) := LT (sI s 9 x3) (fun s1 => LP2 (fun (rec4 : Int32 → Rec → Option (Int32 × Rec)) (v2 : Int32) (s3 : Rec) => (if x2 ≤ v2 then some (v2, s3) else (if (400 : Int32) ≤ (gI s3 7) then some (v2, s3) else LP2 (fun (rec7 : Int32 → Rec → Option (Int32 × Rec)) (v5 : Int32) (s6 : Rec) => (if (gI e1 9) ≤ v5 then BD (x4_goOn s6 e1) (fun s9 => rec4 (v2 + (1 : Int32)) s9) else BD (x4_drawPerson s6 e1 v5) (fun s11 => rec7 (v5 + (1 : Int32)) s11))) FU (0 : Int32) s3))) FU (0 : Int32) s1)
set_option maxHeartbeats 4000000 in
theorem x4_draws_ok {l : Launch} {g : Gh} {G : Wd} (hX3 : OKX3 g) (hX4 : OKX4 g) {a : Nat} {s : Rec} (hGt : G.2 a = some (3, s)) {b1 : Nat} {e1 : Rec} (hGp1 : G.2 b1 = some (2, e1)) {x2 : Int32} {x3 : Int32} {r : Int32} {s' : Rec} (hf : x4_draws s e1 x2 x3 = some (r, s')) : MT l g yX4_draws cX4_draws 6 (some .int) 6 G [.ref a, .ref b1, .int x2, .int x3] (some (.int r)) (wp G a 3 s') := by
  refine pv_start (by decide) (Nat.le_of_ble_eq_true rfl) ?_
  intro X hl hg hN hc hr _ _ _ hQ
  subst hl; subst hg
  have hn : ([b1, a] : List Nat).Nodup := nd2 (kd_ne hGp1 hGt (by decide))
  have hro := ((wz_c hGp1 wz_n) : ∀ u ∈ ([(b1, 2, e1)] : List (Nat × Nat × Rec)), G.2 u.1 = some u.2)
  refine pv_G (wz_id (us := [(b1, 2, e1), (a, 3, s)]) (wz_c hGp1 (wz_c hGt wz_n))) ?_
  have h := hf
  unfold x4_draws at h
  show V X 0 0 _ [(0, .ref a), (1, .ref b1), (2, .int x2), (3, .int x3)] [] 0
  refine pv_aload_n 0 hc dX4_draws_0 rfl rfl ?_
  refine pv_iload_n 3 hc dX4_draws_1 rfl rfl ?_
  obtain ⟨s1, hs1, h⟩ := LT_el h
  refine pf_X4_116 (G1 := (wz G [(b1, 2, e1), (a, 3, s1)])) hc hX4 (wz_at hn rfl 1 rfl) hs1 (wz_set hn rfl 1 rfl rfl) dX4_draws_2 ?_
  refine pv_iconst (0 : Int32) hc dX4_draws_5 rfl ?_
  refine pv_istore (L' := [(4, .int (0 : Int32)), (0, .ref a), (1, .ref b1), (2, .int x2), (3, .int x3)]) hc dX4_draws_6 hN (by decide) rfl ?_
  refine pv_sub [1, 2, 3, 0] rfl ?_
  refine LP2_el (P := fun v2 s3 => V X 0 0 (wz G [(b1, 2, e1), (a, 3, s3)]) [(0, .ref a), (1, .ref b1), (2, .int x2), (4, .int v2)] [] 8) ?_ FU _ _ h
  intro rec4 hrec4 v2 s3 h
  refine pv_iload 3 hc dX4_draws_8 rfl ?_
  refine pv_iload_n 2 hc dX4_draws_10 rfl rfl ?_
  refine pv_icmp_ge (tgt := 60) hc dX4_draws_11 (by decide) h (fun h => ?_) (fun h => ?_)
  · refine pv_iload 3 hc dX4_draws_60 rfl ?_
    exact pv_iret hc hr hQ (e_i2 h) (fin_w2 (ro := [(b1, 2, e1)]) hro h) dX4_draws_62
  · refine pv_aload_n 0 hc dX4_draws_14 rfl rfl ?_
    refine gf_X4_39 hc hX4 (wz_at hn rfl 1 rfl) dX4_draws_15 ?_
    refine pv_sipush (400 : Int32) hc dX4_draws_18 rfl ?_
    refine pv_icmp_ge (tgt := 60) hc dX4_draws_21 (by decide) h (fun h => ?_) (fun h => ?_)
    · refine pv_iload 3 hc dX4_draws_60 rfl ?_
      exact pv_iret hc hr hQ (e_i2 h) (fin_w2 (ro := [(b1, 2, e1)]) hro h) dX4_draws_62
    · refine pv_iconst (0 : Int32) hc dX4_draws_24 rfl ?_
      refine pv_istore (L' := [(5, .int (0 : Int32)), (0, .ref a), (1, .ref b1), (2, .int x2), (4, .int v2)]) hc dX4_draws_25 hN (by decide) rfl ?_
      refine pv_sub [1, 2, 3, 4, 0] rfl ?_
      refine LP2_el (P := fun v5 s6 => V X 0 0 (wz G [(b1, 2, e1), (a, 3, s6)]) [(0, .ref a), (1, .ref b1), (2, .int x2), (4, .int v2), (5, .int v5)] [] 27) ?_ FU _ _ h
      intro rec7 hrec7 v5 s6 h
      refine pv_iload 4 hc dX4_draws_27 rfl ?_
      refine pv_aload_n 1 hc dX4_draws_29 rfl rfl ?_
      refine gf_X4_137 hc hX3 (wz_at hn rfl 0 rfl) dX4_draws_30 ?_
      refine pv_icmp_ge (tgt := 49) hc dX4_draws_33 (by decide) h (fun h => ?_) (fun h => ?_)
      · refine pv_aload_n 0 hc dX4_draws_49 rfl rfl ?_
        refine pv_aload_n 1 hc dX4_draws_50 rfl rfl ?_
        obtain ⟨s9, hf8, h⟩ := BD_el h
        refine ca_X4_112 hc hX4 (wz_at hn rfl 1 rfl) (x4_goOn_ok hX3 hX4 (wz_at hn rfl 1 rfl) (wz_at hn rfl 0 rfl) hf8) (by decide) (Nat.le_of_ble_eq_true rfl) dX4_draws_51 ?_
        refine pv_G (wz_set (us' := [(b1, 2, e1), (a, 3, s9)]) hn rfl 1 rfl rfl).symm ?_
        refine pv_iinc (L' := [(4, .int (v2 + (1 : Int32))), (0, .ref a), (1, .ref b1), (2, .int x2), (5, .int v5)]) 3 (v2 + (1 : Int32)) hc dX4_draws_54 rfl rfl hN (by decide) rfl ?_
        refine pv_goto (tgt := 8) hc dX4_draws_57 (by decide) ?_
        refine pv_sub [1, 2, 3, 0] rfl ?_
        exact hrec4 _ _ h
      · refine pv_aload_n 0 hc dX4_draws_36 rfl rfl ?_
        refine pv_aload_n 1 hc dX4_draws_37 rfl rfl ?_
        refine pv_iload 4 hc dX4_draws_38 rfl ?_
        obtain ⟨s11, hf10, h⟩ := BD_el h
        refine ca_X4_140 hc hX4 (wz_at hn rfl 1 rfl) (x4_drawPerson_ok hX3 hX4 (wz_at hn rfl 1 rfl) (wz_at hn rfl 0 rfl) hf10) (by decide) (Nat.le_of_ble_eq_true rfl) dX4_draws_40 ?_
        refine pv_G (wz_set (us' := [(b1, 2, e1), (a, 3, s11)]) hn rfl 1 rfl rfl).symm ?_
        refine pv_iinc (L' := [(5, .int (v5 + (1 : Int32))), (0, .ref a), (1, .ref b1), (2, .int x2), (4, .int v2)]) 4 (v5 + (1 : Int32)) hc dX4_draws_43 rfl rfl hN (by decide) rfl ?_
        refine pv_goto (tgt := 27) hc dX4_draws_46 (by decide) ?_
        refine pv_sub [1, 2, 3, 4, 0] rfl ?_
        exact hrec7 _ _ h
def x4_shown (s : Rec) (x1 : Int32) : Option Int32 := LP2 (fun (rec3 : Int32 → Int32 → Option Int32) (v1 : Int32) (v2 : Int32) => (if (gI s 8) ≤ v2 then some v1 else BD (x4_hasCome s x1 v2) (fun v5 => (if v5 = 0 then rec3 v1 (v2 + (1 : Int32)) else rec3 (v1 ||| ((1 : Int32) <<< (v2 &&& 31))) (v2 + (1 : Int32)))))) FU (0 : Int32) (0 : Int32)
set_option maxHeartbeats 4000000 in
theorem x4_shown_ok {l : Launch} {g : Gh} {G : Wd} (hX4 : OKX4 g) {a : Nat} {s : Rec} (hGt : G.2 a = some (3, s)) {x1 : Int32} {r : Int32} (hf : x4_shown s x1 = some r) : MT l g yX4_shown cX4_shown 4 (some .int) 3 G [.ref a, .int x1] (some (.int r)) G := by
  refine pv_start (by decide) (Nat.le_of_ble_eq_true rfl) ?_
  intro X hl hg hN hc hr _ _ _ hQ
  subst hl; subst hg
  have hn : ([a] : List Nat).Nodup := nd1 
  have hro := ((wz_c hGt wz_n) : ∀ u ∈ ([(a, 3, s)] : List (Nat × Nat × Rec)), G.2 u.1 = some u.2)
  refine pv_G (wz_id (us := [(a, 3, s)]) (wz_c hGt wz_n)) ?_
  have h := hf
  unfold x4_shown at h
  show V X 0 0 _ [(0, .ref a), (1, .int x1)] [] 0
  refine pv_iconst (0 : Int32) hc dX4_shown_0 rfl ?_
  refine pv_istore_n (L' := [(2, .int (0 : Int32)), (0, .ref a), (1, .int x1)]) hc dX4_shown_1 rfl hN (by decide) rfl ?_
  refine pv_iconst (0 : Int32) hc dX4_shown_2 rfl ?_
  refine pv_istore_n (L' := [(3, .int (0 : Int32)), (2, .int (0 : Int32)), (0, .ref a), (1, .int x1)]) hc dX4_shown_3 rfl hN (by decide) rfl ?_
  refine pv_sub [2, 3, 1, 0] rfl ?_
  refine LP2_el (P := fun v1 v2 => V X 0 0 (wz G [(a, 3, s)]) [(0, .ref a), (1, .int x1), (2, .int v1), (3, .int v2)] [] 4) ?_ FU _ _ h
  intro rec3 hrec3 v1 v2 h
  refine pv_iload_n 3 hc dX4_shown_4 rfl rfl ?_
  refine pv_aload_n 0 hc dX4_shown_5 rfl rfl ?_
  refine gf_X4_43 hc hX4 (wz_at hn rfl 0 rfl) dX4_shown_6 ?_
  refine pv_icmp_ge (tgt := 33) hc dX4_shown_9 (by decide) h (fun h => ?_) (fun h => ?_)
  · refine pv_iload_n 2 hc dX4_shown_33 rfl rfl ?_
    exact pv_iret hc hr hQ (e_i1 h) (wz_id hro).symm dX4_shown_34
  · refine pv_aload_n 0 hc dX4_shown_12 rfl rfl ?_
    refine pv_iload_n 1 hc dX4_shown_13 rfl rfl ?_
    refine pv_iload_n 3 hc dX4_shown_14 rfl rfl ?_
    obtain ⟨v5, hf4, h⟩ := BD_el h
    refine ca_X4_87 hc hX4 (wz_at hn rfl 0 rfl) (x4_hasCome_ok hX4 (wz_at hn rfl 0 rfl) hf4) (by decide) (Nat.le_of_ble_eq_true rfl) dX4_shown_15 ?_
    refine pv_if_eq (tgt := 27) hc dX4_shown_18 (by decide) h (fun h => ?_) (fun h => ?_)
    · refine pv_iinc (L' := [(3, .int (v2 + (1 : Int32))), (0, .ref a), (1, .int x1), (2, .int v1)]) 3 (v2 + (1 : Int32)) hc dX4_shown_27 rfl rfl hN (by decide) rfl ?_
      refine pv_goto (tgt := 4) hc dX4_shown_30 (by decide) ?_
      refine pv_sub [1, 2, 3, 0] rfl ?_
      exact hrec3 _ _ h
    · refine pv_iload_n 2 hc dX4_shown_21 rfl rfl ?_
      refine pv_iconst (1 : Int32) hc dX4_shown_22 rfl ?_
      refine pv_iload_n 3 hc dX4_shown_23 rfl rfl ?_
      refine pv_ishl hc dX4_shown_24 ?_
      refine pv_ior hc dX4_shown_25 ?_
      refine pv_istore_n (L' := [(2, .int (v1 ||| ((1 : Int32) <<< (v2 &&& 31)))), (0, .ref a), (1, .int x1), (3, .int v2)]) hc dX4_shown_26 rfl hN (by decide) rfl ?_
      refine pv_iinc (L' := [(3, .int (v2 + (1 : Int32))), (2, .int (v1 ||| ((1 : Int32) <<< (v2 &&& 31)))), (0, .ref a), (1, .int x1)]) 3 (v2 + (1 : Int32)) hc dX4_shown_27 rfl rfl hN (by decide) rfl ?_
      refine pv_goto (tgt := 4) hc dX4_shown_30 (by decide) ?_
      refine pv_sub [2, 3, 1, 0] rfl ?_
      exact hrec3 _ _ h
