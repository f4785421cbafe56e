/-! ParlourLeavesModel's methods: what each computes, and that it does (written by gen/dec_all.py) -/
set_option maxRecDepth 100000
def m_thrown (s : Rec)  : Option Int32 := some (gI s 0)
set_option maxHeartbeats 4000000 in
theorem m_thrown_ok {l : Launch} {g : Gh} {G : Wd} (hM : MOK g) {a : Nat} {s : Rec} (hG : G.2 a = some (7, s))  {r : Int32} (hf : m_thrown s  = some r) : MT l g yX9_thrown cX9_thrown 1 (some .int) 1 G [.ref a] (some (.int r)) G := by
  refine pv_start (by decide) (Nat.le_of_ble_eq_true rfl) ?_
  intro X hl hg hN hc hr _ _ _ hQ
  subst hl; subst hg
  have h := hf
  unfold m_thrown at h
  show V X 0 0 _ [(0, .ref a)] [] 0
  refine pv_aload_n 0 hc dX9_thrown_0 rfl rfl ?_
  refine m_get_1 hc hM hG dX9_thrown_1 ?_
  exact pv_iret hc hr hQ (e_i1 h) rfl dX9_thrown_4
def m_come (s : Rec) (x1 : Int32) : Option Rec := LP2 (fun (rec3 : Int32 → Rec → Option Rec) (v1 : Int32) (s2 : Rec) => (if v1 < 0 then some s2 else IX (gI s2 2) 940 (fun i4 => LT (sA s2 1 i4 ((ushr x1 v1) &&& (255 : Int32))) (fun s5 => LT (sI s5 2 ((gI s5 2) + (1 : Int32))) (fun s6 => rec3 (v1 + (-8 : Int32)) s6))))) FU (24 : Int32) s
set_option maxHeartbeats 4000000 in
theorem m_come_ok {l : Launch} {g : Gh} {G : Wd} (hM : MOK g) {a : Nat} {s : Rec} (hG : G.2 a = some (7, s)) {x1 : Int32} {s' : Rec} (hf : m_come s x1 = some s') : MT l g yX9_come cX9_come 3 none 1 G [.ref a, .int x1] none (wp G a 7 s') := by
  refine pv_start (by decide) (Nat.le_of_ble_eq_true rfl) ?_
  intro X hl hg hN hc hr _ _ _ hQ
  subst hl; subst hg
  refine pv_G (wp_id hG) ?_
  have h := hf
  unfold m_come at h
  show V X 0 0 _ [(0, .ref a), (1, .int x1)] [] 0
  refine pv_bipush (24 : Int32) hc dX9_come_0 rfl ?_
  refine pv_istore_n (L' := [(2, .int (24 : Int32)), (0, .ref a), (1, .int x1)]) hc dX9_come_2 rfl hN (by decide) rfl ?_
  refine pv_sub [1, 2, 0] rfl ?_
  refine LP2_el (P := fun v1 s2 => V X 0 0 (wp G a 7 s2) [(0, .ref a), (1, .int x1), (2, .int v1)] [] 3) ?_ FU _ _ h
  intro rec3 hrec3 v1 s2 h
  refine pv_iload_n 2 hc dX9_come_3 rfl rfl ?_
  refine pv_if_lt (tgt := 39) hc dX9_come_4 (by decide) h (fun h => ?_) (fun h => ?_)
  · exact pv_vret hc hr hQ rfl (e_w1 h) dX9_come_39
  · refine pv_aload_n 0 hc dX9_come_7 rfl rfl ?_
    refine m_get_7 hc hM (wp_at G a 7 s2) dX9_come_8 ?_
    refine pv_aload_n 0 hc dX9_come_11 rfl rfl ?_
    refine m_get_11 hc hM (wp_at G a 7 s2) dX9_come_12 ?_
    refine pv_iload_n 1 hc dX9_come_15 rfl rfl ?_
    refine pv_iload_n 2 hc dX9_come_16 rfl rfl ?_
    refine pv_iushr hc dX9_come_17 ?_
    refine pv_sipush (255 : Int32) hc dX9_come_18 rfl ?_
    refine pv_iand hc dX9_come_21 ?_
    obtain ⟨i4, hi4, h⟩ := IX_el h
    obtain ⟨s5, hs5, h⟩ := LT_el h
    refine m_ast_1 hc hM hi4 hs5 dX9_come_22 ?_
    refine pv_aload_n 0 hc dX9_come_23 rfl rfl ?_
    refine pv_dup hc dX9_come_24 rfl ?_
    refine m_get_11 hc hM (wp_at G a 7 s5) dX9_come_25 ?_
    refine pv_iconst (1 : Int32) hc dX9_come_28 rfl ?_
    refine pv_iadd hc dX9_come_29 ?_
    obtain ⟨s6, hs6, h⟩ := LT_el h
    refine m_put_11 hc hM hs6 dX9_come_30 ?_
    refine pv_iinc (L' := [(2, .int (v1 + (-8 : Int32))), (0, .ref a), (1, .int x1)]) 2 (v1 + (-8 : Int32)) hc dX9_come_33 rfl rfl hN (by decide) rfl ?_
    refine pv_goto (tgt := 3) hc dX9_come_36 (by decide) ?_
    refine pv_sub [1, 2, 0] rfl ?_
    exact hrec3 _ _ h
def m_feed (s : Rec) (x1 : Int32) (x2 : Int32) (x3 : Int32) (x4 : Int32) (x5 : Int32) : Option (Int32 × Rec) := LT (sI s 0 (0 : Int32)) (fun s1 => (if ((gI s1 2) + (20 : Int32)) ≤ (940 : Int32) then BD (m_come s1 x1) (fun s3 => BD (m_come s3 x2) (fun s5 => BD (m_come s5 x3) (fun s7 => BD (m_come s7 x4) (fun s9 => BD (m_come s9 x5) (fun s11 => some ((gI s11 2), s11)))))) else some ((-1 : Int32), s1)))
set_option maxHeartbeats 4000000 in
theorem m_feed_ok {l : Launch} {g : Gh} {G : Wd} (hM : MOK g) {a : Nat} {s : Rec} (hG : G.2 a = some (7, s)) {x1 : Int32} {x2 : Int32} {x3 : Int32} {x4 : Int32} {x5 : Int32} {r : Int32} {s' : Rec} (hf : m_feed s x1 x2 x3 x4 x5 = some (r, s')) : MT l g yX9_feed cX9_feed 6 (some .int) 2 G [.ref a, .int x1, .int x2, .int x3, .int x4, .int x5] (some (.int r)) (wp G a 7 s') := by
  refine pv_start (by decide) (Nat.le_of_ble_eq_true rfl) ?_
  intro X hl hg hN hc hr _ _ _ hQ
  subst hl; subst hg
  refine pv_G (wp_id hG) ?_
  have h := hf
  unfold m_feed at h
  show V X 0 0 _ [(0, .ref a), (1, .int x1), (2, .int x2), (3, .int x3), (4, .int x4), (5, .int x5)] [] 0
  refine pv_aload_n 0 hc dX9_feed_0 rfl rfl ?_
  refine pv_iconst (0 : Int32) hc dX9_feed_1 rfl ?_
  obtain ⟨s1, hs1, h⟩ := LT_el h
  refine m_put_1 hc hM hs1 dX9_feed_2 ?_
  refine pv_aload_n 0 hc dX9_feed_5 rfl rfl ?_
  refine m_get_11 hc hM (wp_at G a 7 s1) dX9_feed_6 ?_
  refine pv_bipush (20 : Int32) hc dX9_feed_9 rfl ?_
  refine pv_iadd hc dX9_feed_11 ?_
  refine pv_sipush (940 : Int32) hc dX9_feed_12 rfl ?_
  refine pv_icmp_le (tgt := 20) hc dX9_feed_15 (by decide) h (fun h => ?_) (fun h => ?_)
  · refine pv_aload_n 0 hc dX9_feed_20 rfl rfl ?_
    refine pv_iload_n 1 hc dX9_feed_21 rfl rfl ?_
    obtain ⟨s3, hf2, h⟩ := BD_el h
    refine m_call_14 hc hM (m_come_ok hM (wp_at G a 7 s1) hf2) (by decide) (Nat.le_of_ble_eq_true rfl) dX9_feed_22 ?_
    refine pv_aload_n 0 hc dX9_feed_25 rfl rfl ?_
    refine pv_iload_n 2 hc dX9_feed_26 rfl rfl ?_
    obtain ⟨s5, hf4, h⟩ := BD_el h
    refine m_call_14 hc hM (m_come_ok hM (wp_at G a 7 s3) hf4) (by decide) (Nat.le_of_ble_eq_true rfl) dX9_feed_27 ?_
    refine pv_aload_n 0 hc dX9_feed_30 rfl rfl ?_
    refine pv_iload_n 3 hc dX9_feed_31 rfl rfl ?_
    obtain ⟨s7, hf6, h⟩ := BD_el h
    refine m_call_14 hc hM (m_come_ok hM (wp_at G a 7 s5) hf6) (by decide) (Nat.le_of_ble_eq_true rfl) dX9_feed_32 ?_
    refine pv_aload_n 0 hc dX9_feed_35 rfl rfl ?_
    refine pv_iload 4 hc dX9_feed_36 rfl ?_
    obtain ⟨s9, hf8, h⟩ := BD_el h
    refine m_call_14 hc hM (m_come_ok hM (wp_at G a 7 s7) hf8) (by decide) (Nat.le_of_ble_eq_true rfl) dX9_feed_38 ?_
    refine pv_aload_n 0 hc dX9_feed_41 rfl rfl ?_
    refine pv_iload 5 hc dX9_feed_42 rfl ?_
    obtain ⟨s11, hf10, h⟩ := BD_el h
    refine m_call_14 hc hM (m_come_ok hM (wp_at G a 7 s9) hf10) (by decide) (Nat.le_of_ble_eq_true rfl) dX9_feed_44 ?_
    refine pv_aload_n 0 hc dX9_feed_47 rfl rfl ?_
    refine m_get_11 hc hM (wp_at G a 7 s11) dX9_feed_48 ?_
    exact pv_iret hc hr hQ (e_i2 h) (e_w2 h) dX9_feed_51
  · refine pv_iconst (-1 : Int32) hc dX9_feed_18 rfl ?_
    exact pv_iret hc hr hQ (e_i2 h) (e_w2 h) dX9_feed_19
def m_end (s : Rec) (x1 : Int32) : Option (Int32 × Rec) := LT (sI s 0 (0 : Int32)) (fun s1 => (if x1 < 0 then some ((0 : Int32), s1) else (if x1 ≤ (gI s1 2) then LT (sI s1 2 x1) (fun s2 => some ((1 : Int32), s2)) else some ((0 : Int32), s1))))
set_option maxHeartbeats 4000000 in
theorem m_end_ok {l : Launch} {g : Gh} {G : Wd} (hM : MOK g) {a : Nat} {s : Rec} (hG : G.2 a = some (7, s)) {x1 : Int32} {r : Int32} {s' : Rec} (hf : m_end s x1 = some (r, s')) : MT l g yX9_end cX9_end 2 (some .boolean) 1 G [.ref a, .int x1] (some (.int r)) (wp G a 7 s') := by
  refine pv_start (by decide) (Nat.le_of_ble_eq_true rfl) ?_
  intro X hl hg hN hc hr _ _ _ hQ
  subst hl; subst hg
  refine pv_G (wp_id hG) ?_
  have h := hf
  unfold m_end at h
  show V X 0 0 _ [(0, .ref a), (1, .int x1)] [] 0
  refine pv_aload_n 0 hc dX9_end_0 rfl rfl ?_
  refine pv_iconst (0 : Int32) hc dX9_end_1 rfl ?_
  obtain ⟨s1, hs1, h⟩ := LT_el h
  refine m_put_1 hc hM hs1 dX9_end_2 ?_
  refine pv_iload_n 1 hc dX9_end_5 rfl rfl ?_
  refine pv_if_lt (tgt := 17) hc dX9_end_6 (by decide) h (fun h => ?_) (fun h => ?_)
  · refine pv_iconst (0 : Int32) hc dX9_end_17 rfl ?_
    exact pv_zret hc hr hQ (by decide) (e_i2 h) (e_w2 h) dX9_end_18
  · refine pv_iload_n 1 hc dX9_end_9 rfl rfl ?_
    refine pv_aload_n 0 hc dX9_end_10 rfl rfl ?_
    refine m_get_11 hc hM (wp_at G a 7 s1) dX9_end_11 ?_
    refine pv_icmp_le (tgt := 19) hc dX9_end_14 (by decide) h (fun h => ?_) (fun h => ?_)
    · refine pv_aload_n 0 hc dX9_end_19 rfl rfl ?_
      refine pv_iload_n 1 hc dX9_end_20 rfl rfl ?_
      obtain ⟨s2, hs2, h⟩ := LT_el h
      refine m_put_11 hc hM hs2 dX9_end_21 ?_
      refine pv_iconst (1 : Int32) hc dX9_end_24 rfl ?_
      exact pv_zret hc hr hQ (by decide) (e_i2 h) (e_w2 h) dX9_end_25
    · refine pv_iconst (0 : Int32) hc dX9_end_17 rfl ?_
      exact pv_zret hc hr hQ (by decide) (e_i2 h) (e_w2 h) dX9_end_18
def m_startSo (s : Rec)  : Option Rec := LP2 (fun (rec3 : Int32 → Rec → Option Rec) (v1 : Int32) (s2 : Rec) => (if (406 : Int32) ≤ v1 then LP2 (fun (rec6 : Int32 → Rec → Option Rec) (v4 : Int32) (s5 : Rec) => (if (164 : Int32) ≤ v4 then LP2 (fun (rec9 : Int32 → Rec → Option Rec) (v7 : Int32) (s8 : Rec) => (if (6 : Int32) ≤ v7 then some s8 else IX ((11 : Int32) + v7) 406 (fun i10 => IX ((26 : Int32) + v7) 406 (fun i11 => LT (sA s8 14 i11 (gA s8 14 i10)) (fun s12 => rec9 (v7 + (1 : Int32)) s12))))) FU (0 : Int32) s5 else IX v4 406 (fun i13 => LT (sA s5 14 i13 (-1 : Int32)) (fun s14 => rec6 (v4 + (1 : Int32)) s14)))) FU (86 : Int32) s2 else IX v1 406 (fun i15 => LT (sA s2 14 i15 (0 : Int32)) (fun s16 => rec3 (v1 + (1 : Int32)) s16)))) FU (24 : Int32) s
set_option maxHeartbeats 4000000 in
theorem m_startSo_ok {l : Launch} {g : Gh} {G : Wd} (hM : MOK g) {a : Nat} {s : Rec} (hG : G.2 a = some (7, s))  {s' : Rec} (hf : m_startSo s  = some s') : MT l g yX9_startSo cX9_startSo 2 none 1 G [.ref a] none (wp G a 7 s') := by
  refine pv_start (by decide) (Nat.le_of_ble_eq_true rfl) ?_
  intro X hl hg hN hc hr _ _ _ hQ
  subst hl; subst hg
  refine pv_G (wp_id hG) ?_
  have h := hf
  unfold m_startSo at h
  show V X 0 0 _ [(0, .ref a)] [] 0
  refine pv_bipush (24 : Int32) hc dX9_startSo_0 rfl ?_
  refine pv_istore_n (L' := [(1, .int (24 : Int32)), (0, .ref a)]) hc dX9_startSo_2 rfl hN (by decide) rfl ?_
  refine pv_sub [1, 0] rfl ?_
  refine LP2_el (P := fun v1 s2 => V X 0 0 (wp G a 7 s2) [(0, .ref a), (1, .int v1)] [] 3) ?_ FU _ _ h
  intro rec3 hrec3 v1 s2 h
  refine pv_iload_n 1 hc dX9_startSo_3 rfl rfl ?_
  refine pv_sipush (406 : Int32) hc dX9_startSo_4 rfl ?_
  refine pv_icmp_ge (tgt := 23) hc dX9_startSo_7 (by decide) h (fun h => ?_) (fun h => ?_)
  · refine pv_bipush (86 : Int32) hc dX9_startSo_23 rfl ?_
    refine pv_istore_n (L' := [(1, .int (86 : Int32)), (0, .ref a)]) hc dX9_startSo_25 rfl hN (by decide) rfl ?_
    refine pv_sub [1, 0] rfl ?_
    refine LP2_el (P := fun v4 s5 => V X 0 0 (wp G a 7 s5) [(0, .ref a), (1, .int v4)] [] 26) ?_ FU _ _ h
    intro rec6 hrec6 v4 s5 h
    refine pv_iload_n 1 hc dX9_startSo_26 rfl rfl ?_
    refine pv_sipush (164 : Int32) hc dX9_startSo_27 rfl ?_
    refine pv_icmp_ge (tgt := 46) hc dX9_startSo_30 (by decide) h (fun h => ?_) (fun h => ?_)
    · refine pv_iconst (0 : Int32) hc dX9_startSo_46 rfl ?_
      refine pv_istore_n (L' := [(1, .int (0 : Int32)), (0, .ref a)]) hc dX9_startSo_47 rfl hN (by decide) rfl ?_
      refine pv_sub [1, 0] rfl ?_
      refine LP2_el (P := fun v7 s8 => V X 0 0 (wp G a 7 s8) [(0, .ref a), (1, .int v7)] [] 48) ?_ FU _ _ h
      intro rec9 hrec9 v7 s8 h
      refine pv_iload_n 1 hc dX9_startSo_48 rfl rfl ?_
      refine pv_bipush (6 : Int32) hc dX9_startSo_49 rfl ?_
      refine pv_icmp_ge (tgt := 78) hc dX9_startSo_51 (by decide) h (fun h => ?_) (fun h => ?_)
      · exact pv_vret hc hr hQ rfl (e_w1 h) dX9_startSo_78
      · refine pv_aload_n 0 hc dX9_startSo_54 rfl rfl ?_
        refine m_get_98 hc hM (wp_at G a 7 s8) dX9_startSo_55 ?_
        refine pv_bipush (26 : Int32) hc dX9_startSo_58 rfl ?_
        refine pv_iload_n 1 hc dX9_startSo_60 rfl rfl ?_
        refine pv_iadd hc dX9_startSo_61 ?_
        refine pv_aload_n 0 hc dX9_startSo_62 rfl rfl ?_
        refine m_get_98 hc hM (wp_at G a 7 s8) dX9_startSo_63 ?_
        refine pv_bipush (11 : Int32) hc dX9_startSo_66 rfl ?_
        refine pv_iload_n 1 hc dX9_startSo_68 rfl rfl ?_
        refine pv_iadd hc dX9_startSo_69 ?_
        obtain ⟨i10, hi10, h⟩ := IX_el h
        refine m_ald_14 hc hM (wp_at G a 7 s8) hi10 dX9_startSo_70 ?_
        obtain ⟨i11, hi11, h⟩ := IX_el h
        obtain ⟨s12, hs12, h⟩ := LT_el h
        refine m_ast_14 hc hM hi11 hs12 dX9_startSo_71 ?_
        refine pv_iinc (L' := [(1, .int (v7 + (1 : Int32))), (0, .ref a)]) 1 (v7 + (1 : Int32)) hc dX9_startSo_72 rfl rfl hN (by decide) rfl ?_
        refine pv_goto (tgt := 48) hc dX9_startSo_75 (by decide) ?_
        refine pv_sub [1, 0] rfl ?_
        exact hrec9 _ _ h
    · refine pv_aload_n 0 hc dX9_startSo_33 rfl rfl ?_
      refine m_get_98 hc hM (wp_at G a 7 s5) dX9_startSo_34 ?_
      refine pv_iload_n 1 hc dX9_startSo_37 rfl rfl ?_
      refine pv_iconst (-1 : Int32) hc dX9_startSo_38 rfl ?_
      obtain ⟨i13, hi13, h⟩ := IX_el h
      obtain ⟨s14, hs14, h⟩ := LT_el h
      refine m_ast_14 hc hM hi13 hs14 dX9_startSo_39 ?_
      refine pv_iinc (L' := [(1, .int (v4 + (1 : Int32))), (0, .ref a)]) 1 (v4 + (1 : Int32)) hc dX9_startSo_40 rfl rfl hN (by decide) rfl ?_
      refine pv_goto (tgt := 26) hc dX9_startSo_43 (by decide) ?_
      refine pv_sub [1, 0] rfl ?_
      exact hrec6 _ _ h
  · refine pv_aload_n 0 hc dX9_startSo_10 rfl rfl ?_
    refine m_get_98 hc hM (wp_at G a 7 s2) dX9_startSo_11 ?_
    refine pv_iload_n 1 hc dX9_startSo_14 rfl rfl ?_
    refine pv_iconst (0 : Int32) hc dX9_startSo_15 rfl ?_
    obtain ⟨i15, hi15, h⟩ := IX_el h
    obtain ⟨s16, hs16, h⟩ := LT_el h
    refine m_ast_14 hc hM hi15 hs16 dX9_startSo_16 ?_
    refine pv_iinc (L' := [(1, .int (v1 + (1 : Int32))), (0, .ref a)]) 1 (v1 + (1 : Int32)) hc dX9_startSo_17 rfl rfl hN (by decide) rfl ?_
    refine pv_goto (tgt := 3) hc dX9_startSo_20 (by decide) ?_
    refine pv_sub [1, 0] rfl ?_
    exact hrec3 _ _ h
def m_isDigit (x0 : Int32) : Option Int32 := (if x0 < (48 : Int32) then some (0 : Int32) else (if (57 : Int32) < x0 then some (0 : Int32) else some (1 : Int32)))
set_option maxHeartbeats 4000000 in
theorem m_isDigit_ok {l : Launch} {g : Gh} {G : Wd} {x0 : Int32} {r : Int32} (hf : m_isDigit x0 = some r) : MT l g yX9_isDigit cX9_isDigit 1 (some .boolean) 1 G [.int x0] (some (.int r)) G := by
  refine pv_start (by decide) (Nat.le_of_ble_eq_true rfl) ?_
  intro X hl hg hN hc hr _ _ _ hQ
  subst hl; subst hg
  have h := hf
  unfold m_isDigit at h
  show V X 0 0 _ [(0, .int x0)] [] 0
  refine pv_iload_n 0 hc dX9_isDigit_0 rfl rfl ?_
  refine pv_bipush (48 : Int32) hc dX9_isDigit_1 rfl ?_
  refine pv_icmp_lt (tgt := 16) hc dX9_isDigit_3 (by decide) h (fun h => ?_) (fun h => ?_)
  · refine pv_iconst (0 : Int32) hc dX9_isDigit_16 rfl ?_
    exact pv_zret hc hr hQ (by decide) (e_i1 h) rfl dX9_isDigit_17
  · refine pv_iload_n 0 hc dX9_isDigit_6 rfl rfl ?_
    refine pv_bipush (57 : Int32) hc dX9_isDigit_7 rfl ?_
    refine pv_icmp_gt (tgt := 16) hc dX9_isDigit_9 (by decide) h (fun h => ?_) (fun h => ?_)
    · refine pv_iconst (0 : Int32) hc dX9_isDigit_16 rfl ?_
      exact pv_zret hc hr hQ (by decide) (e_i1 h) rfl dX9_isDigit_17
    · refine pv_iconst (1 : Int32) hc dX9_isDigit_12 rfl ?_
      refine pv_goto (tgt := 17) hc dX9_isDigit_13 (by decide) ?_
      exact pv_zret hc hr hQ (by decide) (e_i1 h) rfl dX9_isDigit_17
def m_isLetter (x0 : Int32) : Option Int32 := (if x0 < (97 : Int32) then some (0 : Int32) else (if (122 : Int32) < x0 then some (0 : Int32) else some (1 : Int32)))
set_option maxHeartbeats 4000000 in
theorem m_isLetter_ok {l : Launch} {g : Gh} {G : Wd} {x0 : Int32} {r : Int32} (hf : m_isLetter x0 = some r) : MT l g yX9_isLetter cX9_isLetter 1 (some .boolean) 1 G [.int x0] (some (.int r)) G := by
  refine pv_start (by decide) (Nat.le_of_ble_eq_true rfl) ?_
  intro X hl hg hN hc hr _ _ _ hQ
  subst hl; subst hg
  have h := hf
  unfold m_isLetter at h
  show V X 0 0 _ [(0, .int x0)] [] 0
  refine pv_iload_n 0 hc dX9_isLetter_0 rfl rfl ?_
  refine pv_bipush (97 : Int32) hc dX9_isLetter_1 rfl ?_
  refine pv_icmp_lt (tgt := 16) hc dX9_isLetter_3 (by decide) h (fun h => ?_) (fun h => ?_)
  · refine pv_iconst (0 : Int32) hc dX9_isLetter_16 rfl ?_
    exact pv_zret hc hr hQ (by decide) (e_i1 h) rfl dX9_isLetter_17
  · refine pv_iload_n 0 hc dX9_isLetter_6 rfl rfl ?_
    refine pv_bipush (122 : Int32) hc dX9_isLetter_7 rfl ?_
    refine pv_icmp_gt (tgt := 16) hc dX9_isLetter_9 (by decide) h (fun h => ?_) (fun h => ?_)
    · refine pv_iconst (0 : Int32) hc dX9_isLetter_16 rfl ?_
      exact pv_zret hc hr hQ (by decide) (e_i1 h) rfl dX9_isLetter_17
    · refine pv_iconst (1 : Int32) hc dX9_isLetter_12 rfl ?_
      refine pv_goto (tgt := 17) hc dX9_isLetter_13 (by decide) ?_
      exact pv_zret hc hr hQ (by decide) (e_i1 h) rfl dX9_isLetter_17
def m_tapeAt (s : Rec) (x1 : Int32) : Option Int32 := (if (gI s 3) ≤ x1 then some (0 : Int32) else IX x1 940 (fun i1 => some (gA s 1 i1)))
set_option maxHeartbeats 4000000 in
theorem m_tapeAt_ok {l : Launch} {g : Gh} {G : Wd} (hM : MOK g) {a : Nat} {s : Rec} (hG : G.2 a = some (7, s)) {x1 : Int32} {r : Int32} (hf : m_tapeAt s x1 = some r) : MT l g yX9_tapeAt cX9_tapeAt 2 (some .int) 1 G [.ref a, .int x1] (some (.int r)) G := by
  refine pv_start (by decide) (Nat.le_of_ble_eq_true rfl) ?_
  intro X hl hg hN hc hr _ _ _ hQ
  subst hl; subst hg
  have h := hf
  unfold m_tapeAt at h
  show V X 0 0 _ [(0, .ref a), (1, .int x1)] [] 0
  refine pv_iload_n 1 hc dX9_tapeAt_0 rfl rfl ?_
  refine pv_aload_n 0 hc dX9_tapeAt_1 rfl rfl ?_
  refine m_get_18 hc hM hG dX9_tapeAt_2 ?_
  refine pv_icmp_ge (tgt := 17) hc dX9_tapeAt_5 (by decide) h (fun h => ?_) (fun h => ?_)
  · refine pv_iconst (0 : Int32) hc dX9_tapeAt_17 rfl ?_
    exact pv_iret hc hr hQ (e_i1 h) rfl dX9_tapeAt_18
  · refine pv_aload_n 0 hc dX9_tapeAt_8 rfl rfl ?_
    refine m_get_7 hc hM hG dX9_tapeAt_9 ?_
    refine pv_iload_n 1 hc dX9_tapeAt_12 rfl rfl ?_
    obtain ⟨i1, hi1, h⟩ := IX_el h
    refine m_ald_1 hc hM hG hi1 dX9_tapeAt_13 ?_
    refine pv_goto (tgt := 18) hc dX9_tapeAt_14 (by decide) ?_
    exact pv_iret hc hr hQ (e_i1 h) rfl dX9_tapeAt_18
def m_go (s : Rec)  : Option Rec := LP1 (fun (rec2 : Rec → Option Rec) (s1 : Rec) => JN1 (fun (u3 : Unit) => LT (sI s1 6 (gI s1 5)) (fun s5 => JN1 (fun (u6 : Unit) => (if (gI s5 5) < (gI s5 3) then IX (gI s5 5) 940 (fun i8 => BD (m_isLetter (gA s5 1 i8)) (fun v10 => JN1 (fun (u11 : Unit) => BD (m_isLetter (gA s5 1 i8)) (fun v14 => LT (sJ s5 12 (0 : Int64)) (fun s15 => LT (sI s15 8 (0 : Int32)) (fun s16 => LP2 (fun (rec19 : Int32 → Rec → Option Rec) (v17 : Int32) (s18 : Rec) => BD (m_tapeAt s18 (gI s18 5)) (fun v21 => BD (m_isLetter v21) (fun v23 => JN1 (fun (u24 : Unit) => IX (gI s18 5) 940 (fun i26 => JN1 (fun (v27 : Int32) => JN1 (fun (s29 : Rec) => JN1 (fun (s31 : Rec) => LT (sI s31 5 ((gI s31 5) + (1 : Int32))) (fun s33 => rec19 v27 s33)) (fun (j32 : Rec → Option Rec) => (if (3 : Int32) ≤ ((gI s29 5) - (gI s29 6)) then j32 s29 else LT (sI s29 8 ((((10 : Int32) * (gI s29 8)) + (gA s18 1 i26)) - (48 : Int32))) (fun s34 => j32 s34)))) (fun (j30 : Rec → Option Rec) => (if (7 : Int32) ≤ ((gI s18 5) - (gI s18 6)) then j30 s18 else LT (sJ s18 12 ((((27 : Int64) * (gJ s18 12)) + (Int32.toInt64 (gA s18 1 i26))) - (96 : Int64))) (fun s35 => j30 s35)))) (fun (j28 : Int32 → Option Rec) => (if v17 = 0 then j28 (0 : Int32) else BD (m_isLetter (gA s18 1 i26)) (fun v37 => (if v37 = v14 then j28 (1 : Int32) else j28 (0 : Int32))))))) (fun (j25 : Unit → Option Rec) => (if v23 = 0 then BD (m_tapeAt s18 (gI s18 5)) (fun v39 => BD (m_isDigit v39) (fun v41 => (if v41 = 0 then (if v17 = 0 then LT (sI s18 7 (1 : Int32)) (fun s42 => some s42) else JN1 (fun (v43 : Int32) => (if ((gI s18 5) - (gI s18 6)) ≤ v43 then (if v14 = 0 then LT (sI s18 7 (3 : Int32)) (fun s45 => some s45) else LT (sI s18 7 (2 : Int32)) (fun s46 => some s46)) else LT (sI s18 7 (1 : Int32)) (fun s47 => some s47))) (fun (j44 : Int32 → Option Rec) => (if v14 = 0 then j44 (3 : Int32) else j44 (7 : Int32)))) else j25 ()))) else j25 ()))))) FU (1 : Int32) s16)))) (fun (j12 : Unit → Option Rec) => (if v10 = 0 then BD (m_isDigit (gA s5 1 i8)) (fun v49 => (if v49 = 0 then JN1 (fun (v50 : Int32) => LT (sI s5 7 v50) (fun s52 => LT (sI s52 9 (gA s5 1 i8)) (fun s53 => LT (sI s53 5 ((gI s53 5) + (1 : Int32))) (fun s54 => some s54)))) (fun (j51 : Int32 → Option Rec) => (if (gA s5 1 i8) = (59 : Int32) then j51 (4 : Int32) else (if (gA s5 1 i8) = (60 : Int32) then j51 (4 : Int32) else (if (gA s5 1 i8) = (61 : Int32) then j51 (4 : Int32) else (if (gA s5 1 i8) = (62 : Int32) then j51 (4 : Int32) else (if (gA s5 1 i8) = (40 : Int32) then j51 (4 : Int32) else (if (gA s5 1 i8) = (41 : Int32) then j51 (4 : Int32) else j51 (1 : Int32)))))))) else j12 ())) else j12 ())))) else LT (sI s5 7 (0 : Int32)) (fun s55 => some s55))) (fun (j7 : Unit → Option Rec) => (if (gI s5 3) ≤ (gI s5 4) then j7 () else (if (gI s5 6) < (gI s5 4) then j7 () else LT (sI s5 6 (gI s5 4)) (fun s56 => LT (sI s56 7 (1 : Int32)) (fun s57 => some s57))))))) (fun (j4 : Unit → Option Rec) => (if (gI s1 3) ≤ (gI s1 5) then j4 () else IX (gI s1 5) 940 (fun i58 => JN1 (fun (u59 : Unit) => LT (sI s1 5 ((gI s1 5) + (1 : Int32))) (fun s61 => rec2 s61)) (fun (j60 : Unit → Option Rec) => (if (gA s1 1 i58) = (32 : Int32) then j60 () else (if (gA s1 1 i58) = (10 : Int32) then j60 () else j4 ()))))))) FU s
set_option maxHeartbeats 4000000 in
theorem m_go_ok {l : Launch} {g : Gh} {G : Wd} (hM : MOK g) {a : Nat} {s : Rec} (hG : G.2 a = some (7, s))  {s' : Rec} (hf : m_go s  = some s') : MT l g yX9_go cX9_go 5 none 2 G [.ref a] none (wp G a 7 s') := by
  refine pv_start (by decide) (Nat.le_of_ble_eq_true rfl) ?_
  intro X hl hg hN hc hr _ _ _ hQ
  subst hl; subst hg
  refine pv_G (wp_id hG) ?_
  have h := hf
  unfold m_go at h
  show V X 0 0 _ [(0, .ref a)] [] 0
  refine LP1_el (P := fun s1 => V X 0 0 (wp G a 7 s1) [(0, .ref a)] [] 0) ?_ FU _ h
  intro rec2 hrec2 s1 h
  refine pv_aload_n 0 hc dX9_go_0 rfl rfl ?_
  refine m_get_21 hc hM (wp_at G a 7 s1) dX9_go_1 ?_
  refine pv_aload_n 0 hc dX9_go_4 rfl rfl ?_
  refine m_get_18 hc hM (wp_at G a 7 s1) dX9_go_5 ?_
  obtain ⟨j4, hj4, h⟩ := JN1_el (P := fun u3 => V X 0 0 (wp G a 7 s1) [(0, .ref a)] [] 52) h (by
      intro u3 h
      refine pv_aload_n 0 hc dX9_go_52 rfl rfl ?_
      refine pv_aload_n 0 hc dX9_go_53 rfl rfl ?_
      refine m_get_21 hc hM (wp_at G a 7 s1) dX9_go_54 ?_
      obtain ⟨s5, hs5, h⟩ := LT_el h
      refine m_put_24 hc hM hs5 dX9_go_57 ?_
      refine pv_aload_n 0 hc dX9_go_60 rfl rfl ?_
      refine m_get_18 hc hM (wp_at G a 7 s5) dX9_go_61 ?_
      refine pv_aload_n 0 hc dX9_go_64 rfl rfl ?_
      refine m_get_27 hc hM (wp_at G a 7 s5) dX9_go_65 ?_
      obtain ⟨j7, hj7, h⟩ := JN1_el (P := fun u6 => V X 0 0 (wp G a 7 s5) [(0, .ref a)] [] 96) h (by
          intro u6 h
          refine pv_aload_n 0 hc dX9_go_96 rfl rfl ?_
          refine m_get_21 hc hM (wp_at G a 7 s5) dX9_go_97 ?_
          refine pv_aload_n 0 hc dX9_go_100 rfl rfl ?_
          refine m_get_18 hc hM (wp_at G a 7 s5) dX9_go_101 ?_
          refine pv_icmp_lt (tgt := 113) hc dX9_go_104 (by decide) h (fun h => ?_) (fun h => ?_)
          · refine pv_aload_n 0 hc dX9_go_113 rfl rfl ?_
            refine m_get_7 hc hM (wp_at G a 7 s5) dX9_go_114 ?_
            refine pv_aload_n 0 hc dX9_go_117 rfl rfl ?_
            refine m_get_21 hc hM (wp_at G a 7 s5) dX9_go_118 ?_
            obtain ⟨i8, hi8, h⟩ := IX_el h
            refine m_ald_1 hc hM (wp_at G a 7 s5) hi8 dX9_go_121 ?_
            refine pv_istore_n (L' := [(1, .int (gA s5 1 i8)), (0, .ref a)]) hc dX9_go_122 rfl hN (by decide) rfl ?_
            refine pv_iload_n 0 hc dX9_go_123 rfl rfl ?_
            obtain ⟨v10, hf9, h⟩ := BD_el h
            refine m_call_33 hc (m_isLetter_ok hf9) (by decide) (Nat.le_of_ble_eq_true rfl) dX9_go_124 ?_
            obtain ⟨j12, hj12, h⟩ := JN1_el (P := fun u11 => V X 0 0 (wp G a 7 s5) [(0, .ref a), (1, .int (gA s5 1 i8))] [] 198) h (by
                intro u11 h
                refine pv_iload_n 1 hc dX9_go_198 rfl rfl ?_
                obtain ⟨v14, hf13, h⟩ := BD_el h
                refine m_call_33 hc (m_isLetter_ok hf13) (by decide) (Nat.le_of_ble_eq_true rfl) dX9_go_199 ?_
                refine pv_istore_n (L' := [(2, .int v14), (0, .ref a), (1, .int (gA s5 1 i8))]) hc dX9_go_202 rfl hN (by decide) rfl ?_
                refine pv_iconst (1 : Int32) hc dX9_go_203 rfl ?_
                refine pv_istore_n (L' := [(3, .int (1 : Int32)), (2, .int v14), (0, .ref a), (1, .int (gA s5 1 i8))]) hc dX9_go_204 rfl hN (by decide) rfl ?_
                refine pv_aload_n 2 hc dX9_go_205 rfl rfl ?_
                refine pv_lconst (0 : Int64) hc dX9_go_206 rfl ?_
                obtain ⟨s15, hs15, h⟩ := LT_el h
                refine m_put_43 hc hM hs15 dX9_go_207 ?_
                refine pv_aload_n 2 hc dX9_go_210 rfl rfl ?_
                refine pv_iconst (0 : Int32) hc dX9_go_211 rfl ?_
                obtain ⟨s16, hs16, h⟩ := LT_el h
                refine m_put_47 hc hM hs16 dX9_go_212 ?_
                refine pv_sub [2, 1, 0] rfl ?_
                refine LP2_el (P := fun v17 s18 => V X 0 0 (wp G a 7 s18) [(0, .ref a), (2, .int v14), (3, .int v17)] [] 215) ?_ FU _ _ h
                intro rec19 hrec19 v17 s18 h
                refine pv_aload_n 0 hc dX9_go_215 rfl rfl ?_
                refine pv_aload_n 0 hc dX9_go_216 rfl rfl ?_
                refine m_get_21 hc hM (wp_at G a 7 s18) dX9_go_217 ?_
                obtain ⟨v21, hf20, h⟩ := BD_el h
                refine m_call_50 hc hM (wp_at G a 7 s18) (m_tapeAt_ok hM (wp_at G a 7 s18) hf20) (by decide) (Nat.le_of_ble_eq_true rfl) dX9_go_220 ?_
                obtain ⟨v23, hf22, h⟩ := BD_el h
                refine m_call_33 hc (m_isLetter_ok hf22) (by decide) (Nat.le_of_ble_eq_true rfl) dX9_go_223 ?_
                obtain ⟨j25, hj25, h⟩ := JN1_el (P := fun u24 => V X 0 0 (wp G a 7 s18) [(0, .ref a), (2, .int v14), (3, .int v17)] [] 243) h (by
                    intro u24 h
                    refine pv_aload_n 0 hc dX9_go_243 rfl rfl ?_
                    refine m_get_7 hc hM (wp_at G a 7 s18) dX9_go_244 ?_
                    refine pv_aload_n 0 hc dX9_go_247 rfl rfl ?_
                    refine m_get_21 hc hM (wp_at G a 7 s18) dX9_go_248 ?_
                    obtain ⟨i26, hi26, h⟩ := IX_el h
                    refine m_ald_1 hc hM (wp_at G a 7 s18) hi26 dX9_go_251 ?_
                    refine pv_istore (L' := [(4, .int (gA s18 1 i26)), (0, .ref a), (2, .int v14), (3, .int v17)]) hc dX9_go_252 hN (by decide) rfl ?_
                    refine pv_iload_n 3 hc dX9_go_254 rfl rfl ?_
                    obtain ⟨j28, hj28, h⟩ := JN1_el (P := fun v27 => V X 0 0 (wp G a 7 s18) [(0, .ref a), (2, .int v14), (4, .int (gA s18 1 i26))] [.int v27] 272) h (by
                        intro v27 h
                        refine pv_istore_n (L' := [(3, .int v27), (0, .ref a), (2, .int v14), (4, .int (gA s18 1 i26))]) hc dX9_go_272 rfl hN (by decide) rfl ?_
                        refine pv_aload_n 1 hc dX9_go_273 rfl rfl ?_
                        refine m_get_21 hc hM (wp_at G a 7 s18) dX9_go_274 ?_
                        refine pv_aload_n 1 hc dX9_go_277 rfl rfl ?_
                        refine m_get_24 hc hM (wp_at G a 7 s18) dX9_go_278 ?_
                        refine pv_isub hc dX9_go_281 ?_
                        refine pv_bipush (7 : Int32) hc dX9_go_282 rfl ?_
                        obtain ⟨j30, hj30, h⟩ := JN1_el (P := fun s29 => V X 0 0 (wp G a 7 s29) [(0, .ref a), (2, .int v14), (3, .int v27), (4, .int (gA s18 1 i26))] [] 307) h (by
                            intro s29 h
                            refine pv_aload_n 0 hc dX9_go_307 rfl rfl ?_
                            refine m_get_21 hc hM (wp_at G a 7 s29) dX9_go_308 ?_
                            refine pv_aload_n 0 hc dX9_go_311 rfl rfl ?_
                            refine m_get_24 hc hM (wp_at G a 7 s29) dX9_go_312 ?_
                            refine pv_isub hc dX9_go_315 ?_
                            refine pv_iconst (3 : Int32) hc dX9_go_316 rfl ?_
                            obtain ⟨j32, hj32, h⟩ := JN1_el (P := fun s31 => V X 0 0 (wp G a 7 s31) [(0, .ref a), (2, .int v14), (3, .int v27)] [] 337) h (by
                                intro s31 h
                                refine pv_aload_n 0 hc dX9_go_337 rfl rfl ?_
                                refine pv_dup hc dX9_go_338 rfl ?_
                                refine m_get_21 hc hM (wp_at G a 7 s31) dX9_go_339 ?_
                                refine pv_iconst (1 : Int32) hc dX9_go_342 rfl ?_
                                refine pv_iadd hc dX9_go_343 ?_
                                obtain ⟨s33, hs33, h⟩ := LT_el h
                                refine m_put_21 hc hM hs33 dX9_go_344 ?_
                                refine pv_goto (tgt := 215) hc dX9_go_347 (by decide) ?_
                                exact hrec19 _ _ h)
                            refine pv_icmp_ge (tgt := 337) hc dX9_go_317 (by decide) h (fun h => ?_) (fun h => ?_)
                            · refine pv_sub [0, 1, 2] rfl ?_
                              exact hj32 _ h
                            · refine pv_aload_n 0 hc dX9_go_320 rfl rfl ?_
                              refine pv_bipush (10 : Int32) hc dX9_go_321 rfl ?_
                              refine pv_aload_n 0 hc dX9_go_323 rfl rfl ?_
                              refine m_get_47 hc hM (wp_at G a 7 s29) dX9_go_324 ?_
                              refine pv_imul hc dX9_go_327 ?_
                              refine pv_iload 3 hc dX9_go_328 rfl ?_
                              refine pv_iadd hc dX9_go_330 ?_
                              refine pv_bipush (48 : Int32) hc dX9_go_331 rfl ?_
                              refine pv_isub hc dX9_go_333 ?_
                              obtain ⟨s34, hs34, h⟩ := LT_el h
                              refine m_put_47 hc hM hs34 dX9_go_334 ?_
                              refine pv_sub [0, 1, 2] rfl ?_
                              exact hj32 _ h)
                        refine pv_icmp_ge (tgt := 307) hc dX9_go_284 (by decide) h (fun h => ?_) (fun h => ?_)
                        · refine pv_sub [1, 2, 0, 3] rfl ?_
                          exact hj30 _ h
                        · refine pv_aload_n 1 hc dX9_go_287 rfl rfl ?_
                          refine pv_ldc2 hc q1733 dX9_go_288 ?_
                          refine pv_aload_n 1 hc dX9_go_291 rfl rfl ?_
                          refine m_get_43 hc hM (wp_at G a 7 s18) dX9_go_292 ?_
                          refine pv_lmul hc dX9_go_295 ?_
                          refine pv_iload 3 hc dX9_go_296 rfl ?_
                          refine pv_i2l hc dX9_go_298 ?_
                          refine pv_ladd hc dX9_go_299 ?_
                          refine pv_ldc2 hc q1734 dX9_go_300 ?_
                          refine pv_lsub hc dX9_go_303 ?_
                          obtain ⟨s35, hs35, h⟩ := LT_el h
                          refine m_put_43 hc hM hs35 dX9_go_304 ?_
                          refine pv_sub [1, 2, 0, 3] rfl ?_
                          exact hj30 _ h)
                    refine pv_if_eq (tgt := 271) hc dX9_go_255 (by decide) h (fun h => ?_) (fun h => ?_)
                    · refine pv_iconst (0 : Int32) hc dX9_go_271 rfl ?_
                      refine pv_sub [1, 2, 0] rfl ?_
                      exact hj28 _ h
                    · refine pv_iload 0 hc dX9_go_258 rfl ?_
                      obtain ⟨v37, hf36, h⟩ := BD_el h
                      refine m_call_33 hc (m_isLetter_ok hf36) (by decide) (Nat.le_of_ble_eq_true rfl) dX9_go_260 ?_
                      refine pv_iload_n 2 hc dX9_go_263 rfl rfl ?_
                      refine pv_icmp_ne (tgt := 271) hc dX9_go_264 (by decide) h (fun h => ?_) (fun h => ?_)
                      · refine pv_iconst (0 : Int32) hc dX9_go_271 rfl ?_
                        refine pv_sub [1, 2, 0] rfl ?_
                        exact hj28 _ h
                      · refine pv_iconst (1 : Int32) hc dX9_go_267 rfl ?_
                        refine pv_goto (tgt := 272) hc dX9_go_268 (by decide) ?_
                        refine pv_sub [1, 2, 0] rfl ?_
                        exact hj28 _ h)
                refine pv_if_ne (tgt := 243) hc dX9_go_226 (by decide) h (fun h => ?_) (fun h => ?_)
                · exact hj25 _ h
                · refine pv_aload_n 0 hc dX9_go_229 rfl rfl ?_
                  refine pv_aload_n 0 hc dX9_go_230 rfl rfl ?_
                  refine m_get_21 hc hM (wp_at G a 7 s18) dX9_go_231 ?_
                  obtain ⟨v39, hf38, h⟩ := BD_el h
                  refine m_call_50 hc hM (wp_at G a 7 s18) (m_tapeAt_ok hM (wp_at G a 7 s18) hf38) (by decide) (Nat.le_of_ble_eq_true rfl) dX9_go_234 ?_
                  obtain ⟨v41, hf40, h⟩ := BD_el h
                  refine m_call_37 hc (m_isDigit_ok hf40) (by decide) (Nat.le_of_ble_eq_true rfl) dX9_go_237 ?_
                  refine pv_if_eq (tgt := 350) hc dX9_go_240 (by decide) h (fun h => ?_) (fun h => ?_)
                  · refine pv_aload_n 0 hc dX9_go_350 rfl rfl ?_
                    refine pv_iload_n 2 hc dX9_go_351 rfl rfl ?_
                    refine pv_if_eq (tgt := 377) hc dX9_go_352 (by decide) h (fun h => ?_) (fun h => ?_)
                    · refine pv_iconst (1 : Int32) hc dX9_go_377 rfl ?_
                      refine pv_goto (tgt := 390) hc dX9_go_378 (by decide) ?_
                      obtain ⟨s42, hs42, h⟩ := LT_el h
                      refine m_put_30 hc hM hs42 dX9_go_390 ?_
                      exact pv_vret hc hr hQ rfl (e_w1 h) dX9_go_393
                    · refine pv_aload_n 0 hc dX9_go_355 rfl rfl ?_
                      refine m_get_21 hc hM (wp_at G a 7 s18) dX9_go_356 ?_
                      refine pv_aload_n 0 hc dX9_go_359 rfl rfl ?_
                      refine m_get_24 hc hM (wp_at G a 7 s18) dX9_go_360 ?_
                      refine pv_isub hc dX9_go_363 ?_
                      refine pv_iload_n 1 hc dX9_go_364 rfl rfl ?_
                      obtain ⟨j44, hj44, h⟩ := JN1_el (P := fun v43 => V X 0 0 (wp G a 7 s18) [(2, .int v14)] [.int v43, .int ((gI s18 5) - (gI s18 6)), .ref a] 374) h (by
                          intro v43 h
                          refine pv_icmp_le (tgt := 381) hc dX9_go_374 (by decide) h (fun h => ?_) (fun h => ?_)
                          · refine pv_iload_n 0 hc dX9_go_381 rfl rfl ?_
                            refine pv_if_eq (tgt := 389) hc dX9_go_382 (by decide) h (fun h => ?_) (fun h => ?_)
                            · refine pv_iconst (3 : Int32) hc dX9_go_389 rfl ?_
                              obtain ⟨s45, hs45, h⟩ := LT_el h
                              refine m_put_30 hc hM hs45 dX9_go_390 ?_
                              exact pv_vret hc hr hQ rfl (e_w1 h) dX9_go_393
                            · refine pv_iconst (2 : Int32) hc dX9_go_385 rfl ?_
                              refine pv_goto (tgt := 390) hc dX9_go_386 (by decide) ?_
                              obtain ⟨s46, hs46, h⟩ := LT_el h
                              refine m_put_30 hc hM hs46 dX9_go_390 ?_
                              exact pv_vret hc hr hQ rfl (e_w1 h) dX9_go_393
                          · refine pv_iconst (1 : Int32) hc dX9_go_377 rfl ?_
                            refine pv_goto (tgt := 390) hc dX9_go_378 (by decide) ?_
                            obtain ⟨s47, hs47, h⟩ := LT_el h
                            refine m_put_30 hc hM hs47 dX9_go_390 ?_
                            exact pv_vret hc hr hQ rfl (e_w1 h) dX9_go_393)
                      refine pv_if_eq (tgt := 373) hc dX9_go_365 (by decide) h (fun h => ?_) (fun h => ?_)
                      · refine pv_iconst (3 : Int32) hc dX9_go_373 rfl ?_
                        refine pv_sub [1] rfl ?_
                        exact hj44 _ h
                      · refine pv_bipush (7 : Int32) hc dX9_go_368 rfl ?_
                        refine pv_goto (tgt := 374) hc dX9_go_370 (by decide) ?_
                        refine pv_sub [1] rfl ?_
                        exact hj44 _ h
                  · exact hj25 _ h)
            refine pv_if_ne (tgt := 198) hc dX9_go_127 (by decide) h (fun h => ?_) (fun h => ?_)
            · refine pv_sub [1, 0] rfl ?_
              exact hj12 _ h
            · refine pv_iload_n 0 hc dX9_go_130 rfl rfl ?_
              obtain ⟨v49, hf48, h⟩ := BD_el h
              refine m_call_37 hc (m_isDigit_ok hf48) (by decide) (Nat.le_of_ble_eq_true rfl) dX9_go_131 ?_
              refine pv_if_ne (tgt := 198) hc dX9_go_134 (by decide) h (fun h => ?_) (fun h => ?_)
              · refine pv_sub [1, 0] rfl ?_
                exact hj12 _ h
              · refine pv_aload_n 1 hc dX9_go_137 rfl rfl ?_
                refine pv_iload_n 0 hc dX9_go_138 rfl rfl ?_
                refine pv_bipush (59 : Int32) hc dX9_go_139 rfl ?_
                obtain ⟨j51, hj51, h⟩ := JN1_el (P := fun v50 => V X 0 0 (wp G a 7 s5) [(0, .ref a), (1, .int (gA s5 1 i8))] [.int v50, .ref a] 179) h (by
                    intro v50 h
                    obtain ⟨s52, hs52, h⟩ := LT_el h
                    refine m_put_30 hc hM hs52 dX9_go_179 ?_
                    refine pv_aload_n 0 hc dX9_go_182 rfl rfl ?_
                    refine pv_iload_n 1 hc dX9_go_183 rfl rfl ?_
                    obtain ⟨s53, hs53, h⟩ := LT_el h
                    refine m_put_40 hc hM hs53 dX9_go_184 ?_
                    refine pv_aload_n 0 hc dX9_go_187 rfl rfl ?_
                    refine pv_dup hc dX9_go_188 rfl ?_
                    refine m_get_21 hc hM (wp_at G a 7 s53) dX9_go_189 ?_
                    refine pv_iconst (1 : Int32) hc dX9_go_192 rfl ?_
                    refine pv_iadd hc dX9_go_193 ?_
                    obtain ⟨s54, hs54, h⟩ := LT_el h
                    refine m_put_21 hc hM hs54 dX9_go_194 ?_
                    exact pv_vret hc hr hQ rfl (e_w1 h) dX9_go_197)
                refine pv_icmp_eq (tgt := 174) hc dX9_go_141 (by decide) h (fun h => ?_) (fun h => ?_)
                · refine pv_iconst (4 : Int32) hc dX9_go_174 rfl ?_
                  refine pv_goto (tgt := 179) hc dX9_go_175 (by decide) ?_
                  refine pv_sub [1, 0] rfl ?_
                  exact hj51 _ h
                · refine pv_iload_n 0 hc dX9_go_144 rfl rfl ?_
                  refine pv_bipush (60 : Int32) hc dX9_go_145 rfl ?_
                  refine pv_icmp_eq (tgt := 174) hc dX9_go_147 (by decide) h (fun h => ?_) (fun h => ?_)
                  · refine pv_iconst (4 : Int32) hc dX9_go_174 rfl ?_
                    refine pv_goto (tgt := 179) hc dX9_go_175 (by decide) ?_
                    refine pv_sub [1, 0] rfl ?_
                    exact hj51 _ h
                  · refine pv_iload_n 0 hc dX9_go_150 rfl rfl ?_
                    refine pv_bipush (61 : Int32) hc dX9_go_151 rfl ?_
                    refine pv_icmp_eq (tgt := 174) hc dX9_go_153 (by decide) h (fun h => ?_) (fun h => ?_)
                    · refine pv_iconst (4 : Int32) hc dX9_go_174 rfl ?_
                      refine pv_goto (tgt := 179) hc dX9_go_175 (by decide) ?_
                      refine pv_sub [1, 0] rfl ?_
                      exact hj51 _ h
                    · refine pv_iload_n 0 hc dX9_go_156 rfl rfl ?_
                      refine pv_bipush (62 : Int32) hc dX9_go_157 rfl ?_
                      refine pv_icmp_eq (tgt := 174) hc dX9_go_159 (by decide) h (fun h => ?_) (fun h => ?_)
                      · refine pv_iconst (4 : Int32) hc dX9_go_174 rfl ?_
                        refine pv_goto (tgt := 179) hc dX9_go_175 (by decide) ?_
                        refine pv_sub [1, 0] rfl ?_
                        exact hj51 _ h
                      · refine pv_iload_n 0 hc dX9_go_162 rfl rfl ?_
                        refine pv_bipush (40 : Int32) hc dX9_go_163 rfl ?_
                        refine pv_icmp_eq (tgt := 174) hc dX9_go_165 (by decide) h (fun h => ?_) (fun h => ?_)
                        · refine pv_iconst (4 : Int32) hc dX9_go_174 rfl ?_
                          refine pv_goto (tgt := 179) hc dX9_go_175 (by decide) ?_
                          refine pv_sub [1, 0] rfl ?_
                          exact hj51 _ h
                        · refine pv_iload_n 0 hc dX9_go_168 rfl rfl ?_
                          refine pv_bipush (41 : Int32) hc dX9_go_169 rfl ?_
                          refine pv_icmp_ne (tgt := 178) hc dX9_go_171 (by decide) h (fun h => ?_) (fun h => ?_)
                          · refine pv_iconst (1 : Int32) hc dX9_go_178 rfl ?_
                            refine pv_sub [1, 0] rfl ?_
                            exact hj51 _ h
                          · refine pv_iconst (4 : Int32) hc dX9_go_174 rfl ?_
                            refine pv_goto (tgt := 179) hc dX9_go_175 (by decide) ?_
                            refine pv_sub [1, 0] rfl ?_
                            exact hj51 _ h
          · refine pv_aload_n 0 hc dX9_go_107 rfl rfl ?_
            refine pv_iconst (0 : Int32) hc dX9_go_108 rfl ?_
            obtain ⟨s55, hs55, h⟩ := LT_el h
            refine m_put_30 hc hM hs55 dX9_go_109 ?_
            exact pv_vret hc hr hQ rfl (e_w1 h) dX9_go_112)
      refine pv_icmp_le (tgt := 96) hc dX9_go_68 (by decide) h (fun h => ?_) (fun h => ?_)
      · exact hj7 _ h
      · refine pv_aload_n 0 hc dX9_go_71 rfl rfl ?_
        refine m_get_24 hc hM (wp_at G a 7 s5) dX9_go_72 ?_
        refine pv_aload_n 0 hc dX9_go_75 rfl rfl ?_
        refine m_get_27 hc hM (wp_at G a 7 s5) dX9_go_76 ?_
        refine pv_icmp_lt (tgt := 96) hc dX9_go_79 (by decide) h (fun h => ?_) (fun h => ?_)
        · exact hj7 _ h
        · refine pv_aload_n 0 hc dX9_go_82 rfl rfl ?_
          refine pv_aload_n 0 hc dX9_go_83 rfl rfl ?_
          refine m_get_27 hc hM (wp_at G a 7 s5) dX9_go_84 ?_
          obtain ⟨s56, hs56, h⟩ := LT_el h
          refine m_put_24 hc hM hs56 dX9_go_87 ?_
          refine pv_aload_n 0 hc dX9_go_90 rfl rfl ?_
          refine pv_iconst (1 : Int32) hc dX9_go_91 rfl ?_
          obtain ⟨s57, hs57, h⟩ := LT_el h
          refine m_put_30 hc hM hs57 dX9_go_92 ?_
          exact pv_vret hc hr hQ rfl (e_w1 h) dX9_go_95)
  refine pv_icmp_ge (tgt := 52) hc dX9_go_8 (by decide) h (fun h => ?_) (fun h => ?_)
  · exact hj4 _ h
  · refine pv_aload_n 0 hc dX9_go_11 rfl rfl ?_
    refine m_get_7 hc hM (wp_at G a 7 s1) dX9_go_12 ?_
    refine pv_aload_n 0 hc dX9_go_15 rfl rfl ?_
    refine m_get_21 hc hM (wp_at G a 7 s1) dX9_go_16 ?_
    obtain ⟨i58, hi58, h⟩ := IX_el h
    refine m_ald_1 hc hM (wp_at G a 7 s1) hi58 dX9_go_19 ?_
    refine pv_bipush (32 : Int32) hc dX9_go_20 rfl ?_
    obtain ⟨j60, hj60, h⟩ := JN1_el (P := fun u59 => V X 0 0 (wp G a 7 s1) [(0, .ref a)] [] 39) h (by
        intro u59 h
        refine pv_aload_n 0 hc dX9_go_39 rfl rfl ?_
        refine pv_dup hc dX9_go_40 rfl ?_
        refine m_get_21 hc hM (wp_at G a 7 s1) dX9_go_41 ?_
        refine pv_iconst (1 : Int32) hc dX9_go_44 rfl ?_
        refine pv_iadd hc dX9_go_45 ?_
        obtain ⟨s61, hs61, h⟩ := LT_el h
        refine m_put_21 hc hM hs61 dX9_go_46 ?_
        refine pv_goto (tgt := 0) hc dX9_go_49 (by decide) ?_
        exact hrec2 _ h)
    refine pv_icmp_eq (tgt := 39) hc dX9_go_22 (by decide) h (fun h => ?_) (fun h => ?_)
    · exact hj60 _ h
    · refine pv_aload_n 0 hc dX9_go_25 rfl rfl ?_
      refine m_get_7 hc hM (wp_at G a 7 s1) dX9_go_26 ?_
      refine pv_aload_n 0 hc dX9_go_29 rfl rfl ?_
      refine m_get_21 hc hM (wp_at G a 7 s1) dX9_go_30 ?_
      refine m_ald_1 hc hM (wp_at G a 7 s1) hi58 dX9_go_33 ?_
      refine pv_bipush (10 : Int32) hc dX9_go_34 rfl ?_
      refine pv_icmp_ne (tgt := 52) hc dX9_go_36 (by decide) h (fun h => ?_) (fun h => ?_)
      · exact hj4 _ h
      · exact hj60 _ h
def m_take (s : Rec)  : Option (Int32 × Rec) := LT (sI s 2 (0 : Int32)) (fun s1 => some ((gI s 2), s1))
set_option maxHeartbeats 4000000 in
theorem m_take_ok {l : Launch} {g : Gh} {G : Wd} (hM : MOK g) {a : Nat} {s : Rec} (hG : G.2 a = some (7, s))  {r : Int32} {s' : Rec} (hf : m_take s  = some (r, s')) : MT l g yX9_take cX9_take 2 (some .int) 1 G [.ref a] (some (.int r)) (wp G a 7 s') := by
  refine pv_start (by decide) (Nat.le_of_ble_eq_true rfl) ?_
  intro X hl hg hN hc hr _ _ _ hQ
  subst hl; subst hg
  refine pv_G (wp_id hG) ?_
  have h := hf
  unfold m_take at h
  show V X 0 0 _ [(0, .ref a)] [] 0
  refine pv_aload_n 0 hc dX9_take_0 rfl rfl ?_
  refine m_get_11 hc hM (wp_at G a 7 s) dX9_take_1 ?_
  refine pv_istore_n (L' := [(1, .int (gI s 2)), (0, .ref a)]) hc dX9_take_4 rfl hN (by decide) rfl ?_
  refine pv_aload_n 1 hc dX9_take_5 rfl rfl ?_
  refine pv_iconst (0 : Int32) hc dX9_take_6 rfl ?_
  obtain ⟨s1, hs1, h⟩ := LT_el h
  refine m_put_11 hc hM hs1 dX9_take_7 ?_
  refine pv_iload_n 0 hc dX9_take_10 rfl rfl ?_
  exact pv_iret hc hr hQ (e_i2 h) (e_w2 h) dX9_take_11
def m_begin (s : Rec) (x1 : Int32) : Option Rec := LT (sI s 0 (0 : Int32)) (fun s1 => BD2 (m_take s1) (fun v3 s4 => LT (sI s4 3 v3) (fun s5 => LT (sI s5 4 x1) (fun s6 => LT (sI s6 10 (0 : Int32)) (fun s7 => LT (sI s7 5 (0 : Int32)) (fun s8 => BD (m_go s8) (fun s10 => some s10)))))))
set_option maxHeartbeats 4000000 in
theorem m_begin_ok {l : Launch} {g : Gh} {G : Wd} (hM : MOK g) {a : Nat} {s : Rec} (hG : G.2 a = some (7, s)) {x1 : Int32} {s' : Rec} (hf : m_begin s x1 = some s') : MT l g yX9_begin cX9_begin 2 none 3 G [.ref a, .int x1] none (wp G a 7 s') := by
  refine pv_start (by decide) (Nat.le_of_ble_eq_true rfl) ?_
  intro X hl hg hN hc hr _ _ _ hQ
  subst hl; subst hg
  refine pv_G (wp_id hG) ?_
  have h := hf
  unfold m_begin at h
  show V X 0 0 _ [(0, .ref a), (1, .int x1)] [] 0
  refine pv_aload_n 0 hc dX9_begin_0 rfl rfl ?_
  refine pv_iconst (0 : Int32) hc dX9_begin_1 rfl ?_
  obtain ⟨s1, hs1, h⟩ := LT_el h
  refine m_put_1 hc hM hs1 dX9_begin_2 ?_
  refine pv_aload_n 0 hc dX9_begin_5 rfl rfl ?_
  refine pv_aload_n 0 hc dX9_begin_6 rfl rfl ?_
  obtain ⟨v3, s4, hf2, h⟩ := BD2_el h
  refine m_call_89 hc hM (m_take_ok hM (wp_at G a 7 s1) hf2) (by decide) (Nat.le_of_ble_eq_true rfl) dX9_begin_7 ?_
  obtain ⟨s5, hs5, h⟩ := LT_el h
  refine m_put_18 hc hM hs5 dX9_begin_10 ?_
  refine pv_aload_n 0 hc dX9_begin_13 rfl rfl ?_
  refine pv_iload_n 1 hc dX9_begin_14 rfl rfl ?_
  obtain ⟨s6, hs6, h⟩ := LT_el h
  refine m_put_27 hc hM hs6 dX9_begin_15 ?_
  refine pv_aload_n 0 hc dX9_begin_18 rfl rfl ?_
  refine pv_iconst (0 : Int32) hc dX9_begin_19 rfl ?_
  obtain ⟨s7, hs7, h⟩ := LT_el h
  refine m_put_66 hc hM hs7 dX9_begin_20 ?_
  refine pv_aload_n 0 hc dX9_begin_23 rfl rfl ?_
  refine pv_iconst (0 : Int32) hc dX9_begin_24 rfl ?_
  obtain ⟨s8, hs8, h⟩ := LT_el h
  refine m_put_21 hc hM hs8 dX9_begin_25 ?_
  refine pv_aload_n 0 hc dX9_begin_28 rfl rfl ?_
  obtain ⟨s10, hf9, h⟩ := BD_el h
  refine m_call_82 hc hM (m_go_ok hM (wp_at G a 7 s8) hf9) (by decide) (Nat.le_of_ble_eq_true rfl) dX9_begin_29 ?_
  exact pv_vret hc hr hQ rfl (e_w1 h) dX9_begin_32
def m_bad (s : Rec) (x1 : Int32) : Option (Int32 × Rec) := JN1 (fun (v1 : Int32) => LT (sI s 10 v1) (fun s3 => LT (sI s3 11 (gI s3 6)) (fun s4 => some ((0 : Int32), s4)))) (fun (j2 : Int32 → Option (Int32 × Rec)) => (if (gI s 7) = (1 : Int32) then j2 (1 : Int32) else j2 x1))
set_option maxHeartbeats 4000000 in
theorem m_bad_ok {l : Launch} {g : Gh} {G : Wd} (hM : MOK g) {a : Nat} {s : Rec} (hG : G.2 a = some (7, s)) {x1 : Int32} {r : Int32} {s' : Rec} (hf : m_bad s x1 = some (r, s')) : MT l g yX9_bad cX9_bad 2 (some .boolean) 1 G [.ref a, .int x1] (some (.int r)) (wp G a 7 s') := by
  refine pv_start (by decide) (Nat.le_of_ble_eq_true rfl) ?_
  intro X hl hg hN hc hr _ _ _ hQ
  subst hl; subst hg
  refine pv_G (wp_id hG) ?_
  have h := hf
  unfold m_bad at h
  show V X 0 0 _ [(0, .ref a), (1, .int x1)] [] 0
  refine pv_aload_n 0 hc dX9_bad_0 rfl rfl ?_
  refine pv_aload_n 0 hc dX9_bad_1 rfl rfl ?_
  refine m_get_30 hc hM (wp_at G a 7 s) dX9_bad_2 ?_
  refine pv_iconst (1 : Int32) hc dX9_bad_5 rfl ?_
  obtain ⟨j2, hj2, h⟩ := JN1_el (P := fun v1 => V X 0 0 (wp G a 7 s) [(0, .ref a)] [.int v1, .ref a] 14) h (by
      intro v1 h
      obtain ⟨s3, hs3, h⟩ := LT_el h
      refine m_put_66 hc hM hs3 dX9_bad_14 ?_
      refine pv_aload_n 0 hc dX9_bad_17 rfl rfl ?_
      refine pv_aload_n 0 hc dX9_bad_18 rfl rfl ?_
      refine m_get_24 hc hM (wp_at G a 7 s3) dX9_bad_19 ?_
      obtain ⟨s4, hs4, h⟩ := LT_el h
      refine m_put_69 hc hM hs4 dX9_bad_22 ?_
      refine pv_iconst (0 : Int32) hc dX9_bad_25 rfl ?_
      exact pv_zret hc hr hQ (by decide) (e_i2 h) (e_w2 h) dX9_bad_26)
  refine pv_icmp_ne (tgt := 13) hc dX9_bad_6 (by decide) h (fun h => ?_) (fun h => ?_)
  · refine pv_iload_n 1 hc dX9_bad_13 rfl rfl ?_
    refine pv_sub [0] rfl ?_
    exact hj2 _ h
  · refine pv_iconst (1 : Int32) hc dX9_bad_9 rfl ?_
    refine pv_goto (tgt := 14) hc dX9_bad_10 (by decide) ?_
    refine pv_sub [0] rfl ?_
    exact hj2 _ h
def m_isSign (s : Rec) (x1 : Int32) : Option Int32 := (if (gI s 7) = (4 : Int32) then (if (gI s 9) = x1 then some (1 : Int32) else some (0 : Int32)) else some (0 : Int32))
set_option maxHeartbeats 4000000 in
theorem m_isSign_ok {l : Launch} {g : Gh} {G : Wd} (hM : MOK g) {a : Nat} {s : Rec} (hG : G.2 a = some (7, s)) {x1 : Int32} {r : Int32} (hf : m_isSign s x1 = some r) : MT l g yX9_isSign cX9_isSign 2 (some .boolean) 1 G [.ref a, .int x1] (some (.int r)) G := by
  refine pv_start (by decide) (Nat.le_of_ble_eq_true rfl) ?_
  intro X hl hg hN hc hr _ _ _ hQ
  subst hl; subst hg
  have h := hf
  unfold m_isSign at h
  show V X 0 0 _ [(0, .ref a), (1, .int x1)] [] 0
  refine pv_aload_n 0 hc dX9_isSign_0 rfl rfl ?_
  refine m_get_30 hc hM hG dX9_isSign_1 ?_
  refine pv_iconst (4 : Int32) hc dX9_isSign_4 rfl ?_
  refine pv_icmp_ne (tgt := 20) hc dX9_isSign_5 (by decide) h (fun h => ?_) (fun h => ?_)
  · refine pv_iconst (0 : Int32) hc dX9_isSign_20 rfl ?_
    exact pv_zret hc hr hQ (by decide) (e_i1 h) rfl dX9_isSign_21
  · refine pv_aload_n 0 hc dX9_isSign_8 rfl rfl ?_
    refine m_get_40 hc hM hG dX9_isSign_9 ?_
    refine pv_iload_n 1 hc dX9_isSign_12 rfl rfl ?_
    refine pv_icmp_ne (tgt := 20) hc dX9_isSign_13 (by decide) h (fun h => ?_) (fun h => ?_)
    · refine pv_iconst (0 : Int32) hc dX9_isSign_20 rfl ?_
      exact pv_zret hc hr hQ (by decide) (e_i1 h) rfl dX9_isSign_21
    · refine pv_iconst (1 : Int32) hc dX9_isSign_16 rfl ?_
      refine pv_goto (tgt := 21) hc dX9_isSign_17 (by decide) ?_
      exact pv_zret hc hr hQ (by decide) (e_i1 h) rfl dX9_isSign_21
def m_readEnd (s : Rec)  : Option (Int32 × Rec) := BD (m_isSign s (59 : Int32)) (fun v2 => (if v2 = 0 then BD2 (m_bad s (1 : Int32)) (fun v6 s7 => BZ v6 (some (v6, s7))) else BD (m_go s) (fun s4 => some ((1 : Int32), s4))))
set_option maxHeartbeats 4000000 in
theorem m_readEnd_ok {l : Launch} {g : Gh} {G : Wd} (hM : MOK g) {a : Nat} {s : Rec} (hG : G.2 a = some (7, s))  {r : Int32} {s' : Rec} (hf : m_readEnd s  = some (r, s')) : MT l g yX9_readEnd cX9_readEnd 1 (some .boolean) 3 G [.ref a] (some (.int r)) (wp G a 7 s') := by
  refine pv_start (by decide) (Nat.le_of_ble_eq_true rfl) ?_
  intro X hl hg hN hc hr _ _ _ hQ
  subst hl; subst hg
  refine pv_G (wp_id hG) ?_
  have h := hf
  unfold m_readEnd at h
  show V X 0 0 _ [(0, .ref a)] [] 0
  refine pv_aload_n 0 hc dX9_readEnd_0 rfl rfl ?_
  refine pv_bipush (59 : Int32) hc dX9_readEnd_1 rfl ?_
  obtain ⟨v2, hf1, h⟩ := BD_el h
  refine m_call_86 hc hM (wp_at G a 7 s) (m_isSign_ok hM (wp_at G a 7 s) hf1) (by decide) (Nat.le_of_ble_eq_true rfl) dX9_readEnd_3 ?_
  refine pv_if_ne (tgt := 15) hc dX9_readEnd_6 (by decide) h (fun h => ?_) (fun h => ?_)
  · refine pv_aload_n 0 hc dX9_readEnd_15 rfl rfl ?_
    obtain ⟨s4, hf3, h⟩ := BD_el h
    refine m_call_82 hc hM (m_go_ok hM (wp_at G a 7 s) hf3) (by decide) (Nat.le_of_ble_eq_true rfl) dX9_readEnd_16 ?_
    refine pv_iconst (1 : Int32) hc dX9_readEnd_19 rfl ?_
    exact pv_zret hc hr hQ (by decide) (e_i2 h) (e_w2 h) dX9_readEnd_20
  · refine pv_aload_n 0 hc dX9_readEnd_9 rfl rfl ?_
    refine pv_iconst (1 : Int32) hc dX9_readEnd_10 rfl ?_
    obtain ⟨v6, s7, hf5, h⟩ := BD2_el h
    refine m_call_72 hc hM (m_bad_ok hM (wp_at G a 7 s) hf5) (by decide) (Nat.le_of_ble_eq_true rfl) dX9_readEnd_11 ?_
    obtain ⟨hb8, h⟩ := BZ_el h
    exact pv_zret hc hr hQ hb8 (e_i2 h) (e_w2 h) dX9_readEnd_14
def m_spelt (x0 : Int32) (x1 : Int32) (x2 : Int32) (x3 : Int32) (x4 : Int32) (x5 : Int32) (x6 : Int32) : Option Int64 := JN1 (fun (v1 : Int64) => JN1 (fun (v3 : Int64) => JN1 (fun (v5 : Int64) => JN1 (fun (v7 : Int64) => JN1 (fun (v9 : Int64) => (if x6 ≤ 0 then some v9 else some ((((27 : Int64) * v9) + (Int32.toInt64 x6)) - (96 : Int64)))) (fun (j10 : Int64 → Option Int64) => (if x5 ≤ 0 then j10 v7 else j10 ((((27 : Int64) * v7) + (Int32.toInt64 x5)) - (96 : Int64))))) (fun (j8 : Int64 → Option Int64) => (if x4 ≤ 0 then j8 v5 else j8 ((((27 : Int64) * v5) + (Int32.toInt64 x4)) - (96 : Int64))))) (fun (j6 : Int64 → Option Int64) => (if x3 ≤ 0 then j6 v3 else j6 ((((27 : Int64) * v3) + (Int32.toInt64 x3)) - (96 : Int64))))) (fun (j4 : Int64 → Option Int64) => (if x2 ≤ 0 then j4 v1 else j4 ((((27 : Int64) * v1) + (Int32.toInt64 x2)) - (96 : Int64))))) (fun (j2 : Int64 → Option Int64) => (if x1 ≤ 0 then j2 ((Int32.toInt64 x0) - (96 : Int64)) else j2 ((((27 : Int64) * ((Int32.toInt64 x0) - (96 : Int64))) + (Int32.toInt64 x1)) - (96 : Int64))))
set_option maxHeartbeats 4000000 in
theorem m_spelt_ok {l : Launch} {g : Gh} {G : Wd} {x0 : Int32} {x1 : Int32} {x2 : Int32} {x3 : Int32} {x4 : Int32} {x5 : Int32} {x6 : Int32} {r : Int64} (hf : m_spelt x0 x1 x2 x3 x4 x5 x6 = some r) : MT l g yX9_spelt cX9_spelt 9 (some .long) 1 G [.int x0, .int x1, .int x2, .int x3, .int x4, .int x5, .int x6] (some (.long r)) G := by
  refine pv_start (by decide) (Nat.le_of_ble_eq_true rfl) ?_
  intro X hl hg hN hc hr _ _ _ hQ
  subst hl; subst hg
  have h := hf
  unfold m_spelt at h
  show V X 0 0 _ [(0, .int x0), (1, .int x1), (2, .int x2), (3, .int x3), (4, .int x4), (5, .int x5), (6, .int x6)] [] 0
  refine pv_iload_n 0 hc dX9_spelt_0 rfl rfl ?_
  refine pv_i2l hc dX9_spelt_1 ?_
  refine pv_ldc2 hc q1734 dX9_spelt_2 ?_
  refine pv_lsub hc dX9_spelt_5 ?_
  refine pv_lstore (L' := [(7, .long ((Int32.toInt64 x0) - (96 : Int64))), (0, .int x0), (1, .int x1), (2, .int x2), (3, .int x3), (4, .int x4), (5, .int x5), (6, .int x6)]) hc dX9_spelt_6 hN (by decide) rfl ?_
  refine pv_iload_n 2 hc dX9_spelt_8 rfl rfl ?_
  obtain ⟨j2, hj2, h⟩ := JN1_el (P := fun v1 => V X 0 0 G [(2, .int x2), (3, .int x3), (4, .int x4), (5, .int x5), (6, .int x6), (7, .long v1)] [] 27) h (by
      intro v1 h
      refine pv_iload_n 0 hc dX9_spelt_27 rfl rfl ?_
      obtain ⟨j4, hj4, h⟩ := JN1_el (P := fun v3 => V X 0 0 G [(3, .int x3), (4, .int x4), (5, .int x5), (6, .int x6), (7, .long v3)] [] 46) h (by
          intro v3 h
          refine pv_iload_n 0 hc dX9_spelt_46 rfl rfl ?_
          obtain ⟨j6, hj6, h⟩ := JN1_el (P := fun v5 => V X 0 0 G [(4, .int x4), (5, .int x5), (6, .int x6), (7, .long v5)] [] 65) h (by
              intro v5 h
              refine pv_iload 0 hc dX9_spelt_65 rfl ?_
              obtain ⟨j8, hj8, h⟩ := JN1_el (P := fun v7 => V X 0 0 G [(5, .int x5), (6, .int x6), (7, .long v7)] [] 86) h (by
                  intro v7 h
                  refine pv_iload 0 hc dX9_spelt_86 rfl ?_
                  obtain ⟨j10, hj10, h⟩ := JN1_el (P := fun v9 => V X 0 0 G [(6, .int x6), (7, .long v9)] [] 107) h (by
                      intro v9 h
                      refine pv_iload 0 hc dX9_spelt_107 rfl ?_
                      refine pv_if_le (tgt := 128) hc dX9_spelt_109 (by decide) h (fun h => ?_) (fun h => ?_)
                      · refine pv_lload 1 hc dX9_spelt_128 rfl ?_
                        exact pv_lret hc hr hQ (e_l1 h) rfl dX9_spelt_130
                      · refine pv_ldc2 hc q1733 dX9_spelt_112 ?_
                        refine pv_lload 1 hc dX9_spelt_115 rfl ?_
                        refine pv_lmul hc dX9_spelt_117 ?_
                        refine pv_iload 0 hc dX9_spelt_118 rfl ?_
                        refine pv_i2l hc dX9_spelt_120 ?_
                        refine pv_ladd hc dX9_spelt_121 ?_
                        refine pv_ldc2 hc q1734 dX9_spelt_122 ?_
                        refine pv_lsub hc dX9_spelt_125 ?_
                        refine pv_lstore (L' := [(7, .long ((((27 : Int64) * v9) + (Int32.toInt64 x6)) - (96 : Int64))), (6, .int x6)]) hc dX9_spelt_126 hN (by decide) rfl ?_
                        refine pv_lload 0 hc dX9_spelt_128 rfl ?_
                        exact pv_lret hc hr hQ (e_l1 h) rfl dX9_spelt_130)
                  refine pv_if_le (tgt := 107) hc dX9_spelt_88 (by decide) h (fun h => ?_) (fun h => ?_)
                  · refine pv_sub [1, 2] rfl ?_
                    exact hj10 _ h
                  · refine pv_ldc2 hc q1733 dX9_spelt_91 ?_
                    refine pv_lload 2 hc dX9_spelt_94 rfl ?_
                    refine pv_lmul hc dX9_spelt_96 ?_
                    refine pv_iload 0 hc dX9_spelt_97 rfl ?_
                    refine pv_i2l hc dX9_spelt_99 ?_
                    refine pv_ladd hc dX9_spelt_100 ?_
                    refine pv_ldc2 hc q1734 dX9_spelt_101 ?_
                    refine pv_lsub hc dX9_spelt_104 ?_
                    refine pv_lstore (L' := [(7, .long ((((27 : Int64) * v7) + (Int32.toInt64 x5)) - (96 : Int64))), (5, .int x5), (6, .int x6)]) hc dX9_spelt_105 hN (by decide) rfl ?_
                    refine pv_sub [2, 0] rfl ?_
                    exact hj10 _ h)
              refine pv_if_le (tgt := 86) hc dX9_spelt_67 (by decide) h (fun h => ?_) (fun h => ?_)
              · refine pv_sub [1, 2, 3] rfl ?_
                exact hj8 _ h
              · refine pv_ldc2 hc q1733 dX9_spelt_70 ?_
                refine pv_lload 3 hc dX9_spelt_73 rfl ?_
                refine pv_lmul hc dX9_spelt_75 ?_
                refine pv_iload 0 hc dX9_spelt_76 rfl ?_
                refine pv_i2l hc dX9_spelt_78 ?_
                refine pv_ladd hc dX9_spelt_79 ?_
                refine pv_ldc2 hc q1734 dX9_spelt_80 ?_
                refine pv_lsub hc dX9_spelt_83 ?_
                refine pv_lstore (L' := [(7, .long ((((27 : Int64) * v5) + (Int32.toInt64 x4)) - (96 : Int64))), (4, .int x4), (5, .int x5), (6, .int x6)]) hc dX9_spelt_84 hN (by decide) rfl ?_
                refine pv_sub [2, 3, 0] rfl ?_
                exact hj8 _ h)
          refine pv_if_le (tgt := 65) hc dX9_spelt_47 (by decide) h (fun h => ?_) (fun h => ?_)
          · refine pv_sub [1, 2, 3, 4] rfl ?_
            exact hj6 _ h
          · refine pv_ldc2 hc q1733 dX9_spelt_50 ?_
            refine pv_lload 4 hc dX9_spelt_53 rfl ?_
            refine pv_lmul hc dX9_spelt_55 ?_
            refine pv_iload_n 0 hc dX9_spelt_56 rfl rfl ?_
            refine pv_i2l hc dX9_spelt_57 ?_
            refine pv_ladd hc dX9_spelt_58 ?_
            refine pv_ldc2 hc q1734 dX9_spelt_59 ?_
            refine pv_lsub hc dX9_spelt_62 ?_
            refine pv_lstore (L' := [(7, .long ((((27 : Int64) * v3) + (Int32.toInt64 x3)) - (96 : Int64))), (3, .int x3), (4, .int x4), (5, .int x5), (6, .int x6)]) hc dX9_spelt_63 hN (by decide) rfl ?_
            refine pv_sub [2, 3, 4, 0] rfl ?_
            exact hj6 _ h)
      refine pv_if_le (tgt := 46) hc dX9_spelt_28 (by decide) h (fun h => ?_) (fun h => ?_)
      · refine pv_sub [1, 2, 3, 4, 5] rfl ?_
        exact hj4 _ h
      · refine pv_ldc2 hc q1733 dX9_spelt_31 ?_
        refine pv_lload 5 hc dX9_spelt_34 rfl ?_
        refine pv_lmul hc dX9_spelt_36 ?_
        refine pv_iload_n 0 hc dX9_spelt_37 rfl rfl ?_
        refine pv_i2l hc dX9_spelt_38 ?_
        refine pv_ladd hc dX9_spelt_39 ?_
        refine pv_ldc2 hc q1734 dX9_spelt_40 ?_
        refine pv_lsub hc dX9_spelt_43 ?_
        refine pv_lstore (L' := [(7, .long ((((27 : Int64) * v1) + (Int32.toInt64 x2)) - (96 : Int64))), (2, .int x2), (3, .int x3), (4, .int x4), (5, .int x5), (6, .int x6)]) hc dX9_spelt_44 hN (by decide) rfl ?_
        refine pv_sub [2, 3, 4, 5, 0] rfl ?_
        exact hj4 _ h)
  refine pv_if_le (tgt := 27) hc dX9_spelt_9 (by decide) h (fun h => ?_) (fun h => ?_)
  · refine pv_sub [3, 4, 5, 6, 7, 0] rfl ?_
    exact hj2 _ h
  · refine pv_ldc2 hc q1733 dX9_spelt_12 ?_
    refine pv_lload 0 hc dX9_spelt_15 rfl ?_
    refine pv_lmul hc dX9_spelt_17 ?_
    refine pv_iload_n 2 hc dX9_spelt_18 rfl rfl ?_
    refine pv_i2l hc dX9_spelt_19 ?_
    refine pv_ladd hc dX9_spelt_20 ?_
    refine pv_ldc2 hc q1734 dX9_spelt_21 ?_
    refine pv_lsub hc dX9_spelt_24 ?_
    refine pv_lstore (L' := [(7, .long ((((27 : Int64) * ((Int32.toInt64 x0) - (96 : Int64))) + (Int32.toInt64 x1)) - (96 : Int64))), (0, .int x0), (1, .int x1), (2, .int x2), (3, .int x3), (4, .int x4), (5, .int x5), (6, .int x6)]) hc dX9_spelt_25 hN (by decide) rfl ?_
    refine pv_sub [3, 4, 5, 6, 7, 0] rfl ?_
    exact hj2 _ h
def m_wordOf (x0 : Int32) : Option Int64 := (if x0 = (0 : Int32) then BD (m_spelt (112 : Int32) (97 : Int32) (114 : Int32) (108 : Int32) (111 : Int32) (117 : Int32) (114 : Int32)) (fun v2 => some v2) else if x0 = (1 : Int32) then BD (m_spelt (115 : Int32) (105 : Int32) (103 : Int32) (104 : Int32) (116 : Int32) (0 : Int32) (0 : Int32)) (fun v5 => some v5) else if x0 = (2 : Int32) then BD (m_spelt (112 : Int32) (108 : Int32) (97 : Int32) (110 : Int32) (116 : Int32) (0 : Int32) (0 : Int32)) (fun v8 => some v8) else if x0 = (3 : Int32) then BD (m_spelt (112 : Int32) (101 : Int32) (114 : Int32) (115 : Int32) (111 : Int32) (110 : Int32) (0 : Int32)) (fun v11 => some v11) else if x0 = (4 : Int32) then BD (m_spelt (100 : Int32) (101 : Int32) (101 : Int32) (100 : Int32) (0 : Int32) (0 : Int32) (0 : Int32)) (fun v14 => some v14) else if x0 = (5 : Int32) then BD (m_spelt (100 : Int32) (117 : Int32) (115 : Int32) (116 : Int32) (121 : Int32) (0 : Int32) (0 : Int32)) (fun v17 => some v17) else if x0 = (6 : Int32) then BD (m_spelt (112 : Int32) (114 : Int32) (111 : Int32) (111 : Int32) (102 : Int32) (0 : Int32) (0 : Int32)) (fun v20 => some v20) else if x0 = (7 : Int32) then BD (m_spelt (100 : Int32) (111 : Int32) (101 : Int32) (115 : Int32) (0 : Int32) (0 : Int32) (0 : Int32)) (fun v23 => some v23) else if x0 = (8 : Int32) then BD (m_spelt (115 : Int32) (112 : Int32) (111 : Int32) (110 : Int32) (103 : Int32) (101 : Int32) (0 : Int32)) (fun v26 => some v26) else if x0 = (9 : Int32) then BD (m_spelt (99 : Int32) (97 : Int32) (114 : Int32) (114 : Int32) (121 : Int32) (0 : Int32) (0 : Int32)) (fun v29 => some v29) else if x0 = (10 : Int32) then BD (m_spelt (100 : Int32) (97 : Int32) (121 : Int32) (0 : Int32) (0 : Int32) (0 : Int32) (0 : Int32)) (fun v32 => some v32) else if x0 = (11 : Int32) then BD (m_spelt (111 : Int32) (114 : Int32) (0 : Int32) (0 : Int32) (0 : Int32) (0 : Int32) (0 : Int32)) (fun v35 => some v35) else if x0 = (12 : Int32) then BD (m_spelt (97 : Int32) (110 : Int32) (100 : Int32) (0 : Int32) (0 : Int32) (0 : Int32) (0 : Int32)) (fun v38 => some v38) else if x0 = (13 : Int32) then BD (m_spelt (110 : Int32) (111 : Int32) (116 : Int32) (0 : Int32) (0 : Int32) (0 : Int32) (0 : Int32)) (fun v41 => some v41) else if x0 = (14 : Int32) then BD (m_spelt (98 : Int32) (108 : Int32) (105 : Int32) (110 : Int32) (100 : Int32) (0 : Int32) (0 : Int32)) (fun v44 => some v44) else if x0 = (15 : Int32) then BD (m_spelt (102 : Int32) (101 : Int32) (114 : Int32) (110 : Int32) (0 : Int32) (0 : Int32) (0 : Int32)) (fun v47 => some v47) else if x0 = (16 : Int32) then BD (m_spelt (105 : Int32) (110 : Int32) (0 : Int32) (0 : Int32) (0 : Int32) (0 : Int32) (0 : Int32)) (fun v50 => some v50) else if x0 = (17 : Int32) then BD (m_spelt (115 : Int32) (101 : Int32) (101 : Int32) (115 : Int32) (0 : Int32) (0 : Int32) (0 : Int32)) (fun v53 => some v53) else if x0 = (18 : Int32) then BD (m_spelt (116 : Int32) (101 : Int32) (108 : Int32) (108 : Int32) (115 : Int32) (0 : Int32) (0 : Int32)) (fun v56 => some v56) else if x0 = (19 : Int32) then BD (m_spelt (108 : Int32) (101 : Int32) (97 : Int32) (118 : Int32) (101 : Int32) (115 : Int32) (0 : Int32)) (fun v59 => some v59) else if x0 = (20 : Int32) then BD (m_spelt (100 : Int32) (117 : Int32) (115 : Int32) (116 : Int32) (0 : Int32) (0 : Int32) (0 : Int32)) (fun v62 => some v62) else BD (m_spelt (110 : Int32) (117 : Int32) (109 : Int32) (98 : Int32) (101 : Int32) (114 : Int32) (0 : Int32)) (fun v65 => some v65))
set_option maxHeartbeats 4000000 in
theorem m_wordOf_ok {l : Launch} {g : Gh} {G : Wd} {x0 : Int32} {r : Int64} (hf : m_wordOf x0 = some r) : MT l g yX9_wordOf cX9_wordOf 1 (some .long) 2 G [.int x0] (some (.long r)) G := by
  refine pv_start (by decide) (Nat.le_of_ble_eq_true rfl) ?_
  intro X hl hg hN hc hr _ _ _ hQ
  subst hl; subst hg
  have h := hf
  unfold m_wordOf at h
  show V X 0 0 _ [(0, .int x0)] [] 0
  refine pv_iload_n 0 hc dX9_wordOf_0 rfl rfl ?_
  refine pv_tsw (tgt := 100) (c := 0) (off := 99) hc dX9_wordOf_1 (by decide) (by decide) (by decide) (by decide) h (fun h => ?_) (fun hx3 h => ?_)
  · refine pv_bipush (112 : Int32) hc dX9_wordOf_100 rfl ?_
    refine pv_bipush (97 : Int32) hc dX9_wordOf_102 rfl ?_
    refine pv_bipush (114 : Int32) hc dX9_wordOf_104 rfl ?_
    refine pv_bipush (108 : Int32) hc dX9_wordOf_106 rfl ?_
    refine pv_bipush (111 : Int32) hc dX9_wordOf_108 rfl ?_
    refine pv_bipush (117 : Int32) hc dX9_wordOf_110 rfl ?_
    refine pv_bipush (114 : Int32) hc dX9_wordOf_112 rfl ?_
    obtain ⟨v2, hf1, h⟩ := BD_el h
    refine m_call_58 hc (m_spelt_ok hf1) (by decide) (Nat.le_of_ble_eq_true rfl) dX9_wordOf_114 ?_
    exact pv_lret hc hr hQ (e_l1 h) rfl dX9_wordOf_117
  refine pv_tsw (tgt := 118) (c := 1) (off := 117) hc dX9_wordOf_1 (by decide) (by decide) (by decide) (by decide) h (fun h => ?_) (fun hx6 h => ?_)
  · refine pv_bipush (115 : Int32) hc dX9_wordOf_118 rfl ?_
    refine pv_bipush (105 : Int32) hc dX9_wordOf_120 rfl ?_
    refine pv_bipush (103 : Int32) hc dX9_wordOf_122 rfl ?_
    refine pv_bipush (104 : Int32) hc dX9_wordOf_124 rfl ?_
    refine pv_bipush (116 : Int32) hc dX9_wordOf_126 rfl ?_
    refine pv_iconst (0 : Int32) hc dX9_wordOf_128 rfl ?_
    refine pv_iconst (0 : Int32) hc dX9_wordOf_129 rfl ?_
    obtain ⟨v5, hf4, h⟩ := BD_el h
    refine m_call_58 hc (m_spelt_ok hf4) (by decide) (Nat.le_of_ble_eq_true rfl) dX9_wordOf_130 ?_
    exact pv_lret hc hr hQ (e_l1 h) rfl dX9_wordOf_133
  refine pv_tsw (tgt := 134) (c := 2) (off := 133) hc dX9_wordOf_1 (by decide) (by decide) (by decide) (by decide) h (fun h => ?_) (fun hx9 h => ?_)
  · refine pv_bipush (112 : Int32) hc dX9_wordOf_134 rfl ?_
    refine pv_bipush (108 : Int32) hc dX9_wordOf_136 rfl ?_
    refine pv_bipush (97 : Int32) hc dX9_wordOf_138 rfl ?_
    refine pv_bipush (110 : Int32) hc dX9_wordOf_140 rfl ?_
    refine pv_bipush (116 : Int32) hc dX9_wordOf_142 rfl ?_
    refine pv_iconst (0 : Int32) hc dX9_wordOf_144 rfl ?_
    refine pv_iconst (0 : Int32) hc dX9_wordOf_145 rfl ?_
    obtain ⟨v8, hf7, h⟩ := BD_el h
    refine m_call_58 hc (m_spelt_ok hf7) (by decide) (Nat.le_of_ble_eq_true rfl) dX9_wordOf_146 ?_
    exact pv_lret hc hr hQ (e_l1 h) rfl dX9_wordOf_149
  refine pv_tsw (tgt := 150) (c := 3) (off := 149) hc dX9_wordOf_1 (by decide) (by decide) (by decide) (by decide) h (fun h => ?_) (fun hx12 h => ?_)
  · refine pv_bipush (112 : Int32) hc dX9_wordOf_150 rfl ?_
    refine pv_bipush (101 : Int32) hc dX9_wordOf_152 rfl ?_
    refine pv_bipush (114 : Int32) hc dX9_wordOf_154 rfl ?_
    refine pv_bipush (115 : Int32) hc dX9_wordOf_156 rfl ?_
    refine pv_bipush (111 : Int32) hc dX9_wordOf_158 rfl ?_
    refine pv_bipush (110 : Int32) hc dX9_wordOf_160 rfl ?_
    refine pv_iconst (0 : Int32) hc dX9_wordOf_162 rfl ?_
    obtain ⟨v11, hf10, h⟩ := BD_el h
    refine m_call_58 hc (m_spelt_ok hf10) (by decide) (Nat.le_of_ble_eq_true rfl) dX9_wordOf_163 ?_
    exact pv_lret hc hr hQ (e_l1 h) rfl dX9_wordOf_166
  refine pv_tsw (tgt := 167) (c := 4) (off := 166) hc dX9_wordOf_1 (by decide) (by decide) (by decide) (by decide) h (fun h => ?_) (fun hx15 h => ?_)
  · refine pv_bipush (100 : Int32) hc dX9_wordOf_167 rfl ?_
    refine pv_bipush (101 : Int32) hc dX9_wordOf_169 rfl ?_
    refine pv_bipush (101 : Int32) hc dX9_wordOf_171 rfl ?_
    refine pv_bipush (100 : Int32) hc dX9_wordOf_173 rfl ?_
    refine pv_iconst (0 : Int32) hc dX9_wordOf_175 rfl ?_
    refine pv_iconst (0 : Int32) hc dX9_wordOf_176 rfl ?_
    refine pv_iconst (0 : Int32) hc dX9_wordOf_177 rfl ?_
    obtain ⟨v14, hf13, h⟩ := BD_el h
    refine m_call_58 hc (m_spelt_ok hf13) (by decide) (Nat.le_of_ble_eq_true rfl) dX9_wordOf_178 ?_
    exact pv_lret hc hr hQ (e_l1 h) rfl dX9_wordOf_181
  refine pv_tsw (tgt := 182) (c := 5) (off := 181) hc dX9_wordOf_1 (by decide) (by decide) (by decide) (by decide) h (fun h => ?_) (fun hx18 h => ?_)
  · refine pv_bipush (100 : Int32) hc dX9_wordOf_182 rfl ?_
    refine pv_bipush (117 : Int32) hc dX9_wordOf_184 rfl ?_
    refine pv_bipush (115 : Int32) hc dX9_wordOf_186 rfl ?_
    refine pv_bipush (116 : Int32) hc dX9_wordOf_188 rfl ?_
    refine pv_bipush (121 : Int32) hc dX9_wordOf_190 rfl ?_
    refine pv_iconst (0 : Int32) hc dX9_wordOf_192 rfl ?_
    refine pv_iconst (0 : Int32) hc dX9_wordOf_193 rfl ?_
    obtain ⟨v17, hf16, h⟩ := BD_el h
    refine m_call_58 hc (m_spelt_ok hf16) (by decide) (Nat.le_of_ble_eq_true rfl) dX9_wordOf_194 ?_
    exact pv_lret hc hr hQ (e_l1 h) rfl dX9_wordOf_197
  refine pv_tsw (tgt := 198) (c := 6) (off := 197) hc dX9_wordOf_1 (by decide) (by decide) (by decide) (by decide) h (fun h => ?_) (fun hx21 h => ?_)
  · refine pv_bipush (112 : Int32) hc dX9_wordOf_198 rfl ?_
    refine pv_bipush (114 : Int32) hc dX9_wordOf_200 rfl ?_
    refine pv_bipush (111 : Int32) hc dX9_wordOf_202 rfl ?_
    refine pv_bipush (111 : Int32) hc dX9_wordOf_204 rfl ?_
    refine pv_bipush (102 : Int32) hc dX9_wordOf_206 rfl ?_
    refine pv_iconst (0 : Int32) hc dX9_wordOf_208 rfl ?_
    refine pv_iconst (0 : Int32) hc dX9_wordOf_209 rfl ?_
    obtain ⟨v20, hf19, h⟩ := BD_el h
    refine m_call_58 hc (m_spelt_ok hf19) (by decide) (Nat.le_of_ble_eq_true rfl) dX9_wordOf_210 ?_
    exact pv_lret hc hr hQ (e_l1 h) rfl dX9_wordOf_213
  refine pv_tsw (tgt := 214) (c := 7) (off := 213) hc dX9_wordOf_1 (by decide) (by decide) (by decide) (by decide) h (fun h => ?_) (fun hx24 h => ?_)
  · refine pv_bipush (100 : Int32) hc dX9_wordOf_214 rfl ?_
    refine pv_bipush (111 : Int32) hc dX9_wordOf_216 rfl ?_
    refine pv_bipush (101 : Int32) hc dX9_wordOf_218 rfl ?_
    refine pv_bipush (115 : Int32) hc dX9_wordOf_220 rfl ?_
    refine pv_iconst (0 : Int32) hc dX9_wordOf_222 rfl ?_
    refine pv_iconst (0 : Int32) hc dX9_wordOf_223 rfl ?_
    refine pv_iconst (0 : Int32) hc dX9_wordOf_224 rfl ?_
    obtain ⟨v23, hf22, h⟩ := BD_el h
    refine m_call_58 hc (m_spelt_ok hf22) (by decide) (Nat.le_of_ble_eq_true rfl) dX9_wordOf_225 ?_
    exact pv_lret hc hr hQ (e_l1 h) rfl dX9_wordOf_228
  refine pv_tsw (tgt := 229) (c := 8) (off := 228) hc dX9_wordOf_1 (by decide) (by decide) (by decide) (by decide) h (fun h => ?_) (fun hx27 h => ?_)
  · refine pv_bipush (115 : Int32) hc dX9_wordOf_229 rfl ?_
    refine pv_bipush (112 : Int32) hc dX9_wordOf_231 rfl ?_
    refine pv_bipush (111 : Int32) hc dX9_wordOf_233 rfl ?_
    refine pv_bipush (110 : Int32) hc dX9_wordOf_235 rfl ?_
    refine pv_bipush (103 : Int32) hc dX9_wordOf_237 rfl ?_
    refine pv_bipush (101 : Int32) hc dX9_wordOf_239 rfl ?_
    refine pv_iconst (0 : Int32) hc dX9_wordOf_241 rfl ?_
    obtain ⟨v26, hf25, h⟩ := BD_el h
    refine m_call_58 hc (m_spelt_ok hf25) (by decide) (Nat.le_of_ble_eq_true rfl) dX9_wordOf_242 ?_
    exact pv_lret hc hr hQ (e_l1 h) rfl dX9_wordOf_245
  refine pv_tsw (tgt := 246) (c := 9) (off := 245) hc dX9_wordOf_1 (by decide) (by decide) (by decide) (by decide) h (fun h => ?_) (fun hx30 h => ?_)
  · refine pv_bipush (99 : Int32) hc dX9_wordOf_246 rfl ?_
    refine pv_bipush (97 : Int32) hc dX9_wordOf_248 rfl ?_
    refine pv_bipush (114 : Int32) hc dX9_wordOf_250 rfl ?_
    refine pv_bipush (114 : Int32) hc dX9_wordOf_252 rfl ?_
    refine pv_bipush (121 : Int32) hc dX9_wordOf_254 rfl ?_
    refine pv_iconst (0 : Int32) hc dX9_wordOf_256 rfl ?_
    refine pv_iconst (0 : Int32) hc dX9_wordOf_257 rfl ?_
    obtain ⟨v29, hf28, h⟩ := BD_el h
    refine m_call_58 hc (m_spelt_ok hf28) (by decide) (Nat.le_of_ble_eq_true rfl) dX9_wordOf_258 ?_
    exact pv_lret hc hr hQ (e_l1 h) rfl dX9_wordOf_261
  refine pv_tsw (tgt := 262) (c := 10) (off := 261) hc dX9_wordOf_1 (by decide) (by decide) (by decide) (by decide) h (fun h => ?_) (fun hx33 h => ?_)
  · refine pv_bipush (100 : Int32) hc dX9_wordOf_262 rfl ?_
    refine pv_bipush (97 : Int32) hc dX9_wordOf_264 rfl ?_
    refine pv_bipush (121 : Int32) hc dX9_wordOf_266 rfl ?_
    refine pv_iconst (0 : Int32) hc dX9_wordOf_268 rfl ?_
    refine pv_iconst (0 : Int32) hc dX9_wordOf_269 rfl ?_
    refine pv_iconst (0 : Int32) hc dX9_wordOf_270 rfl ?_
    refine pv_iconst (0 : Int32) hc dX9_wordOf_271 rfl ?_
    obtain ⟨v32, hf31, h⟩ := BD_el h
    refine m_call_58 hc (m_spelt_ok hf31) (by decide) (Nat.le_of_ble_eq_true rfl) dX9_wordOf_272 ?_
    exact pv_lret hc hr hQ (e_l1 h) rfl dX9_wordOf_275
  refine pv_tsw (tgt := 276) (c := 11) (off := 275) hc dX9_wordOf_1 (by decide) (by decide) (by decide) (by decide) h (fun h => ?_) (fun hx36 h => ?_)
  · refine pv_bipush (111 : Int32) hc dX9_wordOf_276 rfl ?_
    refine pv_bipush (114 : Int32) hc dX9_wordOf_278 rfl ?_
    refine pv_iconst (0 : Int32) hc dX9_wordOf_280 rfl ?_
    refine pv_iconst (0 : Int32) hc dX9_wordOf_281 rfl ?_
    refine pv_iconst (0 : Int32) hc dX9_wordOf_282 rfl ?_
    refine pv_iconst (0 : Int32) hc dX9_wordOf_283 rfl ?_
    refine pv_iconst (0 : Int32) hc dX9_wordOf_284 rfl ?_
    obtain ⟨v35, hf34, h⟩ := BD_el h
    refine m_call_58 hc (m_spelt_ok hf34) (by decide) (Nat.le_of_ble_eq_true rfl) dX9_wordOf_285 ?_
    exact pv_lret hc hr hQ (e_l1 h) rfl dX9_wordOf_288
  refine pv_tsw (tgt := 289) (c := 12) (off := 288) hc dX9_wordOf_1 (by decide) (by decide) (by decide) (by decide) h (fun h => ?_) (fun hx39 h => ?_)
  · refine pv_bipush (97 : Int32) hc dX9_wordOf_289 rfl ?_
    refine pv_bipush (110 : Int32) hc dX9_wordOf_291 rfl ?_
    refine pv_bipush (100 : Int32) hc dX9_wordOf_293 rfl ?_
    refine pv_iconst (0 : Int32) hc dX9_wordOf_295 rfl ?_
    refine pv_iconst (0 : Int32) hc dX9_wordOf_296 rfl ?_
    refine pv_iconst (0 : Int32) hc dX9_wordOf_297 rfl ?_
    refine pv_iconst (0 : Int32) hc dX9_wordOf_298 rfl ?_
    obtain ⟨v38, hf37, h⟩ := BD_el h
    refine m_call_58 hc (m_spelt_ok hf37) (by decide) (Nat.le_of_ble_eq_true rfl) dX9_wordOf_299 ?_
    exact pv_lret hc hr hQ (e_l1 h) rfl dX9_wordOf_302
  refine pv_tsw (tgt := 303) (c := 13) (off := 302) hc dX9_wordOf_1 (by decide) (by decide) (by decide) (by decide) h (fun h => ?_) (fun hx42 h => ?_)
  · refine pv_bipush (110 : Int32) hc dX9_wordOf_303 rfl ?_
    refine pv_bipush (111 : Int32) hc dX9_wordOf_305 rfl ?_
    refine pv_bipush (116 : Int32) hc dX9_wordOf_307 rfl ?_
    refine pv_iconst (0 : Int32) hc dX9_wordOf_309 rfl ?_
    refine pv_iconst (0 : Int32) hc dX9_wordOf_310 rfl ?_
    refine pv_iconst (0 : Int32) hc dX9_wordOf_311 rfl ?_
    refine pv_iconst (0 : Int32) hc dX9_wordOf_312 rfl ?_
    obtain ⟨v41, hf40, h⟩ := BD_el h
    refine m_call_58 hc (m_spelt_ok hf40) (by decide) (Nat.le_of_ble_eq_true rfl) dX9_wordOf_313 ?_
    exact pv_lret hc hr hQ (e_l1 h) rfl dX9_wordOf_316
  refine pv_tsw (tgt := 317) (c := 14) (off := 316) hc dX9_wordOf_1 (by decide) (by decide) (by decide) (by decide) h (fun h => ?_) (fun hx45 h => ?_)
  · refine pv_bipush (98 : Int32) hc dX9_wordOf_317 rfl ?_
    refine pv_bipush (108 : Int32) hc dX9_wordOf_319 rfl ?_
    refine pv_bipush (105 : Int32) hc dX9_wordOf_321 rfl ?_
    refine pv_bipush (110 : Int32) hc dX9_wordOf_323 rfl ?_
    refine pv_bipush (100 : Int32) hc dX9_wordOf_325 rfl ?_
    refine pv_iconst (0 : Int32) hc dX9_wordOf_327 rfl ?_
    refine pv_iconst (0 : Int32) hc dX9_wordOf_328 rfl ?_
    obtain ⟨v44, hf43, h⟩ := BD_el h
    refine m_call_58 hc (m_spelt_ok hf43) (by decide) (Nat.le_of_ble_eq_true rfl) dX9_wordOf_329 ?_
    exact pv_lret hc hr hQ (e_l1 h) rfl dX9_wordOf_332
  refine pv_tsw (tgt := 333) (c := 15) (off := 332) hc dX9_wordOf_1 (by decide) (by decide) (by decide) (by decide) h (fun h => ?_) (fun hx48 h => ?_)
  · refine pv_bipush (102 : Int32) hc dX9_wordOf_333 rfl ?_
    refine pv_bipush (101 : Int32) hc dX9_wordOf_335 rfl ?_
    refine pv_bipush (114 : Int32) hc dX9_wordOf_337 rfl ?_
    refine pv_bipush (110 : Int32) hc dX9_wordOf_339 rfl ?_
    refine pv_iconst (0 : Int32) hc dX9_wordOf_341 rfl ?_
    refine pv_iconst (0 : Int32) hc dX9_wordOf_342 rfl ?_
    refine pv_iconst (0 : Int32) hc dX9_wordOf_343 rfl ?_
    obtain ⟨v47, hf46, h⟩ := BD_el h
    refine m_call_58 hc (m_spelt_ok hf46) (by decide) (Nat.le_of_ble_eq_true rfl) dX9_wordOf_344 ?_
    exact pv_lret hc hr hQ (e_l1 h) rfl dX9_wordOf_347
  refine pv_tsw (tgt := 348) (c := 16) (off := 347) hc dX9_wordOf_1 (by decide) (by decide) (by decide) (by decide) h (fun h => ?_) (fun hx51 h => ?_)
  · refine pv_bipush (105 : Int32) hc dX9_wordOf_348 rfl ?_
    refine pv_bipush (110 : Int32) hc dX9_wordOf_350 rfl ?_
    refine pv_iconst (0 : Int32) hc dX9_wordOf_352 rfl ?_
    refine pv_iconst (0 : Int32) hc dX9_wordOf_353 rfl ?_
    refine pv_iconst (0 : Int32) hc dX9_wordOf_354 rfl ?_
    refine pv_iconst (0 : Int32) hc dX9_wordOf_355 rfl ?_
    refine pv_iconst (0 : Int32) hc dX9_wordOf_356 rfl ?_
    obtain ⟨v50, hf49, h⟩ := BD_el h
    refine m_call_58 hc (m_spelt_ok hf49) (by decide) (Nat.le_of_ble_eq_true rfl) dX9_wordOf_357 ?_
    exact pv_lret hc hr hQ (e_l1 h) rfl dX9_wordOf_360
  refine pv_tsw (tgt := 361) (c := 17) (off := 360) hc dX9_wordOf_1 (by decide) (by decide) (by decide) (by decide) h (fun h => ?_) (fun hx54 h => ?_)
  · refine pv_bipush (115 : Int32) hc dX9_wordOf_361 rfl ?_
    refine pv_bipush (101 : Int32) hc dX9_wordOf_363 rfl ?_
    refine pv_bipush (101 : Int32) hc dX9_wordOf_365 rfl ?_
    refine pv_bipush (115 : Int32) hc dX9_wordOf_367 rfl ?_
    refine pv_iconst (0 : Int32) hc dX9_wordOf_369 rfl ?_
    refine pv_iconst (0 : Int32) hc dX9_wordOf_370 rfl ?_
    refine pv_iconst (0 : Int32) hc dX9_wordOf_371 rfl ?_
    obtain ⟨v53, hf52, h⟩ := BD_el h
    refine m_call_58 hc (m_spelt_ok hf52) (by decide) (Nat.le_of_ble_eq_true rfl) dX9_wordOf_372 ?_
    exact pv_lret hc hr hQ (e_l1 h) rfl dX9_wordOf_375
  refine pv_tsw (tgt := 376) (c := 18) (off := 375) hc dX9_wordOf_1 (by decide) (by decide) (by decide) (by decide) h (fun h => ?_) (fun hx57 h => ?_)
  · refine pv_bipush (116 : Int32) hc dX9_wordOf_376 rfl ?_
    refine pv_bipush (101 : Int32) hc dX9_wordOf_378 rfl ?_
    refine pv_bipush (108 : Int32) hc dX9_wordOf_380 rfl ?_
    refine pv_bipush (108 : Int32) hc dX9_wordOf_382 rfl ?_
    refine pv_bipush (115 : Int32) hc dX9_wordOf_384 rfl ?_
    refine pv_iconst (0 : Int32) hc dX9_wordOf_386 rfl ?_
    refine pv_iconst (0 : Int32) hc dX9_wordOf_387 rfl ?_
    obtain ⟨v56, hf55, h⟩ := BD_el h
    refine m_call_58 hc (m_spelt_ok hf55) (by decide) (Nat.le_of_ble_eq_true rfl) dX9_wordOf_388 ?_
    exact pv_lret hc hr hQ (e_l1 h) rfl dX9_wordOf_391
  refine pv_tsw (tgt := 392) (c := 19) (off := 391) hc dX9_wordOf_1 (by decide) (by decide) (by decide) (by decide) h (fun h => ?_) (fun hx60 h => ?_)
  · refine pv_bipush (108 : Int32) hc dX9_wordOf_392 rfl ?_
    refine pv_bipush (101 : Int32) hc dX9_wordOf_394 rfl ?_
    refine pv_bipush (97 : Int32) hc dX9_wordOf_396 rfl ?_
    refine pv_bipush (118 : Int32) hc dX9_wordOf_398 rfl ?_
    refine pv_bipush (101 : Int32) hc dX9_wordOf_400 rfl ?_
    refine pv_bipush (115 : Int32) hc dX9_wordOf_402 rfl ?_
    refine pv_iconst (0 : Int32) hc dX9_wordOf_404 rfl ?_
    obtain ⟨v59, hf58, h⟩ := BD_el h
    refine m_call_58 hc (m_spelt_ok hf58) (by decide) (Nat.le_of_ble_eq_true rfl) dX9_wordOf_405 ?_
    exact pv_lret hc hr hQ (e_l1 h) rfl dX9_wordOf_408
  refine pv_tsw (tgt := 409) (c := 20) (off := 408) hc dX9_wordOf_1 (by decide) (by decide) (by decide) (by decide) h (fun h => ?_) (fun hx63 h => ?_)
  · refine pv_bipush (100 : Int32) hc dX9_wordOf_409 rfl ?_
    refine pv_bipush (117 : Int32) hc dX9_wordOf_411 rfl ?_
    refine pv_bipush (115 : Int32) hc dX9_wordOf_413 rfl ?_
    refine pv_bipush (116 : Int32) hc dX9_wordOf_415 rfl ?_
    refine pv_iconst (0 : Int32) hc dX9_wordOf_417 rfl ?_
    refine pv_iconst (0 : Int32) hc dX9_wordOf_418 rfl ?_
    refine pv_iconst (0 : Int32) hc dX9_wordOf_419 rfl ?_
    obtain ⟨v62, hf61, h⟩ := BD_el h
    refine m_call_58 hc (m_spelt_ok hf61) (by decide) (Nat.le_of_ble_eq_true rfl) dX9_wordOf_420 ?_
    exact pv_lret hc hr hQ (e_l1 h) rfl dX9_wordOf_423
  refine pv_tableOut (tgt := 424) hc dX9_wordOf_1 (tsw_out 0 [0, 1, 2, 3, 4, 5, 6, 7, 8, 9, 10, 11, 12, 13, 14, 15, 16, 17, 18, 19, 20] (ne_c hx3 (ne_c hx6 (ne_c hx9 (ne_c hx12 (ne_c hx15 (ne_c hx18 (ne_c hx21 (ne_c hx24 (ne_c hx27 (ne_c hx30 (ne_c hx33 (ne_c hx36 (ne_c hx39 (ne_c hx42 (ne_c hx45 (ne_c hx48 (ne_c hx51 (ne_c hx54 (ne_c hx57 (ne_c hx60 (ne_c hx63 ne_n))))))))))))))))))))) 20 (by decide)) (by decide) ?_
  refine pv_bipush (110 : Int32) hc dX9_wordOf_424 rfl ?_
  refine pv_bipush (117 : Int32) hc dX9_wordOf_426 rfl ?_
  refine pv_bipush (109 : Int32) hc dX9_wordOf_428 rfl ?_
  refine pv_bipush (98 : Int32) hc dX9_wordOf_430 rfl ?_
  refine pv_bipush (101 : Int32) hc dX9_wordOf_432 rfl ?_
  refine pv_bipush (114 : Int32) hc dX9_wordOf_434 rfl ?_
  refine pv_iconst (0 : Int32) hc dX9_wordOf_436 rfl ?_
  obtain ⟨v65, hf64, h⟩ := BD_el h
  refine m_call_58 hc (m_spelt_ok hf64) (by decide) (Nat.le_of_ble_eq_true rfl) dX9_wordOf_437 ?_
  exact pv_lret hc hr hQ (e_l1 h) rfl dX9_wordOf_440
