/-! ParlourLeavesModel's methods: what each computes, and that it does (written by gen/dec_all.py) -/
set_option maxRecDepth 100000
def m_isWord (s : Rec) (x1 : Int32) : Option Int32 := (if (gI s 7) = (2 : Int32) then BD (m_wordOf x1) (fun v2 => (if (lg_cmp (gJ s 12) v2) = 0 then some (1 : Int32) else some (0 : Int32))) else some (0 : Int32))
set_option maxHeartbeats 4000000 in
theorem m_isWord_ok {l : Launch} {g : Gh} {G : Wd} (hM : MOK g) {a : Nat} {s : Rec} (hG : G.2 a = some (7, s)) {x1 : Int32} {r : Int32} (hf : m_isWord s x1 = some r) : MT l g yX9_isWord cX9_isWord 2 (some .boolean) 3 G [.ref a, .int x1] (some (.int r)) G := by
  refine pv_start (by decide) (Nat.le_of_ble_eq_true rfl) ?_
  intro X hl hg hN hc hr _ _ _ hQ
  subst hl; subst hg
  have h := hf
  unfold m_isWord at h
  show V X 0 0 _ [(0, .ref a), (1, .int x1)] [] 0
  refine pv_aload_n 0 hc dX9_isWord_0 rfl rfl ?_
  refine m_get_30 hc hM hG dX9_isWord_1 ?_
  refine pv_iconst (2 : Int32) hc dX9_isWord_4 rfl ?_
  refine pv_icmp_ne (tgt := 24) hc dX9_isWord_5 (by decide) h (fun h => ?_) (fun h => ?_)
  · refine pv_iconst (0 : Int32) hc dX9_isWord_24 rfl ?_
    exact pv_zret hc hr hQ (by decide) (e_i1 h) rfl dX9_isWord_25
  · refine pv_aload_n 0 hc dX9_isWord_8 rfl rfl ?_
    refine m_get_43 hc hM hG dX9_isWord_9 ?_
    refine pv_iload_n 1 hc dX9_isWord_12 rfl rfl ?_
    obtain ⟨v2, hf1, h⟩ := BD_el h
    refine m_call_62 hc (m_wordOf_ok hf1) (by decide) (Nat.le_of_ble_eq_true rfl) dX9_isWord_13 ?_
    refine pv_lcmp hc dX9_isWord_16 ?_
    refine pv_if_ne (tgt := 24) hc dX9_isWord_17 (by decide) h (fun h => ?_) (fun h => ?_)
    · refine pv_iconst (0 : Int32) hc dX9_isWord_24 rfl ?_
      exact pv_zret hc hr hQ (by decide) (e_i1 h) rfl dX9_isWord_25
    · refine pv_iconst (1 : Int32) hc dX9_isWord_20 rfl ?_
      refine pv_goto (tgt := 25) hc dX9_isWord_21 (by decide) ?_
      exact pv_zret hc hr hQ (by decide) (e_i1 h) rfl dX9_isWord_25
def m_put (s : Rec) (x1 : Int32) (x2 : Int32) : Option (Int32 × Rec) := (if x2 = 0 then BZ x2 (some (x2, s)) else IX x1 24 (fun i2 => LT (sA s 15 i2 (gI s 13)) (fun s3 => BZ x2 (some (x2, s3)))))
set_option maxHeartbeats 4000000 in
theorem m_put_ok {l : Launch} {g : Gh} {G : Wd} (hM : MOK g) {a : Nat} {s : Rec} (hG : G.2 a = some (7, s)) {x1 : Int32} {x2 : Int32} {r : Int32} {s' : Rec} (hf : m_put s x1 x2 = some (r, s')) : MT l g yX9_put cX9_put 3 (some .boolean) 1 G [.ref a, .int x1, .int x2] (some (.int r)) (wp G a 7 s') := by
  refine pv_start (by decide) (Nat.le_of_ble_eq_true rfl) ?_
  intro X hl hg hN hc hr _ _ _ hQ
  subst hl; subst hg
  refine pv_G (wp_id hG) ?_
  have h := hf
  unfold m_put at h
  show V X 0 0 _ [(0, .ref a), (1, .int x1), (2, .int x2)] [] 0
  refine pv_iload_n 2 hc dX9_put_0 rfl rfl ?_
  refine pv_if_eq (tgt := 14) hc dX9_put_1 (by decide) h (fun h => ?_) (fun h => ?_)
  · refine pv_iload_n 2 hc dX9_put_14 rfl rfl ?_
    obtain ⟨hb1, h⟩ := BZ_el h
    exact pv_zret hc hr hQ hb1 (e_i2 h) (e_w2 h) dX9_put_15
  · refine pv_aload_n 0 hc dX9_put_4 rfl rfl ?_
    refine m_get_101 hc hM (wp_at G a 7 s) dX9_put_5 ?_
    refine pv_iload_n 1 hc dX9_put_8 rfl rfl ?_
    refine pv_aload_n 0 hc dX9_put_9 rfl rfl ?_
    refine m_get_79 hc hM (wp_at G a 7 s) dX9_put_10 ?_
    obtain ⟨i2, hi2, h⟩ := IX_el h
    obtain ⟨s3, hs3, h⟩ := LT_el h
    refine m_ast_15 hc hM hi2 hs3 dX9_put_13 ?_
    refine pv_iload_n 2 hc dX9_put_14 rfl rfl ?_
    obtain ⟨hb4, h⟩ := BZ_el h
    exact pv_zret hc hr hQ hb4 (e_i2 h) (e_w2 h) dX9_put_15
def m_isIn (x0 : Int32) (x1 : Int32) (x2 : Int32) : Option Int32 := (if x0 < x1 then some (0 : Int32) else (if x2 < x0 then some (0 : Int32) else some (1 : Int32)))
set_option maxHeartbeats 4000000 in
theorem m_isIn_ok {l : Launch} {g : Gh} {G : Wd} {x0 : Int32} {x1 : Int32} {x2 : Int32} {r : Int32} (hf : m_isIn x0 x1 x2 = some r) : MT l g yX9_isIn cX9_isIn 3 (some .boolean) 1 G [.int x0, .int x1, .int x2] (some (.int r)) G := by
  refine pv_start (by decide) (Nat.le_of_ble_eq_true rfl) ?_
  intro X hl hg hN hc hr _ _ _ hQ
  subst hl; subst hg
  have h := hf
  unfold m_isIn at h
  show V X 0 0 _ [(0, .int x0), (1, .int x1), (2, .int x2)] [] 0
  refine pv_iload_n 0 hc dX9_isIn_0 rfl rfl ?_
  refine pv_iload_n 1 hc dX9_isIn_1 rfl rfl ?_
  refine pv_icmp_lt (tgt := 14) hc dX9_isIn_2 (by decide) h (fun h => ?_) (fun h => ?_)
  · refine pv_iconst (0 : Int32) hc dX9_isIn_14 rfl ?_
    exact pv_zret hc hr hQ (by decide) (e_i1 h) rfl dX9_isIn_15
  · refine pv_iload_n 0 hc dX9_isIn_5 rfl rfl ?_
    refine pv_iload_n 2 hc dX9_isIn_6 rfl rfl ?_
    refine pv_icmp_gt (tgt := 14) hc dX9_isIn_7 (by decide) h (fun h => ?_) (fun h => ?_)
    · refine pv_iconst (0 : Int32) hc dX9_isIn_14 rfl ?_
      exact pv_zret hc hr hQ (by decide) (e_i1 h) rfl dX9_isIn_15
    · refine pv_iconst (1 : Int32) hc dX9_isIn_10 rfl ?_
      refine pv_goto (tgt := 15) hc dX9_isIn_11 (by decide) ?_
      exact pv_zret hc hr hQ (by decide) (e_i1 h) rfl dX9_isIn_15
def m_readNumber (s : Rec) (x1 : Int32) (x2 : Int32) : Option (Int32 × Rec) := (if (gI s 7) = (3 : Int32) then BD (m_isIn (gI s 8) x1 x2) (fun v2 => (if v2 = 0 then BD2 (m_bad s (2 : Int32)) (fun v7 s8 => BZ v7 (some (v7, s8))) else LT (sI s 13 (gI s 8)) (fun s3 => BD (m_go s3) (fun s5 => some ((1 : Int32), s5))))) else BD2 (m_bad s (1 : Int32)) (fun v11 s12 => BZ v11 (some (v11, s12))))
set_option maxHeartbeats 4000000 in
theorem m_readNumber_ok {l : Launch} {g : Gh} {G : Wd} (hM : MOK g) {a : Nat} {s : Rec} (hG : G.2 a = some (7, s)) {x1 : Int32} {x2 : Int32} {r : Int32} {s' : Rec} (hf : m_readNumber s x1 x2 = some (r, s')) : MT l g yX9_readNumber cX9_readNumber 3 (some .boolean) 3 G [.ref a, .int x1, .int x2] (some (.int r)) (wp G a 7 s') := by
  refine pv_start (by decide) (Nat.le_of_ble_eq_true rfl) ?_
  intro X hl hg hN hc hr _ _ _ hQ
  subst hl; subst hg
  refine pv_G (wp_id hG) ?_
  have h := hf
  unfold m_readNumber at h
  show V X 0 0 _ [(0, .ref a), (1, .int x1), (2, .int x2)] [] 0
  refine pv_aload_n 0 hc dX9_readNumber_0 rfl rfl ?_
  refine m_get_30 hc hM (wp_at G a 7 s) dX9_readNumber_1 ?_
  refine pv_iconst (3 : Int32) hc dX9_readNumber_4 rfl ?_
  refine pv_icmp_eq (tgt := 14) hc dX9_readNumber_5 (by decide) h (fun h => ?_) (fun h => ?_)
  · refine pv_aload_n 0 hc dX9_readNumber_14 rfl rfl ?_
    refine m_get_47 hc hM (wp_at G a 7 s) dX9_readNumber_15 ?_
    refine pv_iload_n 1 hc dX9_readNumber_18 rfl rfl ?_
    refine pv_iload_n 2 hc dX9_readNumber_19 rfl rfl ?_
    obtain ⟨v2, hf1, h⟩ := BD_el h
    refine m_call_75 hc (m_isIn_ok hf1) (by decide) (Nat.le_of_ble_eq_true rfl) dX9_readNumber_20 ?_
    refine pv_if_ne (tgt := 32) hc dX9_readNumber_23 (by decide) h (fun h => ?_) (fun h => ?_)
    · refine pv_aload_n 0 hc dX9_readNumber_32 rfl rfl ?_
      refine pv_aload_n 0 hc dX9_readNumber_33 rfl rfl ?_
      refine m_get_47 hc hM (wp_at G a 7 s) dX9_readNumber_34 ?_
      obtain ⟨s3, hs3, h⟩ := LT_el h
      refine m_put_79 hc hM hs3 dX9_readNumber_37 ?_
      refine pv_aload_n 0 hc dX9_readNumber_40 rfl rfl ?_
      obtain ⟨s5, hf4, h⟩ := BD_el h
      refine m_call_82 hc hM (m_go_ok hM (wp_at G a 7 s3) hf4) (by decide) (Nat.le_of_ble_eq_true rfl) dX9_readNumber_41 ?_
      refine pv_iconst (1 : Int32) hc dX9_readNumber_44 rfl ?_
      exact pv_zret hc hr hQ (by decide) (e_i2 h) (e_w2 h) dX9_readNumber_45
    · refine pv_aload_n 0 hc dX9_readNumber_26 rfl rfl ?_
      refine pv_iconst (2 : Int32) hc dX9_readNumber_27 rfl ?_
      obtain ⟨v7, s8, hf6, h⟩ := BD2_el h
      refine m_call_72 hc hM (m_bad_ok hM (wp_at G a 7 s) hf6) (by decide) (Nat.le_of_ble_eq_true rfl) dX9_readNumber_28 ?_
      obtain ⟨hb9, h⟩ := BZ_el h
      exact pv_zret hc hr hQ hb9 (e_i2 h) (e_w2 h) dX9_readNumber_31
  · refine pv_aload_n 0 hc dX9_readNumber_8 rfl rfl ?_
    refine pv_iconst (1 : Int32) hc dX9_readNumber_9 rfl ?_
    obtain ⟨v11, s12, hf10, h⟩ := BD2_el h
    refine m_call_72 hc hM (m_bad_ok hM (wp_at G a 7 s) hf10) (by decide) (Nat.le_of_ble_eq_true rfl) dX9_readNumber_10 ?_
    obtain ⟨hb13, h⟩ := BZ_el h
    exact pv_zret hc hr hQ hb13 (e_i2 h) (e_w2 h) dX9_readNumber_13
def m_readOnce (s : Rec) (x1 : Int32) (x2 : Int32) (x3 : Int32) : Option (Int32 × Rec) := IX x1 2 (fun i1 => (if (gA s 23 i1) = 0 then LT (sA s 23 i1 (1 : Int32)) (fun s2 => BD (m_go s2) (fun s4 => BD2 (m_readNumber s4 (1 : Int32) x3) (fun v6 s7 => BD2 (m_put s7 x2 v6) (fun v9 s10 => BZ v9 (some (v9, s10)))))) else BD2 (m_bad s (3 : Int32)) (fun v13 s14 => BZ v13 (some (v13, s14)))))
set_option maxHeartbeats 4000000 in
theorem m_readOnce_ok {l : Launch} {g : Gh} {G : Wd} (hM : MOK g) {a : Nat} {s : Rec} (hG : G.2 a = some (7, s)) {x1 : Int32} {x2 : Int32} {x3 : Int32} {r : Int32} {s' : Rec} (hf : m_readOnce s x1 x2 x3 = some (r, s')) : MT l g yX9_readOnce cX9_readOnce 4 (some .boolean) 4 G [.ref a, .int x1, .int x2, .int x3] (some (.int r)) (wp G a 7 s') := by
  refine pv_start (by decide) (Nat.le_of_ble_eq_true rfl) ?_
  intro X hl hg hN hc hr _ _ _ hQ
  subst hl; subst hg
  refine pv_G (wp_id hG) ?_
  have h := hf
  unfold m_readOnce at h
  show V X 0 0 _ [(0, .ref a), (1, .int x1), (2, .int x2), (3, .int x3)] [] 0
  refine pv_aload_n 0 hc dX9_readOnce_0 rfl rfl ?_
  refine m_get_127 hc hM (wp_at G a 7 s) dX9_readOnce_1 ?_
  refine pv_iload_n 1 hc dX9_readOnce_4 rfl rfl ?_
  obtain ⟨i1, hi1, h⟩ := IX_el h
  refine m_ald_23 hc hM (wp_at G a 7 s) hi1 dX9_readOnce_5 ?_
  refine pv_if_eq (tgt := 15) hc dX9_readOnce_6 (by decide) h (fun h => ?_) (fun h => ?_)
  · refine pv_aload_n 0 hc dX9_readOnce_15 rfl rfl ?_
    refine m_get_127 hc hM (wp_at G a 7 s) dX9_readOnce_16 ?_
    refine pv_iload_n 1 hc dX9_readOnce_19 rfl rfl ?_
    refine pv_iconst (1 : Int32) hc dX9_readOnce_20 rfl ?_
    obtain ⟨s2, hs2, h⟩ := LT_el h
    refine m_ast_23 hc hM (by decide) hi1 hs2 dX9_readOnce_21 ?_
    refine pv_aload_n 0 hc dX9_readOnce_22 rfl rfl ?_
    obtain ⟨s4, hf3, h⟩ := BD_el h
    refine m_call_82 hc hM (m_go_ok hM (wp_at G a 7 s2) hf3) (by decide) (Nat.le_of_ble_eq_true rfl) dX9_readOnce_23 ?_
    refine pv_aload_n 0 hc dX9_readOnce_26 rfl rfl ?_
    refine pv_iload_n 2 hc dX9_readOnce_27 rfl rfl ?_
    refine pv_aload_n 0 hc dX9_readOnce_28 rfl rfl ?_
    refine pv_iconst (1 : Int32) hc dX9_readOnce_29 rfl ?_
    refine pv_iload_n 3 hc dX9_readOnce_30 rfl rfl ?_
    obtain ⟨v6, s7, hf5, h⟩ := BD2_el h
    refine m_call_188 hc hM (m_readNumber_ok hM (wp_at G a 7 s4) hf5) (by decide) (Nat.le_of_ble_eq_true rfl) dX9_readOnce_31 ?_
    obtain ⟨v9, s10, hf8, h⟩ := BD2_el h
    refine m_call_184 hc hM (m_put_ok hM (wp_at G a 7 s7) hf8) (by decide) (Nat.le_of_ble_eq_true rfl) dX9_readOnce_34 ?_
    obtain ⟨hb11, h⟩ := BZ_el h
    exact pv_zret hc hr hQ hb11 (e_i2 h) (e_w2 h) dX9_readOnce_37
  · refine pv_aload_n 0 hc dX9_readOnce_9 rfl rfl ?_
    refine pv_iconst (3 : Int32) hc dX9_readOnce_10 rfl ?_
    obtain ⟨v13, s14, hf12, h⟩ := BD2_el h
    refine m_call_72 hc hM (m_bad_ok hM (wp_at G a 7 s) hf12) (by decide) (Nat.le_of_ble_eq_true rfl) dX9_readOnce_11 ?_
    obtain ⟨hb15, h⟩ := BZ_el h
    exact pv_zret hc hr hQ hb15 (e_i2 h) (e_w2 h) dX9_readOnce_14
def m_readFirst (s : Rec) (x1 : Int32) (x2 : Int32) : Option (Int32 × Rec) := IX x1 24 (fun i1 => (if (gA s 15 i1) = x2 then BD2 (m_bad s (4 : Int32)) (fun v5 s6 => BZ v5 (some (v5, s6))) else BD (m_go s) (fun s3 => some ((1 : Int32), s3))))
set_option maxHeartbeats 4000000 in
theorem m_readFirst_ok {l : Launch} {g : Gh} {G : Wd} (hM : MOK g) {a : Nat} {s : Rec} (hG : G.2 a = some (7, s)) {x1 : Int32} {x2 : Int32} {r : Int32} {s' : Rec} (hf : m_readFirst s x1 x2 = some (r, s')) : MT l g yX9_readFirst cX9_readFirst 3 (some .boolean) 3 G [.ref a, .int x1, .int x2] (some (.int r)) (wp G a 7 s') := by
  refine pv_start (by decide) (Nat.le_of_ble_eq_true rfl) ?_
  intro X hl hg hN hc hr _ _ _ hQ
  subst hl; subst hg
  refine pv_G (wp_id hG) ?_
  have h := hf
  unfold m_readFirst at h
  show V X 0 0 _ [(0, .ref a), (1, .int x1), (2, .int x2)] [] 0
  refine pv_aload_n 0 hc dX9_readFirst_0 rfl rfl ?_
  refine m_get_101 hc hM (wp_at G a 7 s) dX9_readFirst_1 ?_
  refine pv_iload_n 1 hc dX9_readFirst_4 rfl rfl ?_
  obtain ⟨i1, hi1, h⟩ := IX_el h
  refine m_ald_15 hc hM (wp_at G a 7 s) hi1 dX9_readFirst_5 ?_
  refine pv_iload_n 2 hc dX9_readFirst_6 rfl rfl ?_
  refine pv_icmp_ne (tgt := 16) hc dX9_readFirst_7 (by decide) h (fun h => ?_) (fun h => ?_)
  · refine pv_aload_n 0 hc dX9_readFirst_16 rfl rfl ?_
    obtain ⟨s3, hf2, h⟩ := BD_el h
    refine m_call_82 hc hM (m_go_ok hM (wp_at G a 7 s) hf2) (by decide) (Nat.le_of_ble_eq_true rfl) dX9_readFirst_17 ?_
    refine pv_iconst (1 : Int32) hc dX9_readFirst_20 rfl ?_
    exact pv_zret hc hr hQ (by decide) (e_i2 h) (e_w2 h) dX9_readFirst_21
  · refine pv_aload_n 0 hc dX9_readFirst_10 rfl rfl ?_
    refine pv_iconst (4 : Int32) hc dX9_readFirst_11 rfl ?_
    obtain ⟨v5, s6, hf4, h⟩ := BD2_el h
    refine m_call_72 hc hM (m_bad_ok hM (wp_at G a 7 s) hf4) (by decide) (Nat.le_of_ble_eq_true rfl) dX9_readFirst_12 ?_
    obtain ⟨hb7, h⟩ := BZ_el h
    exact pv_zret hc hr hQ hb7 (e_i2 h) (e_w2 h) dX9_readFirst_15
def m_isName (s : Rec)  : Option Int32 := (if (gI s 7) = (2 : Int32) then LP1 (fun (rec2 : Int32 → Option Int32) (v1 : Int32) => (if (21 : Int32) < v1 then some (1 : Int32) else BD (m_wordOf v1) (fun v4 => (if (lg_cmp (gJ s 12) v4) = 0 then some (0 : Int32) else rec2 (v1 + (1 : Int32)))))) FU (0 : Int32) else some (0 : Int32))
set_option maxHeartbeats 4000000 in
theorem m_isName_ok {l : Launch} {g : Gh} {G : Wd} (hM : MOK g) {a : Nat} {s : Rec} (hG : G.2 a = some (7, s))  {r : Int32} (hf : m_isName s  = some r) : MT l g yX9_isName cX9_isName 2 (some .boolean) 3 G [.ref a] (some (.int r)) G := by
  refine pv_start (by decide) (Nat.le_of_ble_eq_true rfl) ?_
  intro X hl hg hN hc hr _ _ _ hQ
  subst hl; subst hg
  have h := hf
  unfold m_isName at h
  show V X 0 0 _ [(0, .ref a)] [] 0
  refine pv_aload_n 0 hc dX9_isName_0 rfl rfl ?_
  refine m_get_30 hc hM hG dX9_isName_1 ?_
  refine pv_iconst (2 : Int32) hc dX9_isName_4 rfl ?_
  refine pv_icmp_eq (tgt := 10) hc dX9_isName_5 (by decide) h (fun h => ?_) (fun h => ?_)
  · refine pv_iconst (0 : Int32) hc dX9_isName_10 rfl ?_
    refine pv_istore_n (L' := [(1, .int (0 : Int32)), (0, .ref a)]) hc dX9_isName_11 rfl hN (by decide) rfl ?_
    refine pv_sub [1, 0] rfl ?_
    refine LP1_el (P := fun v1 => V X 0 0 G [(0, .ref a), (1, .int v1)] [] 12) ?_ FU _ h
    intro rec2 hrec2 v1 h
    refine pv_iload_n 1 hc dX9_isName_12 rfl rfl ?_
    refine pv_bipush (21 : Int32) hc dX9_isName_13 rfl ?_
    refine pv_icmp_gt (tgt := 38) hc dX9_isName_15 (by decide) h (fun h => ?_) (fun h => ?_)
    · refine pv_iconst (1 : Int32) hc dX9_isName_38 rfl ?_
      exact pv_zret hc hr hQ (by decide) (e_i1 h) rfl dX9_isName_39
    · refine pv_aload_n 0 hc dX9_isName_18 rfl rfl ?_
      refine m_get_43 hc hM hG dX9_isName_19 ?_
      refine pv_iload_n 1 hc dX9_isName_22 rfl rfl ?_
      obtain ⟨v4, hf3, h⟩ := BD_el h
      refine m_call_62 hc (m_wordOf_ok hf3) (by decide) (Nat.le_of_ble_eq_true rfl) dX9_isName_23 ?_
      refine pv_lcmp hc dX9_isName_26 ?_
      refine pv_if_ne (tgt := 32) hc dX9_isName_27 (by decide) h (fun h => ?_) (fun h => ?_)
      · refine pv_iinc (L' := [(1, .int (v1 + (1 : Int32))), (0, .ref a)]) 1 (v1 + (1 : Int32)) hc dX9_isName_32 rfl rfl hN (by decide) rfl ?_
        refine pv_goto (tgt := 12) hc dX9_isName_35 (by decide) ?_
        refine pv_sub [1, 0] rfl ?_
        exact hrec2 _ h
      · refine pv_iconst (0 : Int32) hc dX9_isName_30 rfl ?_
        exact pv_zret hc hr hQ (by decide) (e_i1 h) rfl dX9_isName_31
  · refine pv_iconst (0 : Int32) hc dX9_isName_8 rfl ?_
    exact pv_zret hc hr hQ (by decide) (e_i1 h) rfl dX9_isName_9
def m_findIn (x0 : Nat → Int64) (x0N : Nat) (x1 : Int32) (x2 : Int32) (x3 : Int64) : Option Int32 := LP1 (fun (rec2 : Int32 → Option Int32) (v1 : Int32) => (if x2 ≤ v1 then some (-1 : Int32) else IX (x1 + v1) x0N (fun i3 => (if (lg_cmp (x0 i3) x3) = 0 then some v1 else rec2 (v1 + (1 : Int32)))))) FU (0 : Int32)
set_option maxHeartbeats 4000000 in
theorem m_findIn_ok {l : Launch} {g : Gh} {G : Wd} {x0 : Nat → Int64} {x0N : Nat} {x1 : Int32} {x2 : Int32} {x3 : Int64} {x0b x0o x0k x0q : Nat} {x0r : Rec} {x0c : ClassId} (x0G : G.2 x0b = some (x0k, x0r)) (x0E : (gE g x0k x0b x0r)[x0o]? = some (x0q, .inl (x0c, x0N, .inr (.inl x0)))) (x0t : Nat) (x0T : (gty g)[x0t]? = some (x0c, .long)) {r : Int32} (hf : m_findIn x0 x0N x1 x2 x3 = some r) : MT l g yX9_findIn cX9_findIn 6 (some .int) 1 G [.ref x0q, .int x1, .int x2, .long x3] (some (.int r)) G := by
  refine pv_start (by decide) (Nat.le_of_ble_eq_true rfl) ?_
  intro X hl hg hN hc hr _ _ _ hQ
  subst hl; subst hg
  have h := hf
  unfold m_findIn at h
  show V X 0 0 _ [(0, .ref x0q), (1, .int x1), (2, .int x2), (3, .long x3)] [] 0
  refine pv_iconst (0 : Int32) hc dX9_findIn_0 rfl ?_
  refine pv_istore (L' := [(5, .int (0 : Int32)), (0, .ref x0q), (1, .int x1), (2, .int x2), (3, .long x3)]) hc dX9_findIn_1 hN (by decide) rfl ?_
  refine pv_sub [1, 2, 3, 4, 0] rfl ?_
  refine LP1_el (P := fun v1 => V X 0 0 G [(0, .ref x0q), (1, .int x1), (2, .int x2), (3, .long x3), (5, .int v1)] [] 3) ?_ FU _ h
  intro rec2 hrec2 v1 h
  refine pv_iload 4 hc dX9_findIn_3 rfl ?_
  refine pv_iload_n 2 hc dX9_findIn_5 rfl rfl ?_
  refine pv_icmp_ge (tgt := 29) hc dX9_findIn_6 (by decide) h (fun h => ?_) (fun h => ?_)
  · refine pv_iconst (-1 : Int32) hc dX9_findIn_29 rfl ?_
    exact pv_iret hc hr hQ (e_i1 h) rfl dX9_findIn_30
  · refine pv_aload_n 0 hc dX9_findIn_9 rfl rfl ?_
    refine pv_iload_n 1 hc dX9_findIn_10 rfl rfl ?_
    refine pv_iload 4 hc dX9_findIn_11 rfl ?_
    refine pv_iadd hc dX9_findIn_13 ?_
    obtain ⟨i3, hi3, h⟩ := IX_el h
    refine pv_lald hc x0G x0E x0t x0T hi3 dX9_findIn_14 ?_
    refine pv_lload_n 3 hc dX9_findIn_15 rfl rfl ?_
    refine pv_lcmp hc dX9_findIn_16 ?_
    refine pv_if_ne (tgt := 23) hc dX9_findIn_17 (by decide) h (fun h => ?_) (fun h => ?_)
    · refine pv_iinc (L' := [(5, .int (v1 + (1 : Int32))), (0, .ref x0q), (1, .int x1), (2, .int x2), (3, .long x3)]) 4 (v1 + (1 : Int32)) hc dX9_findIn_23 rfl rfl hN (by decide) rfl ?_
      refine pv_goto (tgt := 3) hc dX9_findIn_26 (by decide) ?_
      refine pv_sub [1, 2, 3, 4, 0] rfl ?_
      exact hrec2 _ h
    · refine pv_iload 4 hc dX9_findIn_20 rfl ?_
      exact pv_iret hc hr hQ (e_i1 h) rfl dX9_findIn_22
def m_isTaken (s : Rec)  : Option Int32 := BD (m_findIn (gL s 20) 20 (0 : Int32) (gA s 15 0) (gJ s 12)) (fun v2 => (if v2 = (-1 : Int32) then BD (m_findIn (gL s 20) 20 (5 : Int32) (gA s 15 1) (gJ s 12)) (fun v4 => (if v4 = (-1 : Int32) then BD (m_findIn (gL s 20) 20 (11 : Int32) (gA s 15 2) (gJ s 12)) (fun v6 => (if v6 = (-1 : Int32) then BD (m_findIn (gL s 20) 20 (15 : Int32) (gA s 15 3) (gJ s 12)) (fun v8 => (if v8 = (-1 : Int32) then some (0 : Int32) else some (1 : Int32))) else some (1 : Int32))) else some (1 : Int32))) else some (1 : Int32)))
set_option maxHeartbeats 4000000 in
theorem m_isTaken_ok {l : Launch} {g : Gh} {G : Wd} (hM : MOK g) {a : Nat} {s : Rec} (hG : G.2 a = some (7, s))  {r : Int32} (hf : m_isTaken s  = some r) : MT l g yX9_isTaken cX9_isTaken 1 (some .boolean) 2 G [.ref a] (some (.int r)) G := by
  refine pv_start (by decide) (Nat.le_of_ble_eq_true rfl) ?_
  intro X hl hg hN hc hr _ _ _ hQ
  subst hl; subst hg
  have h := hf
  unfold m_isTaken at h
  show V X 0 0 _ [(0, .ref a)] [] 0
  refine pv_aload_n 0 hc dX9_isTaken_0 rfl rfl ?_
  refine m_get_117 hc hM hG dX9_isTaken_1 ?_
  refine pv_iconst (0 : Int32) hc dX9_isTaken_4 rfl ?_
  refine pv_aload_n 0 hc dX9_isTaken_5 rfl rfl ?_
  refine m_get_101 hc hM hG dX9_isTaken_6 ?_
  refine pv_iconst (0 : Int32) hc dX9_isTaken_9 rfl ?_
  refine m_ald_15 hc hM hG (vp_lit (j := 0) (by decide)) dX9_isTaken_10 ?_
  refine pv_aload_n 0 hc dX9_isTaken_11 rfl rfl ?_
  refine m_get_43 hc hM hG dX9_isTaken_12 ?_
  obtain ⟨v2, hf1, h⟩ := BD_el h
  refine m_call_160 hc (m_findIn_ok hG (m_cell_20 hM) 1 hM.2.2.2.1 hf1) (by decide) (Nat.le_of_ble_eq_true rfl) dX9_isTaken_15 ?_
  refine pv_iconst (-1 : Int32) hc dX9_isTaken_18 rfl ?_
  refine pv_icmp_ne (tgt := 90) hc dX9_isTaken_19 (by decide) h (fun h => ?_) (fun h => ?_)
  · refine pv_iconst (1 : Int32) hc dX9_isTaken_90 rfl ?_
    refine pv_goto (tgt := 95) hc dX9_isTaken_91 (by decide) ?_
    exact pv_zret hc hr hQ (by decide) (e_i1 h) rfl dX9_isTaken_95
  · refine pv_aload_n 0 hc dX9_isTaken_22 rfl rfl ?_
    refine m_get_117 hc hM hG dX9_isTaken_23 ?_
    refine pv_iconst (5 : Int32) hc dX9_isTaken_26 rfl ?_
    refine pv_aload_n 0 hc dX9_isTaken_27 rfl rfl ?_
    refine m_get_101 hc hM hG dX9_isTaken_28 ?_
    refine pv_iconst (1 : Int32) hc dX9_isTaken_31 rfl ?_
    refine m_ald_15 hc hM hG (vp_lit (j := 1) (by decide)) dX9_isTaken_32 ?_
    refine pv_aload_n 0 hc dX9_isTaken_33 rfl rfl ?_
    refine m_get_43 hc hM hG dX9_isTaken_34 ?_
    obtain ⟨v4, hf3, h⟩ := BD_el h
    refine m_call_160 hc (m_findIn_ok hG (m_cell_20 hM) 1 hM.2.2.2.1 hf3) (by decide) (Nat.le_of_ble_eq_true rfl) dX9_isTaken_37 ?_
    refine pv_iconst (-1 : Int32) hc dX9_isTaken_40 rfl ?_
    refine pv_icmp_ne (tgt := 90) hc dX9_isTaken_41 (by decide) h (fun h => ?_) (fun h => ?_)
    · refine pv_iconst (1 : Int32) hc dX9_isTaken_90 rfl ?_
      refine pv_goto (tgt := 95) hc dX9_isTaken_91 (by decide) ?_
      exact pv_zret hc hr hQ (by decide) (e_i1 h) rfl dX9_isTaken_95
    · refine pv_aload_n 0 hc dX9_isTaken_44 rfl rfl ?_
      refine m_get_117 hc hM hG dX9_isTaken_45 ?_
      refine pv_bipush (11 : Int32) hc dX9_isTaken_48 rfl ?_
      refine pv_aload_n 0 hc dX9_isTaken_50 rfl rfl ?_
      refine m_get_101 hc hM hG dX9_isTaken_51 ?_
      refine pv_iconst (2 : Int32) hc dX9_isTaken_54 rfl ?_
      refine m_ald_15 hc hM hG (vp_lit (j := 2) (by decide)) dX9_isTaken_55 ?_
      refine pv_aload_n 0 hc dX9_isTaken_56 rfl rfl ?_
      refine m_get_43 hc hM hG dX9_isTaken_57 ?_
      obtain ⟨v6, hf5, h⟩ := BD_el h
      refine m_call_160 hc (m_findIn_ok hG (m_cell_20 hM) 1 hM.2.2.2.1 hf5) (by decide) (Nat.le_of_ble_eq_true rfl) dX9_isTaken_60 ?_
      refine pv_iconst (-1 : Int32) hc dX9_isTaken_63 rfl ?_
      refine pv_icmp_ne (tgt := 90) hc dX9_isTaken_64 (by decide) h (fun h => ?_) (fun h => ?_)
      · refine pv_iconst (1 : Int32) hc dX9_isTaken_90 rfl ?_
        refine pv_goto (tgt := 95) hc dX9_isTaken_91 (by decide) ?_
        exact pv_zret hc hr hQ (by decide) (e_i1 h) rfl dX9_isTaken_95
      · refine pv_aload_n 0 hc dX9_isTaken_67 rfl rfl ?_
        refine m_get_117 hc hM hG dX9_isTaken_68 ?_
        refine pv_bipush (15 : Int32) hc dX9_isTaken_71 rfl ?_
        refine pv_aload_n 0 hc dX9_isTaken_73 rfl rfl ?_
        refine m_get_101 hc hM hG dX9_isTaken_74 ?_
        refine pv_iconst (3 : Int32) hc dX9_isTaken_77 rfl ?_
        refine m_ald_15 hc hM hG (vp_lit (j := 3) (by decide)) dX9_isTaken_78 ?_
        refine pv_aload_n 0 hc dX9_isTaken_79 rfl rfl ?_
        refine m_get_43 hc hM hG dX9_isTaken_80 ?_
        obtain ⟨v8, hf7, h⟩ := BD_el h
        refine m_call_160 hc (m_findIn_ok hG (m_cell_20 hM) 1 hM.2.2.2.1 hf7) (by decide) (Nat.le_of_ble_eq_true rfl) dX9_isTaken_83 ?_
        refine pv_iconst (-1 : Int32) hc dX9_isTaken_86 rfl ?_
        refine pv_icmp_eq (tgt := 94) hc dX9_isTaken_87 (by decide) h (fun h => ?_) (fun h => ?_)
        · refine pv_iconst (0 : Int32) hc dX9_isTaken_94 rfl ?_
          exact pv_zret hc hr hQ (by decide) (e_i1 h) rfl dX9_isTaken_95
        · refine pv_iconst (1 : Int32) hc dX9_isTaken_90 rfl ?_
          refine pv_goto (tgt := 95) hc dX9_isTaken_91 (by decide) ?_
          exact pv_zret hc hr hQ (by decide) (e_i1 h) rfl dX9_isTaken_95
def m_readNew (s : Rec) (x1 : Int32) : Option (Int32 × Rec) := BD (m_isName s) (fun v2 => (if v2 = 0 then BD2 (m_bad s (1 : Int32)) (fun v14 s15 => BZ v14 (some (v14, s15))) else BD (m_isTaken s) (fun v4 => (if v4 = 0 then IX x1 20 (fun i5 => LT (sL s 20 i5 (gJ s 12)) (fun s6 => BD (m_go s6) (fun s8 => some ((1 : Int32), s8)))) else BD2 (m_bad s (3 : Int32)) (fun v10 s11 => BZ v10 (some (v10, s11)))))))
set_option maxHeartbeats 4000000 in
theorem m_readNew_ok {l : Launch} {g : Gh} {G : Wd} (hM : MOK g) {a : Nat} {s : Rec} (hG : G.2 a = some (7, s)) {x1 : Int32} {r : Int32} {s' : Rec} (hf : m_readNew s x1 = some (r, s')) : MT l g yX9_readNew cX9_readNew 2 (some .boolean) 4 G [.ref a, .int x1] (some (.int r)) (wp G a 7 s') := by
  refine pv_start (by decide) (Nat.le_of_ble_eq_true rfl) ?_
  intro X hl hg hN hc hr _ _ _ hQ
  subst hl; subst hg
  refine pv_G (wp_id hG) ?_
  have h := hf
  unfold m_readNew at h
  show V X 0 0 _ [(0, .ref a), (1, .int x1)] [] 0
  refine pv_aload_n 0 hc dX9_readNew_0 rfl rfl ?_
  obtain ⟨v2, hf1, h⟩ := BD_el h
  refine m_call_164 hc hM (wp_at G a 7 s) (m_isName_ok hM (wp_at G a 7 s) hf1) (by decide) (Nat.le_of_ble_eq_true rfl) dX9_readNew_1 ?_
  refine pv_if_ne (tgt := 13) hc dX9_readNew_4 (by decide) h (fun h => ?_) (fun h => ?_)
  · refine pv_aload_n 0 hc dX9_readNew_13 rfl rfl ?_
    obtain ⟨v4, hf3, h⟩ := BD_el h
    refine m_call_168 hc hM (wp_at G a 7 s) (m_isTaken_ok hM (wp_at G a 7 s) hf3) (by decide) (Nat.le_of_ble_eq_true rfl) dX9_readNew_14 ?_
    refine pv_if_eq (tgt := 26) hc dX9_readNew_17 (by decide) h (fun h => ?_) (fun h => ?_)
    · refine pv_aload_n 0 hc dX9_readNew_26 rfl rfl ?_
      refine m_get_117 hc hM (wp_at G a 7 s) dX9_readNew_27 ?_
      refine pv_iload_n 1 hc dX9_readNew_30 rfl rfl ?_
      refine pv_aload_n 0 hc dX9_readNew_31 rfl rfl ?_
      refine m_get_43 hc hM (wp_at G a 7 s) dX9_readNew_32 ?_
      obtain ⟨i5, hi5, h⟩ := IX_el h
      obtain ⟨s6, hs6, h⟩ := LT_el h
      refine m_ast_20 hc hM hi5 hs6 dX9_readNew_35 ?_
      refine pv_aload_n 0 hc dX9_readNew_36 rfl rfl ?_
      obtain ⟨s8, hf7, h⟩ := BD_el h
      refine m_call_82 hc hM (m_go_ok hM (wp_at G a 7 s6) hf7) (by decide) (Nat.le_of_ble_eq_true rfl) dX9_readNew_37 ?_
      refine pv_iconst (1 : Int32) hc dX9_readNew_40 rfl ?_
      exact pv_zret hc hr hQ (by decide) (e_i2 h) (e_w2 h) dX9_readNew_41
    · refine pv_aload_n 0 hc dX9_readNew_20 rfl rfl ?_
      refine pv_iconst (3 : Int32) hc dX9_readNew_21 rfl ?_
      obtain ⟨v10, s11, hf9, h⟩ := BD2_el h
      refine m_call_72 hc hM (m_bad_ok hM (wp_at G a 7 s) hf9) (by decide) (Nat.le_of_ble_eq_true rfl) dX9_readNew_22 ?_
      obtain ⟨hb12, h⟩ := BZ_el h
      exact pv_zret hc hr hQ hb12 (e_i2 h) (e_w2 h) dX9_readNew_25
  · refine pv_aload_n 0 hc dX9_readNew_7 rfl rfl ?_
    refine pv_iconst (1 : Int32) hc dX9_readNew_8 rfl ?_
    obtain ⟨v14, s15, hf13, h⟩ := BD2_el h
    refine m_call_72 hc hM (m_bad_ok hM (wp_at G a 7 s) hf13) (by decide) (Nat.le_of_ble_eq_true rfl) dX9_readNew_9 ?_
    obtain ⟨hb16, h⟩ := BZ_el h
    exact pv_zret hc hr hQ hb16 (e_i2 h) (e_w2 h) dX9_readNew_12
def m_readPlain (s : Rec) (x1 : Int32) (x2 : Int32) (x3 : Int32) : Option (Int32 × Rec) := BD2 (m_readFirst s x1 x2) (fun v2 s3 => (if v2 = 0 then some ((0 : Int32), s3) else IX x1 24 (fun i4 => BD2 (m_readNew s3 (x3 + (gA s3 15 i4))) (fun v6 s7 => (if v6 = 0 then some ((0 : Int32), s7) else LT (sA s7 15 i4 ((gA s7 15 i4) + (1 : Int32))) (fun s8 => some ((1 : Int32), s8)))))))
set_option maxHeartbeats 4000000 in
theorem m_readPlain_ok {l : Launch} {g : Gh} {G : Wd} (hM : MOK g) {a : Nat} {s : Rec} (hG : G.2 a = some (7, s)) {x1 : Int32} {x2 : Int32} {x3 : Int32} {r : Int32} {s' : Rec} (hf : m_readPlain s x1 x2 x3 = some (r, s')) : MT l g yX9_readPlain cX9_readPlain 4 (some .boolean) 5 G [.ref a, .int x1, .int x2, .int x3] (some (.int r)) (wp G a 7 s') := by
  refine pv_start (by decide) (Nat.le_of_ble_eq_true rfl) ?_
  intro X hl hg hN hc hr _ _ _ hQ
  subst hl; subst hg
  refine pv_G (wp_id hG) ?_
  have h := hf
  unfold m_readPlain at h
  show V X 0 0 _ [(0, .ref a), (1, .int x1), (2, .int x2), (3, .int x3)] [] 0
  refine pv_aload_n 0 hc dX9_readPlain_0 rfl rfl ?_
  refine pv_iload_n 1 hc dX9_readPlain_1 rfl rfl ?_
  refine pv_iload_n 2 hc dX9_readPlain_2 rfl rfl ?_
  obtain ⟨v2, s3, hf1, h⟩ := BD2_el h
  refine m_call_171 hc hM (m_readFirst_ok hM (wp_at G a 7 s) hf1) (by decide) (Nat.le_of_ble_eq_true rfl) dX9_readPlain_3 ?_
  refine pv_if_eq (tgt := 24) hc dX9_readPlain_6 (by decide) h (fun h => ?_) (fun h => ?_)
  · refine pv_iconst (0 : Int32) hc dX9_readPlain_24 rfl ?_
    exact pv_zret hc hr hQ (by decide) (e_i2 h) (e_w2 h) dX9_readPlain_25
  · refine pv_aload_n 0 hc dX9_readPlain_9 rfl rfl ?_
    refine pv_iload_n 3 hc dX9_readPlain_10 rfl rfl ?_
    refine pv_aload_n 0 hc dX9_readPlain_11 rfl rfl ?_
    refine m_get_101 hc hM (wp_at G a 7 s3) dX9_readPlain_12 ?_
    refine pv_iload_n 1 hc dX9_readPlain_15 rfl rfl ?_
    obtain ⟨i4, hi4, h⟩ := IX_el h
    refine m_ald_15 hc hM (wp_at G a 7 s3) hi4 dX9_readPlain_16 ?_
    refine pv_iadd hc dX9_readPlain_17 ?_
    obtain ⟨v6, s7, hf5, h⟩ := BD2_el h
    refine m_call_175 hc hM (m_readNew_ok hM (wp_at G a 7 s3) hf5) (by decide) (Nat.le_of_ble_eq_true rfl) dX9_readPlain_18 ?_
    refine pv_if_ne (tgt := 26) hc dX9_readPlain_21 (by decide) h (fun h => ?_) (fun h => ?_)
    · refine pv_aload_n 0 hc dX9_readPlain_26 rfl rfl ?_
      refine m_get_101 hc hM (wp_at G a 7 s7) dX9_readPlain_27 ?_
      refine pv_iload_n 1 hc dX9_readPlain_30 rfl rfl ?_
      refine pv_dup2_11 hc dX9_readPlain_31 rfl rfl ?_
      refine m_ald_15 hc hM (wp_at G a 7 s7) hi4 dX9_readPlain_32 ?_
      refine pv_iconst (1 : Int32) hc dX9_readPlain_33 rfl ?_
      refine pv_iadd hc dX9_readPlain_34 ?_
      obtain ⟨s8, hs8, h⟩ := LT_el h
      refine m_ast_15 hc hM hi4 hs8 dX9_readPlain_35 ?_
      refine pv_iconst (1 : Int32) hc dX9_readPlain_36 rfl ?_
      exact pv_zret hc hr hQ (by decide) (e_i2 h) (e_w2 h) dX9_readPlain_37
    · refine pv_iconst (0 : Int32) hc dX9_readPlain_24 rfl ?_
      exact pv_zret hc hr hQ (by decide) (e_i2 h) (e_w2 h) dX9_readPlain_25
def m_isParlourHere (s : Rec)  : Option (Int32 × Rec) := BD (m_isName s) (fun v2 => (if v2 = 0 then BD2 (m_bad s (1 : Int32)) (fun v10 s11 => BZ v10 (some (v10, s11))) else BD (m_findIn (gL s 20) 20 (0 : Int32) (gA s 15 0) (gJ s 12)) (fun v4 => LT (sI s 13 v4) (fun s5 => (if (gI s5 13) = (-1 : Int32) then BD2 (m_bad s5 (3 : Int32)) (fun v7 s8 => (if v7 = 0 then some ((0 : Int32), s8) else some ((1 : Int32), s8))) else some ((1 : Int32), s5))))))
set_option maxHeartbeats 4000000 in
theorem m_isParlourHere_ok {l : Launch} {g : Gh} {G : Wd} (hM : MOK g) {a : Nat} {s : Rec} (hG : G.2 a = some (7, s))  {r : Int32} {s' : Rec} (hf : m_isParlourHere s  = some (r, s')) : MT l g yX9_isParlourHere cX9_isParlourHere 1 (some .boolean) 4 G [.ref a] (some (.int r)) (wp G a 7 s') := by
  refine pv_start (by decide) (Nat.le_of_ble_eq_true rfl) ?_
  intro X hl hg hN hc hr _ _ _ hQ
  subst hl; subst hg
  refine pv_G (wp_id hG) ?_
  have h := hf
  unfold m_isParlourHere at h
  show V X 0 0 _ [(0, .ref a)] [] 0
  refine pv_aload_n 0 hc dX9_isParlourHere_0 rfl rfl ?_
  obtain ⟨v2, hf1, h⟩ := BD_el h
  refine m_call_164 hc hM (wp_at G a 7 s) (m_isName_ok hM (wp_at G a 7 s) hf1) (by decide) (Nat.le_of_ble_eq_true rfl) dX9_isParlourHere_1 ?_
  refine pv_if_ne (tgt := 13) hc dX9_isParlourHere_4 (by decide) h (fun h => ?_) (fun h => ?_)
  · refine pv_aload_n 0 hc dX9_isParlourHere_13 rfl rfl ?_
    refine pv_aload_n 0 hc dX9_isParlourHere_14 rfl rfl ?_
    refine m_get_117 hc hM (wp_at G a 7 s) dX9_isParlourHere_15 ?_
    refine pv_iconst (0 : Int32) hc dX9_isParlourHere_18 rfl ?_
    refine pv_aload_n 0 hc dX9_isParlourHere_19 rfl rfl ?_
    refine m_get_101 hc hM (wp_at G a 7 s) dX9_isParlourHere_20 ?_
    refine pv_iconst (0 : Int32) hc dX9_isParlourHere_23 rfl ?_
    refine m_ald_15 hc hM (wp_at G a 7 s) (vp_lit (j := 0) (by decide)) dX9_isParlourHere_24 ?_
    refine pv_aload_n 0 hc dX9_isParlourHere_25 rfl rfl ?_
    refine m_get_43 hc hM (wp_at G a 7 s) dX9_isParlourHere_26 ?_
    obtain ⟨v4, hf3, h⟩ := BD_el h
    refine m_call_160 hc (m_findIn_ok (wp_at G a 7 s) (m_cell_20 hM) 1 hM.2.2.2.1 hf3) (by decide) (Nat.le_of_ble_eq_true rfl) dX9_isParlourHere_29 ?_
    obtain ⟨s5, hs5, h⟩ := LT_el h
    refine m_put_79 hc hM hs5 dX9_isParlourHere_32 ?_
    refine pv_aload_n 0 hc dX9_isParlourHere_35 rfl rfl ?_
    refine m_get_79 hc hM (wp_at G a 7 s5) dX9_isParlourHere_36 ?_
    refine pv_iconst (-1 : Int32) hc dX9_isParlourHere_39 rfl ?_
    refine pv_icmp_ne (tgt := 51) hc dX9_isParlourHere_40 (by decide) h (fun h => ?_) (fun h => ?_)
    · refine pv_iconst (1 : Int32) hc dX9_isParlourHere_51 rfl ?_
      refine pv_goto (tgt := 56) hc dX9_isParlourHere_52 (by decide) ?_
      exact pv_zret hc hr hQ (by decide) (e_i2 h) (e_w2 h) dX9_isParlourHere_56
    · refine pv_aload_n 0 hc dX9_isParlourHere_43 rfl rfl ?_
      refine pv_iconst (3 : Int32) hc dX9_isParlourHere_44 rfl ?_
      obtain ⟨v7, s8, hf6, h⟩ := BD2_el h
      refine m_call_72 hc hM (m_bad_ok hM (wp_at G a 7 s5) hf6) (by decide) (Nat.le_of_ble_eq_true rfl) dX9_isParlourHere_45 ?_
      refine pv_if_eq (tgt := 55) hc dX9_isParlourHere_48 (by decide) h (fun h => ?_) (fun h => ?_)
      · refine pv_iconst (0 : Int32) hc dX9_isParlourHere_55 rfl ?_
        exact pv_zret hc hr hQ (by decide) (e_i2 h) (e_w2 h) dX9_isParlourHere_56
      · refine pv_iconst (1 : Int32) hc dX9_isParlourHere_51 rfl ?_
        refine pv_goto (tgt := 56) hc dX9_isParlourHere_52 (by decide) ?_
        exact pv_zret hc hr hQ (by decide) (e_i2 h) (e_w2 h) dX9_isParlourHere_56
  · refine pv_aload_n 0 hc dX9_isParlourHere_7 rfl rfl ?_
    refine pv_iconst (1 : Int32) hc dX9_isParlourHere_8 rfl ?_
    obtain ⟨v10, s11, hf9, h⟩ := BD2_el h
    refine m_call_72 hc hM (m_bad_ok hM (wp_at G a 7 s) hf9) (by decide) (Nat.le_of_ble_eq_true rfl) dX9_isParlourHere_9 ?_
    obtain ⟨hb12, h⟩ := BZ_el h
    exact pv_zret hc hr hQ hb12 (e_i2 h) (e_w2 h) dX9_isParlourHere_12
def m_readPlant (s : Rec)  : Option (Int32 × Rec) := BD2 (m_readFirst s (1 : Int32) (6 : Int32)) (fun v2 s3 => (if v2 = 0 then some ((0 : Int32), s3) else BD2 (m_readNew s3 ((5 : Int32) + (gA s3 15 1))) (fun v5 s6 => (if v5 = 0 then some ((0 : Int32), s6) else BD2 (m_isParlourHere s6) (fun v8 s9 => BD2 (m_put s9 ((11 : Int32) + (gA s3 15 1)) v8) (fun v11 s12 => (if v11 = 0 then some ((0 : Int32), s12) else BD (m_go s12) (fun s14 => BD2 (m_readNumber s14 (1 : Int32) (9 : Int32)) (fun v16 s17 => BD2 (m_put s17 ((17 : Int32) + (gA s3 15 1)) v16) (fun v19 s20 => (if v19 = 0 then some ((0 : Int32), s20) else BD (m_isWord s20 (15 : Int32)) (fun v22 => JN1 (fun (s23 : Rec) => LT (sA s23 15 1 ((gA s23 15 1) + (1 : Int32))) (fun s25 => some ((1 : Int32), s25))) (fun (j24 : Rec → Option (Int32 × Rec)) => (if v22 = 0 then j24 s20 else LT (sA s20 15 23 ((gA s20 15 23) ||| ((1 : Int32) <<< ((gA s3 15 1) &&& 31)))) (fun s26 => BD (m_go s26) (fun s28 => j24 s28))))))))))))))))
set_option maxHeartbeats 4000000 in
theorem m_readPlant_ok {l : Launch} {g : Gh} {G : Wd} (hM : MOK g) {a : Nat} {s : Rec} (hG : G.2 a = some (7, s))  {r : Int32} {s' : Rec} (hf : m_readPlant s  = some (r, s')) : MT l g yX9_readPlant cX9_readPlant 2 (some .boolean) 5 G [.ref a] (some (.int r)) (wp G a 7 s') := by
  refine pv_start (by decide) (Nat.le_of_ble_eq_true rfl) ?_
  intro X hl hg hN hc hr _ _ _ hQ
  subst hl; subst hg
  refine pv_G (wp_id hG) ?_
  have h := hf
  unfold m_readPlant at h
  show V X 0 0 _ [(0, .ref a)] [] 0
  refine pv_aload_n 0 hc dX9_readPlant_0 rfl rfl ?_
  refine pv_iconst (1 : Int32) hc dX9_readPlant_1 rfl ?_
  refine pv_bipush (6 : Int32) hc dX9_readPlant_2 rfl ?_
  obtain ⟨v2, s3, hf1, h⟩ := BD2_el h
  refine m_call_171 hc hM (m_readFirst_ok hM (wp_at G a 7 s) hf1) (by decide) (Nat.le_of_ble_eq_true rfl) dX9_readPlant_4 ?_
  refine pv_if_ne (tgt := 12) hc dX9_readPlant_7 (by decide) h (fun h => ?_) (fun h => ?_)
  · refine pv_aload_n 0 hc dX9_readPlant_12 rfl rfl ?_
    refine m_get_101 hc hM (wp_at G a 7 s3) dX9_readPlant_13 ?_
    refine pv_iconst (1 : Int32) hc dX9_readPlant_16 rfl ?_
    refine m_ald_15 hc hM (wp_at G a 7 s3) (vp_lit (j := 1) (by decide)) dX9_readPlant_17 ?_
    refine pv_istore_n (L' := [(1, .int (gA s3 15 1)), (0, .ref a)]) hc dX9_readPlant_18 rfl hN (by decide) rfl ?_
    refine pv_aload_n 1 hc dX9_readPlant_19 rfl rfl ?_
    refine pv_iconst (5 : Int32) hc dX9_readPlant_20 rfl ?_
    refine pv_iload_n 0 hc dX9_readPlant_21 rfl rfl ?_
    refine pv_iadd hc dX9_readPlant_22 ?_
    obtain ⟨v5, s6, hf4, h⟩ := BD2_el h
    refine m_call_175 hc hM (m_readNew_ok hM (wp_at G a 7 s3) hf4) (by decide) (Nat.le_of_ble_eq_true rfl) dX9_readPlant_23 ?_
    refine pv_if_eq (tgt := 44) hc dX9_readPlant_26 (by decide) h (fun h => ?_) (fun h => ?_)
    · refine pv_iconst (0 : Int32) hc dX9_readPlant_44 rfl ?_
      exact pv_zret hc hr hQ (by decide) (e_i2 h) (e_w2 h) dX9_readPlant_45
    · refine pv_aload_n 1 hc dX9_readPlant_29 rfl rfl ?_
      refine pv_bipush (11 : Int32) hc dX9_readPlant_30 rfl ?_
      refine pv_iload_n 0 hc dX9_readPlant_32 rfl rfl ?_
      refine pv_iadd hc dX9_readPlant_33 ?_
      refine pv_aload_n 1 hc dX9_readPlant_34 rfl rfl ?_
      obtain ⟨v8, s9, hf7, h⟩ := BD2_el h
      refine m_call_178 hc hM (m_isParlourHere_ok hM (wp_at G a 7 s6) hf7) (by decide) (Nat.le_of_ble_eq_true rfl) dX9_readPlant_35 ?_
      obtain ⟨v11, s12, hf10, h⟩ := BD2_el h
      refine m_call_184 hc hM (m_put_ok hM (wp_at G a 7 s9) hf10) (by decide) (Nat.le_of_ble_eq_true rfl) dX9_readPlant_38 ?_
      refine pv_if_ne (tgt := 46) hc dX9_readPlant_41 (by decide) h (fun h => ?_) (fun h => ?_)
      · refine pv_aload_n 1 hc dX9_readPlant_46 rfl rfl ?_
        obtain ⟨s14, hf13, h⟩ := BD_el h
        refine m_call_82 hc hM (m_go_ok hM (wp_at G a 7 s12) hf13) (by decide) (Nat.le_of_ble_eq_true rfl) dX9_readPlant_47 ?_
        refine pv_aload_n 1 hc dX9_readPlant_50 rfl rfl ?_
        refine pv_bipush (17 : Int32) hc dX9_readPlant_51 rfl ?_
        refine pv_iload_n 0 hc dX9_readPlant_53 rfl rfl ?_
        refine pv_iadd hc dX9_readPlant_54 ?_
        refine pv_aload_n 1 hc dX9_readPlant_55 rfl rfl ?_
        refine pv_iconst (1 : Int32) hc dX9_readPlant_56 rfl ?_
        refine pv_bipush (9 : Int32) hc dX9_readPlant_57 rfl ?_
        obtain ⟨v16, s17, hf15, h⟩ := BD2_el h
        refine m_call_188 hc hM (m_readNumber_ok hM (wp_at G a 7 s14) hf15) (by decide) (Nat.le_of_ble_eq_true rfl) dX9_readPlant_59 ?_
        obtain ⟨v19, s20, hf18, h⟩ := BD2_el h
        refine m_call_184 hc hM (m_put_ok hM (wp_at G a 7 s17) hf18) (by decide) (Nat.le_of_ble_eq_true rfl) dX9_readPlant_62 ?_
        refine pv_if_ne (tgt := 70) hc dX9_readPlant_65 (by decide) h (fun h => ?_) (fun h => ?_)
        · refine pv_aload_n 1 hc dX9_readPlant_70 rfl rfl ?_
          refine pv_bipush (15 : Int32) hc dX9_readPlant_71 rfl ?_
          obtain ⟨v22, hf21, h⟩ := BD_el h
          refine m_call_191 hc hM (wp_at G a 7 s20) (m_isWord_ok hM (wp_at G a 7 s20) hf21) (by decide) (Nat.le_of_ble_eq_true rfl) dX9_readPlant_73 ?_
          obtain ⟨j24, hj24, h⟩ := JN1_el (P := fun s23 => V X 0 0 (wp G a 7 s23) [(0, .ref a)] [] 96) h (by
              intro s23 h
              refine pv_aload_n 0 hc dX9_readPlant_96 rfl rfl ?_
              refine m_get_101 hc hM (wp_at G a 7 s23) dX9_readPlant_97 ?_
              refine pv_iconst (1 : Int32) hc dX9_readPlant_100 rfl ?_
              refine pv_dup2_11 hc dX9_readPlant_101 rfl rfl ?_
              refine m_ald_15 hc hM (wp_at G a 7 s23) (vp_lit (j := 1) (by decide)) dX9_readPlant_102 ?_
              refine pv_iconst (1 : Int32) hc dX9_readPlant_103 rfl ?_
              refine pv_iadd hc dX9_readPlant_104 ?_
              obtain ⟨s25, hs25, h⟩ := LT_el h
              refine m_ast_15 hc hM (vp_lit (j := 1) (by decide)) hs25 dX9_readPlant_105 ?_
              refine pv_iconst (1 : Int32) hc dX9_readPlant_106 rfl ?_
              exact pv_zret hc hr hQ (by decide) (e_i2 h) (e_w2 h) dX9_readPlant_107)
          refine pv_if_eq (tgt := 96) hc dX9_readPlant_76 (by decide) h (fun h => ?_) (fun h => ?_)
          · refine pv_sub [1] rfl ?_
            exact hj24 _ h
          · refine pv_aload_n 1 hc dX9_readPlant_79 rfl rfl ?_
            refine m_get_101 hc hM (wp_at G a 7 s20) dX9_readPlant_80 ?_
            refine pv_bipush (23 : Int32) hc dX9_readPlant_83 rfl ?_
            refine pv_dup2_11 hc dX9_readPlant_85 rfl rfl ?_
            refine m_ald_15 hc hM (wp_at G a 7 s20) (vp_lit (j := 23) (by decide)) dX9_readPlant_86 ?_
            refine pv_iconst (1 : Int32) hc dX9_readPlant_87 rfl ?_
            refine pv_iload_n 0 hc dX9_readPlant_88 rfl rfl ?_
            refine pv_ishl hc dX9_readPlant_89 ?_
            refine pv_ior hc dX9_readPlant_90 ?_
            obtain ⟨s26, hs26, h⟩ := LT_el h
            refine m_ast_15 hc hM (vp_lit (j := 23) (by decide)) hs26 dX9_readPlant_91 ?_
            refine pv_aload_n 1 hc dX9_readPlant_92 rfl rfl ?_
            obtain ⟨s28, hf27, h⟩ := BD_el h
            refine m_call_82 hc hM (m_go_ok hM (wp_at G a 7 s26) hf27) (by decide) (Nat.le_of_ble_eq_true rfl) dX9_readPlant_93 ?_
            refine pv_sub [1] rfl ?_
            exact hj24 _ h
        · refine pv_iconst (0 : Int32) hc dX9_readPlant_68 rfl ?_
          exact pv_zret hc hr hQ (by decide) (e_i2 h) (e_w2 h) dX9_readPlant_69
      · refine pv_iconst (0 : Int32) hc dX9_readPlant_44 rfl ?_
        exact pv_zret hc hr hQ (by decide) (e_i2 h) (e_w2 h) dX9_readPlant_45
  · refine pv_iconst (0 : Int32) hc dX9_readPlant_10 rfl ?_
    exact pv_zret hc hr hQ (by decide) (e_i2 h) (e_w2 h) dX9_readPlant_11
def m_has (x0 : Int32) (x1 : Int32) : Option Int32 := (if ((x0 >>> (x1 &&& 31)) &&& (1 : Int32)) = (1 : Int32) then some (1 : Int32) else some (0 : Int32))
set_option maxHeartbeats 4000000 in
theorem m_has_ok {l : Launch} {g : Gh} {G : Wd} {x0 : Int32} {x1 : Int32} {r : Int32} (hf : m_has x0 x1 = some r) : MT l g yX9_has cX9_has 2 (some .boolean) 1 G [.int x0, .int x1] (some (.int r)) G := by
  refine pv_start (by decide) (Nat.le_of_ble_eq_true rfl) ?_
  intro X hl hg hN hc hr _ _ _ hQ
  subst hl; subst hg
  have h := hf
  unfold m_has at h
  show V X 0 0 _ [(0, .int x0), (1, .int x1)] [] 0
  refine pv_iload_n 0 hc dX9_has_0 rfl rfl ?_
  refine pv_iload_n 1 hc dX9_has_1 rfl rfl ?_
  refine pv_ishr hc dX9_has_2 ?_
  refine pv_iconst (1 : Int32) hc dX9_has_3 rfl ?_
  refine pv_iand hc dX9_has_4 ?_
  refine pv_iconst (1 : Int32) hc dX9_has_5 rfl ?_
  refine pv_icmp_ne (tgt := 13) hc dX9_has_6 (by decide) h (fun h => ?_) (fun h => ?_)
  · refine pv_iconst (0 : Int32) hc dX9_has_13 rfl ?_
    exact pv_zret hc hr hQ (by decide) (e_i1 h) rfl dX9_has_14
  · refine pv_iconst (1 : Int32) hc dX9_has_9 rfl ?_
    refine pv_goto (tgt := 14) hc dX9_has_10 (by decide) ?_
    exact pv_zret hc hr hQ (by decide) (e_i1 h) rfl dX9_has_14
def m_readSight (s : Rec)  : Option (Int32 × Rec) := BD (m_go s) (fun s2 => BD2 (m_isParlourHere s2) (fun v4 s5 => (if v4 = 0 then some ((0 : Int32), s5) else BD (m_go s5) (fun s7 => BD2 (m_isParlourHere s7) (fun v9 s10 => (if v9 = 0 then some ((0 : Int32), s10) else (if (gI s10 13) = (gI s5 13) then BD2 (m_bad s10 (3 : Int32)) (fun v12 s13 => BZ v12 (some (v12, s13))) else IX ((6 : Int32) + (gI s5 13)) 24 (fun i15 => BD (m_has (gA s10 15 i15) (gI s10 13)) (fun v17 => (if v17 = 0 then LT (sA s10 15 i15 ((gA s10 15 i15) ||| ((1 : Int32) <<< ((gI s10 13) &&& 31)))) (fun s18 => IX ((6 : Int32) + (gI s18 13)) 24 (fun i19 => LT (sA s18 15 i19 ((gA s18 15 i19) ||| ((1 : Int32) <<< ((gI s5 13) &&& 31)))) (fun s20 => BD (m_go s20) (fun s22 => some ((1 : Int32), s22))))) else BD2 (m_bad s10 (3 : Int32)) (fun v24 s25 => BZ v24 (some (v24, s25)))))))))))))
set_option maxHeartbeats 4000000 in
theorem m_readSight_ok {l : Launch} {g : Gh} {G : Wd} (hM : MOK g) {a : Nat} {s : Rec} (hG : G.2 a = some (7, s))  {r : Int32} {s' : Rec} (hf : m_readSight s  = some (r, s')) : MT l g yX9_readSight cX9_readSight 2 (some .boolean) 5 G [.ref a] (some (.int r)) (wp G a 7 s') := by
  refine pv_start (by decide) (Nat.le_of_ble_eq_true rfl) ?_
  intro X hl hg hN hc hr _ _ _ hQ
  subst hl; subst hg
  refine pv_G (wp_id hG) ?_
  have h := hf
  unfold m_readSight at h
  show V X 0 0 _ [(0, .ref a)] [] 0
  refine pv_aload_n 0 hc dX9_readSight_0 rfl rfl ?_
  obtain ⟨s2, hf1, h⟩ := BD_el h
  refine m_call_82 hc hM (m_go_ok hM (wp_at G a 7 s) hf1) (by decide) (Nat.le_of_ble_eq_true rfl) dX9_readSight_1 ?_
  refine pv_aload_n 0 hc dX9_readSight_4 rfl rfl ?_
  obtain ⟨v4, s5, hf3, h⟩ := BD2_el h
  refine m_call_178 hc hM (m_isParlourHere_ok hM (wp_at G a 7 s2) hf3) (by decide) (Nat.le_of_ble_eq_true rfl) dX9_readSight_5 ?_
  refine pv_if_ne (tgt := 13) hc dX9_readSight_8 (by decide) h (fun h => ?_) (fun h => ?_)
  · refine pv_aload_n 0 hc dX9_readSight_13 rfl rfl ?_
    refine m_get_79 hc hM (wp_at G a 7 s5) dX9_readSight_14 ?_
    refine pv_istore_n (L' := [(1, .int (gI s5 13)), (0, .ref a)]) hc dX9_readSight_17 rfl hN (by decide) rfl ?_
    refine pv_aload_n 1 hc dX9_readSight_18 rfl rfl ?_
    obtain ⟨s7, hf6, h⟩ := BD_el h
    refine m_call_82 hc hM (m_go_ok hM (wp_at G a 7 s5) hf6) (by decide) (Nat.le_of_ble_eq_true rfl) dX9_readSight_19 ?_
    refine pv_aload_n 1 hc dX9_readSight_22 rfl rfl ?_
    obtain ⟨v9, s10, hf8, h⟩ := BD2_el h
    refine m_call_178 hc hM (m_isParlourHere_ok hM (wp_at G a 7 s7) hf8) (by decide) (Nat.le_of_ble_eq_true rfl) dX9_readSight_23 ?_
    refine pv_if_ne (tgt := 31) hc dX9_readSight_26 (by decide) h (fun h => ?_) (fun h => ?_)
    · refine pv_aload_n 1 hc dX9_readSight_31 rfl rfl ?_
      refine m_get_79 hc hM (wp_at G a 7 s10) dX9_readSight_32 ?_
      refine pv_iload_n 0 hc dX9_readSight_35 rfl rfl ?_
      refine pv_icmp_eq (tgt := 58) hc dX9_readSight_36 (by decide) h (fun h => ?_) (fun h => ?_)
      · refine pv_aload_n 1 hc dX9_readSight_58 rfl rfl ?_
        refine pv_iconst (3 : Int32) hc dX9_readSight_59 rfl ?_
        obtain ⟨v12, s13, hf11, h⟩ := BD2_el h
        refine m_call_72 hc hM (m_bad_ok hM (wp_at G a 7 s10) hf11) (by decide) (Nat.le_of_ble_eq_true rfl) dX9_readSight_60 ?_
        obtain ⟨hb14, h⟩ := BZ_el h
        exact pv_zret hc hr hQ hb14 (e_i2 h) (e_w2 h) dX9_readSight_63
      · refine pv_aload_n 1 hc dX9_readSight_39 rfl rfl ?_
        refine m_get_101 hc hM (wp_at G a 7 s10) dX9_readSight_40 ?_
        refine pv_bipush (6 : Int32) hc dX9_readSight_43 rfl ?_
        refine pv_iload_n 0 hc dX9_readSight_45 rfl rfl ?_
        refine pv_iadd hc dX9_readSight_46 ?_
        obtain ⟨i15, hi15, h⟩ := IX_el h
        refine m_ald_15 hc hM (wp_at G a 7 s10) hi15 dX9_readSight_47 ?_
        refine pv_aload_n 1 hc dX9_readSight_48 rfl rfl ?_
        refine m_get_79 hc hM (wp_at G a 7 s10) dX9_readSight_49 ?_
        obtain ⟨v17, hf16, h⟩ := BD_el h
        refine m_call_181 hc (m_has_ok hf16) (by decide) (Nat.le_of_ble_eq_true rfl) dX9_readSight_52 ?_
        refine pv_if_eq (tgt := 64) hc dX9_readSight_55 (by decide) h (fun h => ?_) (fun h => ?_)
        · refine pv_aload_n 1 hc dX9_readSight_64 rfl rfl ?_
          refine m_get_101 hc hM (wp_at G a 7 s10) dX9_readSight_65 ?_
          refine pv_bipush (6 : Int32) hc dX9_readSight_68 rfl ?_
          refine pv_iload_n 0 hc dX9_readSight_70 rfl rfl ?_
          refine pv_iadd hc dX9_readSight_71 ?_
          refine pv_dup2_11 hc dX9_readSight_72 rfl rfl ?_
          refine m_ald_15 hc hM (wp_at G a 7 s10) hi15 dX9_readSight_73 ?_
          refine pv_iconst (1 : Int32) hc dX9_readSight_74 rfl ?_
          refine pv_aload_n 1 hc dX9_readSight_75 rfl rfl ?_
          refine m_get_79 hc hM (wp_at G a 7 s10) dX9_readSight_76 ?_
          refine pv_ishl hc dX9_readSight_79 ?_
          refine pv_ior hc dX9_readSight_80 ?_
          obtain ⟨s18, hs18, h⟩ := LT_el h
          refine m_ast_15 hc hM hi15 hs18 dX9_readSight_81 ?_
          refine pv_aload_n 1 hc dX9_readSight_82 rfl rfl ?_
          refine m_get_101 hc hM (wp_at G a 7 s18) dX9_readSight_83 ?_
          refine pv_bipush (6 : Int32) hc dX9_readSight_86 rfl ?_
          refine pv_aload_n 1 hc dX9_readSight_88 rfl rfl ?_
          refine m_get_79 hc hM (wp_at G a 7 s18) dX9_readSight_89 ?_
          refine pv_iadd hc dX9_readSight_92 ?_
          refine pv_dup2_11 hc dX9_readSight_93 rfl rfl ?_
          obtain ⟨i19, hi19, h⟩ := IX_el h
          refine m_ald_15 hc hM (wp_at G a 7 s18) hi19 dX9_readSight_94 ?_
          refine pv_iconst (1 : Int32) hc dX9_readSight_95 rfl ?_
          refine pv_iload_n 0 hc dX9_readSight_96 rfl rfl ?_
          refine pv_ishl hc dX9_readSight_97 ?_
          refine pv_ior hc dX9_readSight_98 ?_
          obtain ⟨s20, hs20, h⟩ := LT_el h
          refine m_ast_15 hc hM hi19 hs20 dX9_readSight_99 ?_
          refine pv_aload_n 1 hc dX9_readSight_100 rfl rfl ?_
          obtain ⟨s22, hf21, h⟩ := BD_el h
          refine m_call_82 hc hM (m_go_ok hM (wp_at G a 7 s20) hf21) (by decide) (Nat.le_of_ble_eq_true rfl) dX9_readSight_101 ?_
          refine pv_iconst (1 : Int32) hc dX9_readSight_104 rfl ?_
          exact pv_zret hc hr hQ (by decide) (e_i2 h) (e_w2 h) dX9_readSight_105
        · refine pv_aload_n 1 hc dX9_readSight_58 rfl rfl ?_
          refine pv_iconst (3 : Int32) hc dX9_readSight_59 rfl ?_
          obtain ⟨v24, s25, hf23, h⟩ := BD2_el h
          refine m_call_72 hc hM (m_bad_ok hM (wp_at G a 7 s10) hf23) (by decide) (Nat.le_of_ble_eq_true rfl) dX9_readSight_60 ?_
          obtain ⟨hb26, h⟩ := BZ_el h
          exact pv_zret hc hr hQ hb26 (e_i2 h) (e_w2 h) dX9_readSight_63
    · refine pv_iconst (0 : Int32) hc dX9_readSight_29 rfl ?_
      exact pv_zret hc hr hQ (by decide) (e_i2 h) (e_w2 h) dX9_readSight_30
  · refine pv_iconst (0 : Int32) hc dX9_readSight_11 rfl ?_
    exact pv_zret hc hr hQ (by decide) (e_i2 h) (e_w2 h) dX9_readSight_12
def m_readLine (s : Rec)  : Option (Int32 × Rec) := BD (m_isWord s (0 : Int32)) (fun v2 => (if v2 = 0 then BD (m_isWord s (1 : Int32)) (fun v4 => (if v4 = 0 then BD (m_isWord s (2 : Int32)) (fun v6 => (if v6 = 0 then BD (m_isWord s (3 : Int32)) (fun v8 => (if v8 = 0 then BD (m_isWord s (4 : Int32)) (fun v10 => (if v10 = 0 then BD (m_isWord s (5 : Int32)) (fun v12 => (if v12 = 0 then BD (m_isWord s (6 : Int32)) (fun v14 => (if v14 = 0 then BD2 (m_bad s (1 : Int32)) (fun v16 s17 => BZ v16 (some (v16, s17))) else BD2 (m_readOnce s (1 : Int32) (5 : Int32) (6 : Int32)) (fun v20 s21 => BZ v20 (some (v20, s21))))) else BD2 (m_readOnce s (0 : Int32) (4 : Int32) (60 : Int32)) (fun v24 s25 => BZ v24 (some (v24, s25))))) else BD2 (m_readPlain s (3 : Int32) (5 : Int32) (15 : Int32)) (fun v28 s29 => BZ v28 (some (v28, s29))))) else BD2 (m_readPlain s (2 : Int32) (4 : Int32) (11 : Int32)) (fun v32 s33 => BZ v32 (some (v32, s33))))) else BD2 (m_readPlant s) (fun v36 s37 => BZ v36 (some (v36, s37))))) else BD2 (m_readSight s) (fun v40 s41 => BZ v40 (some (v40, s41))))) else BD2 (m_readPlain s (0 : Int32) (5 : Int32) (0 : Int32)) (fun v44 s45 => BZ v44 (some (v44, s45)))))
set_option maxHeartbeats 4000000 in
theorem m_readLine_ok {l : Launch} {g : Gh} {G : Wd} (hM : MOK g) {a : Nat} {s : Rec} (hG : G.2 a = some (7, s))  {r : Int32} {s' : Rec} (hf : m_readLine s  = some (r, s')) : MT l g yX9_readLine cX9_readLine 1 (some .boolean) 6 G [.ref a] (some (.int r)) (wp G a 7 s') := by
  refine pv_start (by decide) (Nat.le_of_ble_eq_true rfl) ?_
  intro X hl hg hN hc hr _ _ _ hQ
  subst hl; subst hg
  refine pv_G (wp_id hG) ?_
  have h := hf
  unfold m_readLine at h
  show V X 0 0 _ [(0, .ref a)] [] 0
  refine pv_aload_n 0 hc dX9_readLine_0 rfl rfl ?_
  refine pv_iconst (0 : Int32) hc dX9_readLine_1 rfl ?_
  obtain ⟨v2, hf1, h⟩ := BD_el h
  refine m_call_191 hc hM (wp_at G a 7 s) (m_isWord_ok hM (wp_at G a 7 s) hf1) (by decide) (Nat.le_of_ble_eq_true rfl) dX9_readLine_2 ?_
  refine pv_if_eq (tgt := 16) hc dX9_readLine_5 (by decide) h (fun h => ?_) (fun h => ?_)
  · refine pv_aload_n 0 hc dX9_readLine_16 rfl rfl ?_
    refine pv_iconst (1 : Int32) hc dX9_readLine_17 rfl ?_
    obtain ⟨v4, hf3, h⟩ := BD_el h
    refine m_call_191 hc hM (wp_at G a 7 s) (m_isWord_ok hM (wp_at G a 7 s) hf3) (by decide) (Nat.le_of_ble_eq_true rfl) dX9_readLine_18 ?_
    refine pv_if_eq (tgt := 29) hc dX9_readLine_21 (by decide) h (fun h => ?_) (fun h => ?_)
    · refine pv_aload_n 0 hc dX9_readLine_29 rfl rfl ?_
      refine pv_iconst (2 : Int32) hc dX9_readLine_30 rfl ?_
      obtain ⟨v6, hf5, h⟩ := BD_el h
      refine m_call_191 hc hM (wp_at G a 7 s) (m_isWord_ok hM (wp_at G a 7 s) hf5) (by decide) (Nat.le_of_ble_eq_true rfl) dX9_readLine_31 ?_
      refine pv_if_eq (tgt := 42) hc dX9_readLine_34 (by decide) h (fun h => ?_) (fun h => ?_)
      · refine pv_aload_n 0 hc dX9_readLine_42 rfl rfl ?_
        refine pv_iconst (3 : Int32) hc dX9_readLine_43 rfl ?_
        obtain ⟨v8, hf7, h⟩ := BD_el h
        refine m_call_191 hc hM (wp_at G a 7 s) (m_isWord_ok hM (wp_at G a 7 s) hf7) (by decide) (Nat.le_of_ble_eq_true rfl) dX9_readLine_44 ?_
        refine pv_if_eq (tgt := 59) hc dX9_readLine_47 (by decide) h (fun h => ?_) (fun h => ?_)
        · refine pv_aload_n 0 hc dX9_readLine_59 rfl rfl ?_
          refine pv_iconst (4 : Int32) hc dX9_readLine_60 rfl ?_
          obtain ⟨v10, hf9, h⟩ := BD_el h
          refine m_call_191 hc hM (wp_at G a 7 s) (m_isWord_ok hM (wp_at G a 7 s) hf9) (by decide) (Nat.le_of_ble_eq_true rfl) dX9_readLine_61 ?_
          refine pv_if_eq (tgt := 76) hc dX9_readLine_64 (by decide) h (fun h => ?_) (fun h => ?_)
          · refine pv_aload_n 0 hc dX9_readLine_76 rfl rfl ?_
            refine pv_iconst (5 : Int32) hc dX9_readLine_77 rfl ?_
            obtain ⟨v12, hf11, h⟩ := BD_el h
            refine m_call_191 hc hM (wp_at G a 7 s) (m_isWord_ok hM (wp_at G a 7 s) hf11) (by decide) (Nat.le_of_ble_eq_true rfl) dX9_readLine_78 ?_
            refine pv_if_eq (tgt := 93) hc dX9_readLine_81 (by decide) h (fun h => ?_) (fun h => ?_)
            · refine pv_aload_n 0 hc dX9_readLine_93 rfl rfl ?_
              refine pv_bipush (6 : Int32) hc dX9_readLine_94 rfl ?_
              obtain ⟨v14, hf13, h⟩ := BD_el h
              refine m_call_191 hc hM (wp_at G a 7 s) (m_isWord_ok hM (wp_at G a 7 s) hf13) (by decide) (Nat.le_of_ble_eq_true rfl) dX9_readLine_96 ?_
              refine pv_if_eq (tgt := 113) hc dX9_readLine_99 (by decide) h (fun h => ?_) (fun h => ?_)
              · refine pv_aload_n 0 hc dX9_readLine_113 rfl rfl ?_
                refine pv_iconst (1 : Int32) hc dX9_readLine_114 rfl ?_
                obtain ⟨v16, s17, hf15, h⟩ := BD2_el h
                refine m_call_72 hc hM (m_bad_ok hM (wp_at G a 7 s) hf15) (by decide) (Nat.le_of_ble_eq_true rfl) dX9_readLine_115 ?_
                obtain ⟨hb18, h⟩ := BZ_el h
                exact pv_zret hc hr hQ hb18 (e_i2 h) (e_w2 h) dX9_readLine_118
              · refine pv_aload_n 0 hc dX9_readLine_102 rfl rfl ?_
                refine pv_iconst (1 : Int32) hc dX9_readLine_103 rfl ?_
                refine pv_iconst (5 : Int32) hc dX9_readLine_104 rfl ?_
                refine pv_bipush (6 : Int32) hc dX9_readLine_105 rfl ?_
                obtain ⟨v20, s21, hf19, h⟩ := BD2_el h
                refine m_call_203 hc hM (m_readOnce_ok hM (wp_at G a 7 s) hf19) (by decide) (Nat.le_of_ble_eq_true rfl) dX9_readLine_107 ?_
                refine pv_goto (tgt := 118) hc dX9_readLine_110 (by decide) ?_
                obtain ⟨hb22, h⟩ := BZ_el h
                exact pv_zret hc hr hQ hb22 (e_i2 h) (e_w2 h) dX9_readLine_118
            · refine pv_aload_n 0 hc dX9_readLine_84 rfl rfl ?_
              refine pv_iconst (0 : Int32) hc dX9_readLine_85 rfl ?_
              refine pv_iconst (4 : Int32) hc dX9_readLine_86 rfl ?_
              refine pv_bipush (60 : Int32) hc dX9_readLine_87 rfl ?_
              obtain ⟨v24, s25, hf23, h⟩ := BD2_el h
              refine m_call_203 hc hM (m_readOnce_ok hM (wp_at G a 7 s) hf23) (by decide) (Nat.le_of_ble_eq_true rfl) dX9_readLine_89 ?_
              obtain ⟨hb26, h⟩ := BZ_el h
              exact pv_zret hc hr hQ hb26 (e_i2 h) (e_w2 h) dX9_readLine_92
          · refine pv_aload_n 0 hc dX9_readLine_67 rfl rfl ?_
            refine pv_iconst (3 : Int32) hc dX9_readLine_68 rfl ?_
            refine pv_iconst (5 : Int32) hc dX9_readLine_69 rfl ?_
            refine pv_bipush (15 : Int32) hc dX9_readLine_70 rfl ?_
            obtain ⟨v28, s29, hf27, h⟩ := BD2_el h
            refine m_call_194 hc hM (m_readPlain_ok hM (wp_at G a 7 s) hf27) (by decide) (Nat.le_of_ble_eq_true rfl) dX9_readLine_72 ?_
            obtain ⟨hb30, h⟩ := BZ_el h
            exact pv_zret hc hr hQ hb30 (e_i2 h) (e_w2 h) dX9_readLine_75
        · refine pv_aload_n 0 hc dX9_readLine_50 rfl rfl ?_
          refine pv_iconst (2 : Int32) hc dX9_readLine_51 rfl ?_
          refine pv_iconst (4 : Int32) hc dX9_readLine_52 rfl ?_
          refine pv_bipush (11 : Int32) hc dX9_readLine_53 rfl ?_
          obtain ⟨v32, s33, hf31, h⟩ := BD2_el h
          refine m_call_194 hc hM (m_readPlain_ok hM (wp_at G a 7 s) hf31) (by decide) (Nat.le_of_ble_eq_true rfl) dX9_readLine_55 ?_
          obtain ⟨hb34, h⟩ := BZ_el h
          exact pv_zret hc hr hQ hb34 (e_i2 h) (e_w2 h) dX9_readLine_58
      · refine pv_aload_n 0 hc dX9_readLine_37 rfl rfl ?_
        obtain ⟨v36, s37, hf35, h⟩ := BD2_el h
        refine m_call_200 hc hM (m_readPlant_ok hM (wp_at G a 7 s) hf35) (by decide) (Nat.le_of_ble_eq_true rfl) dX9_readLine_38 ?_
        obtain ⟨hb38, h⟩ := BZ_el h
        exact pv_zret hc hr hQ hb38 (e_i2 h) (e_w2 h) dX9_readLine_41
    · refine pv_aload_n 0 hc dX9_readLine_24 rfl rfl ?_
      obtain ⟨v40, s41, hf39, h⟩ := BD2_el h
      refine m_call_197 hc hM (m_readSight_ok hM (wp_at G a 7 s) hf39) (by decide) (Nat.le_of_ble_eq_true rfl) dX9_readLine_25 ?_
      obtain ⟨hb42, h⟩ := BZ_el h
      exact pv_zret hc hr hQ hb42 (e_i2 h) (e_w2 h) dX9_readLine_28
  · refine pv_aload_n 0 hc dX9_readLine_8 rfl rfl ?_
    refine pv_iconst (0 : Int32) hc dX9_readLine_9 rfl ?_
    refine pv_iconst (5 : Int32) hc dX9_readLine_10 rfl ?_
    refine pv_iconst (0 : Int32) hc dX9_readLine_11 rfl ?_
    obtain ⟨v44, s45, hf43, h⟩ := BD2_el h
    refine m_call_194 hc hM (m_readPlain_ok hM (wp_at G a 7 s) hf43) (by decide) (Nat.le_of_ble_eq_true rfl) dX9_readLine_12 ?_
    obtain ⟨hb46, h⟩ := BZ_el h
    exact pv_zret hc hr hQ hb46 (e_i2 h) (e_w2 h) dX9_readLine_15
def m_house (s : Rec)  : Option (Int32 × Rec) := BD (m_begin s (900 : Int32)) (fun s2 => LP2 (fun (rec5 : Int32 → Rec → Option (Int32 × Rec)) (v3 : Int32) (s4 : Rec) => (if (24 : Int32) ≤ v3 then LT (sA s4 23 0 (0 : Int32)) (fun s6 => LT (sA s6 23 1 (0 : Int32)) (fun s7 => LT (sA s7 15 4 (6 : Int32)) (fun s8 => LT (sA s8 15 5 (2 : Int32)) (fun s9 => LP2 (fun (rec12 : Int32 → Rec → Option (Int32 × Rec)) (v10 : Int32) (s11 : Rec) => (if (gI s11 7) = 0 then LP2 (fun (rec15 : Int32 → Rec → Option (Int32 × Rec)) (v13 : Int32) (s14 : Rec) => (if (24 : Int32) ≤ v13 then LP2 (fun (rec18 : Int32 → Rec → Option (Int32 × Rec)) (v16 : Int32) (s17 : Rec) => (if (20 : Int32) ≤ v16 then BD (m_startSo s17) (fun s20 => LT (sI s20 24 (0 : Int32)) (fun s21 => some (v10, s21))) else IX v16 20 (fun i22 => LT (sL s17 19 i22 (gL s17 20 i22)) (fun s23 => rec18 (v16 + (1 : Int32)) s23)))) FU (0 : Int32) s14 else IX v13 24 (fun i24 => IX v13 406 (fun i25 => LT (sA s14 14 i25 (gA s14 15 i24)) (fun s26 => rec15 (v13 + (1 : Int32)) s26))))) FU (0 : Int32) s11 else BD2 (m_readLine s11) (fun v28 s29 => (if v28 = 0 then some (((-1 : Int32) - (gI s29 11)), s29) else BD2 (m_readEnd s29) (fun v31 s32 => (if v31 = 0 then some (((-1 : Int32) - (gI s32 11)), s32) else rec12 (v10 + (1 : Int32)) s32)))))) FU (0 : Int32) s9)))) else IX v3 24 (fun i33 => LT (sA s4 15 i33 (0 : Int32)) (fun s34 => rec5 (v3 + (1 : Int32)) s34)))) FU (0 : Int32) s2)
set_option maxHeartbeats 4000000 in
theorem m_house_ok {l : Launch} {g : Gh} {G : Wd} (hM : MOK g) {a : Nat} {s : Rec} (hG : G.2 a = some (7, s))  {r : Int32} {s' : Rec} (hf : m_house s  = some (r, s')) : MT l g yX9_house cX9_house 3 (some .int) 7 G [.ref a] (some (.int r)) (wp G a 7 s') := by
  refine pv_start (by decide) (Nat.le_of_ble_eq_true rfl) ?_
  intro X hl hg hN hc hr _ _ _ hQ
  subst hl; subst hg
  refine pv_G (wp_id hG) ?_
  have h := hf
  unfold m_house at h
  show V X 0 0 _ [(0, .ref a)] [] 0
  refine pv_aload_n 0 hc dX9_house_0 rfl rfl ?_
  refine pv_sipush (900 : Int32) hc dX9_house_1 rfl ?_
  obtain ⟨s2, hf1, h⟩ := BD_el h
  refine m_call_206 hc hM (m_begin_ok hM (wp_at G a 7 s) hf1) (by decide) (Nat.le_of_ble_eq_true rfl) dX9_house_4 ?_
  refine pv_iconst (0 : Int32) hc dX9_house_7 rfl ?_
  refine pv_istore_n (L' := [(1, .int (0 : Int32)), (0, .ref a)]) hc dX9_house_8 rfl hN (by decide) rfl ?_
  refine pv_sub [1, 0] rfl ?_
  refine LP2_el (P := fun v3 s4 => V X 0 0 (wp G a 7 s4) [(0, .ref a), (1, .int v3)] [] 9) ?_ FU _ _ h
  intro rec5 hrec5 v3 s4 h
  refine pv_iload_n 1 hc dX9_house_9 rfl rfl ?_
  refine pv_bipush (24 : Int32) hc dX9_house_10 rfl ?_
  refine pv_icmp_ge (tgt := 28) hc dX9_house_12 (by decide) h (fun h => ?_) (fun h => ?_)
  · refine pv_aload_n 0 hc dX9_house_28 rfl rfl ?_
    refine m_get_127 hc hM (wp_at G a 7 s4) dX9_house_29 ?_
    refine pv_iconst (0 : Int32) hc dX9_house_32 rfl ?_
    refine pv_iconst (0 : Int32) hc dX9_house_33 rfl ?_
    obtain ⟨s6, hs6, h⟩ := LT_el h
    refine m_ast_23 hc hM (by decide) (vp_lit (j := 0) (by decide)) hs6 dX9_house_34 ?_
    refine pv_aload_n 0 hc dX9_house_35 rfl rfl ?_
    refine m_get_127 hc hM (wp_at G a 7 s6) dX9_house_36 ?_
    refine pv_iconst (1 : Int32) hc dX9_house_39 rfl ?_
    refine pv_iconst (0 : Int32) hc dX9_house_40 rfl ?_
    obtain ⟨s7, hs7, h⟩ := LT_el h
    refine m_ast_23 hc hM (by decide) (vp_lit (j := 1) (by decide)) hs7 dX9_house_41 ?_
    refine pv_aload_n 0 hc dX9_house_42 rfl rfl ?_
    refine m_get_101 hc hM (wp_at G a 7 s7) dX9_house_43 ?_
    refine pv_iconst (4 : Int32) hc dX9_house_46 rfl ?_
    refine pv_bipush (6 : Int32) hc dX9_house_47 rfl ?_
    obtain ⟨s8, hs8, h⟩ := LT_el h
    refine m_ast_15 hc hM (vp_lit (j := 4) (by decide)) hs8 dX9_house_49 ?_
    refine pv_aload_n 0 hc dX9_house_50 rfl rfl ?_
    refine m_get_101 hc hM (wp_at G a 7 s8) dX9_house_51 ?_
    refine pv_iconst (5 : Int32) hc dX9_house_54 rfl ?_
    refine pv_iconst (2 : Int32) hc dX9_house_55 rfl ?_
    obtain ⟨s9, hs9, h⟩ := LT_el h
    refine m_ast_15 hc hM (vp_lit (j := 5) (by decide)) hs9 dX9_house_56 ?_
    refine pv_iconst (0 : Int32) hc dX9_house_57 rfl ?_
    refine pv_istore_n (L' := [(1, .int (0 : Int32)), (0, .ref a)]) hc dX9_house_58 rfl hN (by decide) rfl ?_
    refine pv_sub [1, 0] rfl ?_
    refine LP2_el (P := fun v10 s11 => V X 0 0 (wp G a 7 s11) [(0, .ref a), (1, .int v10)] [] 59) ?_ FU _ _ h
    intro rec12 hrec12 v10 s11 h
    refine pv_aload_n 0 hc dX9_house_59 rfl rfl ?_
    refine m_get_30 hc hM (wp_at G a 7 s11) dX9_house_60 ?_
    refine pv_if_eq (tgt := 93) hc dX9_house_63 (by decide) h (fun h => ?_) (fun h => ?_)
    · refine pv_iconst (0 : Int32) hc dX9_house_93 rfl ?_
      refine pv_istore_n (L' := [(2, .int (0 : Int32)), (0, .ref a), (1, .int v10)]) hc dX9_house_94 rfl hN (by decide) rfl ?_
      refine pv_sub [1, 2, 0] rfl ?_
      refine LP2_el (P := fun v13 s14 => V X 0 0 (wp G a 7 s14) [(0, .ref a), (1, .int v10), (2, .int v13)] [] 95) ?_ FU _ _ h
      intro rec15 hrec15 v13 s14 h
      refine pv_iload_n 2 hc dX9_house_95 rfl rfl ?_
      refine pv_bipush (24 : Int32) hc dX9_house_96 rfl ?_
      refine pv_icmp_ge (tgt := 119) hc dX9_house_98 (by decide) h (fun h => ?_) (fun h => ?_)
      · refine pv_iconst (0 : Int32) hc dX9_house_119 rfl ?_
        refine pv_istore_n (L' := [(2, .int (0 : Int32)), (0, .ref a), (1, .int v10)]) hc dX9_house_120 rfl hN (by decide) rfl ?_
        refine pv_sub [1, 2, 0] rfl ?_
        refine LP2_el (P := fun v16 s17 => V X 0 0 (wp G a 7 s17) [(0, .ref a), (1, .int v10), (2, .int v16)] [] 121) ?_ FU _ _ h
        intro rec18 hrec18 v16 s17 h
        refine pv_iload_n 2 hc dX9_house_121 rfl rfl ?_
        refine pv_bipush (20 : Int32) hc dX9_house_122 rfl ?_
        refine pv_icmp_ge (tgt := 145) hc dX9_house_124 (by decide) h (fun h => ?_) (fun h => ?_)
        · refine pv_aload_n 0 hc dX9_house_145 rfl rfl ?_
          obtain ⟨s20, hf19, h⟩ := BD_el h
          refine m_call_157 hc hM (m_startSo_ok hM (wp_at G a 7 s17) hf19) (by decide) (Nat.le_of_ble_eq_true rfl) dX9_house_146 ?_
          refine pv_aload_n 0 hc dX9_house_149 rfl rfl ?_
          refine pv_iconst (0 : Int32) hc dX9_house_150 rfl ?_
          obtain ⟨s21, hs21, h⟩ := LT_el h
          refine m_put_215 hc hM hs21 dX9_house_151 ?_
          refine pv_iload_n 1 hc dX9_house_154 rfl rfl ?_
          exact pv_iret hc hr hQ (e_i2 h) (e_w2 h) dX9_house_155
        · refine pv_aload_n 0 hc dX9_house_127 rfl rfl ?_
          refine m_get_113 hc hM (wp_at G a 7 s17) dX9_house_128 ?_
          refine pv_iload_n 2 hc dX9_house_131 rfl rfl ?_
          refine pv_aload_n 0 hc dX9_house_132 rfl rfl ?_
          refine m_get_117 hc hM (wp_at G a 7 s17) dX9_house_133 ?_
          refine pv_iload_n 2 hc dX9_house_136 rfl rfl ?_
          obtain ⟨i22, hi22, h⟩ := IX_el h
          refine m_ald_20 hc hM (wp_at G a 7 s17) hi22 dX9_house_137 ?_
          obtain ⟨s23, hs23, h⟩ := LT_el h
          refine m_ast_19 hc hM hi22 hs23 dX9_house_138 ?_
          refine pv_iinc (L' := [(2, .int (v16 + (1 : Int32))), (0, .ref a), (1, .int v10)]) 2 (v16 + (1 : Int32)) hc dX9_house_139 rfl rfl hN (by decide) rfl ?_
          refine pv_goto (tgt := 121) hc dX9_house_142 (by decide) ?_
          refine pv_sub [1, 2, 0] rfl ?_
          exact hrec18 _ _ h
      · refine pv_aload_n 0 hc dX9_house_101 rfl rfl ?_
        refine m_get_98 hc hM (wp_at G a 7 s14) dX9_house_102 ?_
        refine pv_iload_n 2 hc dX9_house_105 rfl rfl ?_
        refine pv_aload_n 0 hc dX9_house_106 rfl rfl ?_
        refine m_get_101 hc hM (wp_at G a 7 s14) dX9_house_107 ?_
        refine pv_iload_n 2 hc dX9_house_110 rfl rfl ?_
        obtain ⟨i24, hi24, h⟩ := IX_el h
        refine m_ald_15 hc hM (wp_at G a 7 s14) hi24 dX9_house_111 ?_
        obtain ⟨i25, hi25, h⟩ := IX_el h
        obtain ⟨s26, hs26, h⟩ := LT_el h
        refine m_ast_14 hc hM hi25 hs26 dX9_house_112 ?_
        refine pv_iinc (L' := [(2, .int (v13 + (1 : Int32))), (0, .ref a), (1, .int v10)]) 2 (v13 + (1 : Int32)) hc dX9_house_113 rfl rfl hN (by decide) rfl ?_
        refine pv_goto (tgt := 95) hc dX9_house_116 (by decide) ?_
        refine pv_sub [1, 2, 0] rfl ?_
        exact hrec15 _ _ h
    · refine pv_aload_n 0 hc dX9_house_66 rfl rfl ?_
      obtain ⟨v28, s29, hf27, h⟩ := BD2_el h
      refine m_call_209 hc hM (m_readLine_ok hM (wp_at G a 7 s11) hf27) (by decide) (Nat.le_of_ble_eq_true rfl) dX9_house_67 ?_
      refine pv_if_eq (tgt := 80) hc dX9_house_70 (by decide) h (fun h => ?_) (fun h => ?_)
      · refine pv_iconst (-1 : Int32) hc dX9_house_80 rfl ?_
        refine pv_aload_n 0 hc dX9_house_81 rfl rfl ?_
        refine m_get_69 hc hM (wp_at G a 7 s29) dX9_house_82 ?_
        refine pv_isub hc dX9_house_85 ?_
        exact pv_iret hc hr hQ (e_i2 h) (e_w2 h) dX9_house_86
      · refine pv_aload_n 0 hc dX9_house_73 rfl rfl ?_
        obtain ⟨v31, s32, hf30, h⟩ := BD2_el h
        refine m_call_212 hc hM (m_readEnd_ok hM (wp_at G a 7 s29) hf30) (by decide) (Nat.le_of_ble_eq_true rfl) dX9_house_74 ?_
        refine pv_if_ne (tgt := 87) hc dX9_house_77 (by decide) h (fun h => ?_) (fun h => ?_)
        · refine pv_iinc (L' := [(1, .int (v10 + (1 : Int32))), (0, .ref a)]) 1 (v10 + (1 : Int32)) hc dX9_house_87 rfl rfl hN (by decide) rfl ?_
          refine pv_goto (tgt := 59) hc dX9_house_90 (by decide) ?_
          refine pv_sub [1, 0] rfl ?_
          exact hrec12 _ _ h
        · refine pv_iconst (-1 : Int32) hc dX9_house_80 rfl ?_
          refine pv_aload_n 0 hc dX9_house_81 rfl rfl ?_
          refine m_get_69 hc hM (wp_at G a 7 s32) dX9_house_82 ?_
          refine pv_isub hc dX9_house_85 ?_
          exact pv_iret hc hr hQ (e_i2 h) (e_w2 h) dX9_house_86
  · refine pv_aload_n 0 hc dX9_house_15 rfl rfl ?_
    refine m_get_101 hc hM (wp_at G a 7 s4) dX9_house_16 ?_
    refine pv_iload_n 1 hc dX9_house_19 rfl rfl ?_
    refine pv_iconst (0 : Int32) hc dX9_house_20 rfl ?_
    obtain ⟨i33, hi33, h⟩ := IX_el h
    obtain ⟨s34, hs34, h⟩ := LT_el h
    refine m_ast_15 hc hM hi33 hs34 dX9_house_21 ?_
    refine pv_iinc (L' := [(1, .int (v3 + (1 : Int32))), (0, .ref a)]) 1 (v3 + (1 : Int32)) hc dX9_house_22 rfl rfl hN (by decide) rfl ?_
    refine pv_goto (tgt := 9) hc dX9_house_25 (by decide) ?_
    refine pv_sub [1, 0] rfl ?_
    exact hrec5 _ _ h
def m_fault (s : Rec)  : Option (Int32 × Rec) := LT (sI s 0 (0 : Int32)) (fun s1 => some ((gI s1 10), s1))
set_option maxHeartbeats 4000000 in
theorem m_fault_ok {l : Launch} {g : Gh} {G : Wd} (hM : MOK g) {a : Nat} {s : Rec} (hG : G.2 a = some (7, s))  {r : Int32} {s' : Rec} (hf : m_fault s  = some (r, s')) : MT l g yX9_fault cX9_fault 1 (some .int) 1 G [.ref a] (some (.int r)) (wp G a 7 s') := by
  refine pv_start (by decide) (Nat.le_of_ble_eq_true rfl) ?_
  intro X hl hg hN hc hr _ _ _ hQ
  subst hl; subst hg
  refine pv_G (wp_id hG) ?_
  have h := hf
  unfold m_fault at h
  show V X 0 0 _ [(0, .ref a)] [] 0
  refine pv_aload_n 0 hc dX9_fault_0 rfl rfl ?_
  refine pv_iconst (0 : Int32) hc dX9_fault_1 rfl ?_
  obtain ⟨s1, hs1, h⟩ := LT_el h
  refine m_put_1 hc hM hs1 dX9_fault_2 ?_
  refine pv_aload_n 0 hc dX9_fault_5 rfl rfl ?_
  refine m_get_66 hc hM (wp_at G a 7 s1) dX9_fault_6 ?_
  exact pv_iret hc hr hQ (e_i2 h) (e_w2 h) dX9_fault_9
def m_bits (x0 : Int32) : Option Int32 := LP2 (fun (rec3 : Int32 → Int32 → Option Int32) (v1 : Int32) (v2 : Int32) => (if v2 = 0 then some v1 else rec3 (v1 + (1 : Int32)) (v2 &&& (v2 - (1 : Int32))))) FU (0 : Int32) x0
set_option maxHeartbeats 4000000 in
theorem m_bits_ok {l : Launch} {g : Gh} {G : Wd} {x0 : Int32} {r : Int32} (hf : m_bits x0 = some r) : MT l g yX9_bits cX9_bits 3 (some .int) 1 G [.int x0] (some (.int r)) G := by
  refine pv_start (by decide) (Nat.le_of_ble_eq_true rfl) ?_
  intro X hl hg hN hc hr _ _ _ hQ
  subst hl; subst hg
  have h := hf
  unfold m_bits at h
  show V X 0 0 _ [(0, .int x0)] [] 0
  refine pv_iconst (0 : Int32) hc dX9_bits_0 rfl ?_
  refine pv_istore_n (L' := [(1, .int (0 : Int32)), (0, .int x0)]) hc dX9_bits_1 rfl hN (by decide) rfl ?_
  refine pv_iload_n 1 hc dX9_bits_2 rfl rfl ?_
  refine pv_istore_n (L' := [(2, .int x0), (1, .int (0 : Int32)), (0, .int x0)]) hc dX9_bits_3 rfl hN (by decide) rfl ?_
  refine pv_sub [1, 0] rfl ?_
  refine LP2_el (P := fun v1 v2 => V X 0 0 G [(1, .int v1), (2, .int v2)] [] 4) ?_ FU _ _ h
  intro rec3 hrec3 v1 v2 h
  refine pv_iload_n 1 hc dX9_bits_4 rfl rfl ?_
  refine pv_if_eq (tgt := 20) hc dX9_bits_5 (by decide) h (fun h => ?_) (fun h => ?_)
  · refine pv_iload_n 0 hc dX9_bits_20 rfl rfl ?_
    exact pv_iret hc hr hQ (e_i1 h) rfl dX9_bits_21
  · refine pv_iinc (L' := [(1, .int (v1 + (1 : Int32))), (2, .int v2)]) 0 (v1 + (1 : Int32)) hc dX9_bits_8 rfl rfl hN (by decide) rfl ?_
    refine pv_iload_n 1 hc dX9_bits_11 rfl rfl ?_
    refine pv_iload_n 1 hc dX9_bits_12 rfl rfl ?_
    refine pv_iconst (1 : Int32) hc dX9_bits_13 rfl ?_
    refine pv_isub hc dX9_bits_14 ?_
    refine pv_iand hc dX9_bits_15 ?_
    refine pv_istore_n (L' := [(2, .int (v2 &&& (v2 - (1 : Int32)))), (1, .int (v1 + (1 : Int32)))]) hc dX9_bits_16 rfl hN (by decide) rfl ?_
    refine pv_goto (tgt := 4) hc dX9_bits_17 (by decide) ?_
    refine pv_sub [1, 0] rfl ?_
    exact hrec3 _ _ h
def m_isFern (s : Rec) (x1 : Int32) : Option Int32 := BD (m_has (gA s 14 23) x1) (fun v2 => BZ v2 (some v2))
set_option maxHeartbeats 4000000 in
theorem m_isFern_ok {l : Launch} {g : Gh} {G : Wd} (hM : MOK g) {a : Nat} {s : Rec} (hG : G.2 a = some (7, s)) {x1 : Int32} {r : Int32} (hf : m_isFern s x1 = some r) : MT l g yX9_isFern cX9_isFern 2 (some .boolean) 2 G [.ref a, .int x1] (some (.int r)) G := by
  refine pv_start (by decide) (Nat.le_of_ble_eq_true rfl) ?_
  intro X hl hg hN hc hr _ _ _ hQ
  subst hl; subst hg
  have h := hf
  unfold m_isFern at h
  show V X 0 0 _ [(0, .ref a), (1, .int x1)] [] 0
  refine pv_aload_n 0 hc dX9_isFern_0 rfl rfl ?_
  refine m_get_98 hc hM hG dX9_isFern_1 ?_
  refine pv_bipush (23 : Int32) hc dX9_isFern_4 rfl ?_
  refine m_ald_14 hc hM hG (vp_lit (j := 23) (by decide)) dX9_isFern_6 ?_
  refine pv_iload_n 1 hc dX9_isFern_7 rfl rfl ?_
  obtain ⟨v2, hf1, h⟩ := BD_el h
  refine m_call_181 hc (m_has_ok hf1) (by decide) (Nat.le_of_ble_eq_true rfl) dX9_isFern_8 ?_
  obtain ⟨hb3, h⟩ := BZ_el h
  exact pv_zret hc hr hQ hb3 (e_i1 h) rfl dX9_isFern_11
def m_isPlant (s : Rec) (x1 : Int32) : Option Int32 := BD (m_isIn x1 (0 : Int32) ((gA s 14 1) - (1 : Int32))) (fun v2 => BZ v2 (some v2))
set_option maxHeartbeats 4000000 in
theorem m_isPlant_ok {l : Launch} {g : Gh} {G : Wd} (hM : MOK g) {a : Nat} {s : Rec} (hG : G.2 a = some (7, s)) {x1 : Int32} {r : Int32} (hf : m_isPlant s x1 = some r) : MT l g yX9_isPlant cX9_isPlant 2 (some .boolean) 2 G [.ref a, .int x1] (some (.int r)) G := by
  refine pv_start (by decide) (Nat.le_of_ble_eq_true rfl) ?_
  intro X hl hg hN hc hr _ _ _ hQ
  subst hl; subst hg
  have h := hf
  unfold m_isPlant at h
  show V X 0 0 _ [(0, .ref a), (1, .int x1)] [] 0
  refine pv_iload_n 1 hc dX9_isPlant_0 rfl rfl ?_
  refine pv_iconst (0 : Int32) hc dX9_isPlant_1 rfl ?_
  refine pv_aload_n 0 hc dX9_isPlant_2 rfl rfl ?_
  refine m_get_98 hc hM hG dX9_isPlant_3 ?_
  refine pv_iconst (1 : Int32) hc dX9_isPlant_6 rfl ?_
  refine m_ald_14 hc hM hG (vp_lit (j := 1) (by decide)) dX9_isPlant_7 ?_
  refine pv_iconst (1 : Int32) hc dX9_isPlant_8 rfl ?_
  refine pv_isub hc dX9_isPlant_9 ?_
  obtain ⟨v2, hf1, h⟩ := BD_el h
  refine m_call_75 hc (m_isIn_ok hf1) (by decide) (Nat.le_of_ble_eq_true rfl) dX9_isPlant_10 ?_
  obtain ⟨hb3, h⟩ := BZ_el h
  exact pv_zret hc hr hQ hb3 (e_i1 h) rfl dX9_isPlant_13
def m_refuse (s : Rec)  : Option (Int32 × Rec) := LT (sI s 0 (1 : Int32)) (fun s1 => some ((0 : Int32), s1))
set_option maxHeartbeats 4000000 in
theorem m_refuse_ok {l : Launch} {g : Gh} {G : Wd} (hM : MOK g) {a : Nat} {s : Rec} (hG : G.2 a = some (7, s))  {r : Int32} {s' : Rec} (hf : m_refuse s  = some (r, s')) : MT l g yX9_refuse cX9_refuse 1 (some .int) 1 G [.ref a] (some (.int r)) (wp G a 7 s') := by
  refine pv_start (by decide) (Nat.le_of_ble_eq_true rfl) ?_
  intro X hl hg hN hc hr _ _ _ hQ
  subst hl; subst hg
  refine pv_G (wp_id hG) ?_
  have h := hf
  unfold m_refuse at h
  show V X 0 0 _ [(0, .ref a)] [] 0
  refine pv_aload_n 0 hc dX9_refuse_0 rfl rfl ?_
  refine pv_iconst (1 : Int32) hc dX9_refuse_1 rfl ?_
  obtain ⟨s1, hs1, h⟩ := LT_el h
  refine m_put_1 hc hM hs1 dX9_refuse_2 ?_
  refine pv_iconst (0 : Int32) hc dX9_refuse_5 rfl ?_
  exact pv_iret hc hr hQ (e_i2 h) (e_w2 h) dX9_refuse_6
def m_around (s : Rec) (x1 : Int32) : Option Int32 := IX ((6 : Int32) + x1) 406 (fun i1 => some ((gA s 14 i1) ||| ((1 : Int32) <<< (x1 &&& 31))))
set_option maxHeartbeats 4000000 in
theorem m_around_ok {l : Launch} {g : Gh} {G : Wd} (hM : MOK g) {a : Nat} {s : Rec} (hG : G.2 a = some (7, s)) {x1 : Int32} {r : Int32} (hf : m_around s x1 = some r) : MT l g yX9_around cX9_around 2 (some .int) 1 G [.ref a, .int x1] (some (.int r)) G := by
  refine pv_start (by decide) (Nat.le_of_ble_eq_true rfl) ?_
  intro X hl hg hN hc hr _ _ _ hQ
  subst hl; subst hg
  have h := hf
  unfold m_around at h
  show V X 0 0 _ [(0, .ref a), (1, .int x1)] [] 0
  refine pv_aload_n 0 hc dX9_around_0 rfl rfl ?_
  refine m_get_98 hc hM hG dX9_around_1 ?_
  refine pv_bipush (6 : Int32) hc dX9_around_4 rfl ?_
  refine pv_iload_n 1 hc dX9_around_6 rfl rfl ?_
  refine pv_iadd hc dX9_around_7 ?_
  obtain ⟨i1, hi1, h⟩ := IX_el h
  refine m_ald_14 hc hM hG hi1 dX9_around_8 ?_
  refine pv_iconst (1 : Int32) hc dX9_around_9 rfl ?_
  refine pv_iload_n 1 hc dX9_around_10 rfl rfl ?_
  refine pv_ishl hc dX9_around_11 ?_
  refine pv_ior hc dX9_around_12 ?_
  exact pv_iret hc hr hQ (e_i1 h) rfl dX9_around_13
def m_seesOf (s : Rec) (x1 : Int32) (x2 : Int32) : Option Int32 := BD (m_isFern s x1) (fun v2 => (if v2 = 0 then IX ((32 : Int32) + x1) 406 (fun i3 => (if ((gA s 14 i3) + x2) < (gA s 14 4) then IX ((26 : Int32) + x1) 406 (fun i4 => BD (m_around s (gA s 14 i4)) (fun v6 => some v6)) else some (0 : Int32))) else some (0 : Int32)))
set_option maxHeartbeats 4000000 in
theorem m_seesOf_ok {l : Launch} {g : Gh} {G : Wd} (hM : MOK g) {a : Nat} {s : Rec} (hG : G.2 a = some (7, s)) {x1 : Int32} {x2 : Int32} {r : Int32} (hf : m_seesOf s x1 x2 = some r) : MT l g yX9_seesOf cX9_seesOf 3 (some .int) 3 G [.ref a, .int x1, .int x2] (some (.int r)) G := by
  refine pv_start (by decide) (Nat.le_of_ble_eq_true rfl) ?_
  intro X hl hg hN hc hr _ _ _ hQ
  subst hl; subst hg
  have h := hf
  unfold m_seesOf at h
  show V X 0 0 _ [(0, .ref a), (1, .int x1), (2, .int x2)] [] 0
  refine pv_aload_n 0 hc dX9_seesOf_0 rfl rfl ?_
  refine pv_iload_n 1 hc dX9_seesOf_1 rfl rfl ?_
  obtain ⟨v2, hf1, h⟩ := BD_el h
  refine m_call_218 hc hM hG (m_isFern_ok hM hG hf1) (by decide) (Nat.le_of_ble_eq_true rfl) dX9_seesOf_2 ?_
  refine pv_if_ne (tgt := 28) hc dX9_seesOf_5 (by decide) h (fun h => ?_) (fun h => ?_)
  · refine pv_iconst (0 : Int32) hc dX9_seesOf_28 rfl ?_
    refine pv_goto (tgt := 45) hc dX9_seesOf_29 (by decide) ?_
    exact pv_iret hc hr hQ (e_i1 h) rfl dX9_seesOf_45
  · refine pv_aload_n 0 hc dX9_seesOf_8 rfl rfl ?_
    refine m_get_98 hc hM hG dX9_seesOf_9 ?_
    refine pv_bipush (32 : Int32) hc dX9_seesOf_12 rfl ?_
    refine pv_iload_n 1 hc dX9_seesOf_14 rfl rfl ?_
    refine pv_iadd hc dX9_seesOf_15 ?_
    obtain ⟨i3, hi3, h⟩ := IX_el h
    refine m_ald_14 hc hM hG hi3 dX9_seesOf_16 ?_
    refine pv_iload_n 2 hc dX9_seesOf_17 rfl rfl ?_
    refine pv_iadd hc dX9_seesOf_18 ?_
    refine pv_aload_n 0 hc dX9_seesOf_19 rfl rfl ?_
    refine m_get_98 hc hM hG dX9_seesOf_20 ?_
    refine pv_iconst (4 : Int32) hc dX9_seesOf_23 rfl ?_
    refine m_ald_14 hc hM hG (vp_lit (j := 4) (by decide)) dX9_seesOf_24 ?_
    refine pv_icmp_lt (tgt := 32) hc dX9_seesOf_25 (by decide) h (fun h => ?_) (fun h => ?_)
    · refine pv_aload_n 0 hc dX9_seesOf_32 rfl rfl ?_
      refine pv_aload_n 0 hc dX9_seesOf_33 rfl rfl ?_
      refine m_get_98 hc hM hG dX9_seesOf_34 ?_
      refine pv_bipush (26 : Int32) hc dX9_seesOf_37 rfl ?_
      refine pv_iload_n 1 hc dX9_seesOf_39 rfl rfl ?_
      refine pv_iadd hc dX9_seesOf_40 ?_
      obtain ⟨i4, hi4, h⟩ := IX_el h
      refine m_ald_14 hc hM hG hi4 dX9_seesOf_41 ?_
      obtain ⟨v6, hf5, h⟩ := BD_el h
      refine m_call_221 hc hM hG (m_around_ok hM hG hf5) (by decide) (Nat.le_of_ble_eq_true rfl) dX9_seesOf_42 ?_
      exact pv_iret hc hr hQ (e_i1 h) rfl dX9_seesOf_45
    · refine pv_iconst (0 : Int32) hc dX9_seesOf_28 rfl ?_
      refine pv_goto (tgt := 45) hc dX9_seesOf_29 (by decide) ?_
      exact pv_iret hc hr hQ (e_i1 h) rfl dX9_seesOf_45
def m_leafOf (s : Rec) (x1 : Int32) (x2 : Int32) : Option Int32 := IX (((86 : Int32) + ((12 : Int32) * x1)) + x2) 406 (fun i1 => some (gA s 14 i1))
set_option maxHeartbeats 4000000 in
theorem m_leafOf_ok {l : Launch} {g : Gh} {G : Wd} (hM : MOK g) {a : Nat} {s : Rec} (hG : G.2 a = some (7, s)) {x1 : Int32} {x2 : Int32} {r : Int32} (hf : m_leafOf s x1 x2 = some r) : MT l g yX9_leafOf cX9_leafOf 3 (some .int) 1 G [.ref a, .int x1, .int x2] (some (.int r)) G := by
  refine pv_start (by decide) (Nat.le_of_ble_eq_true rfl) ?_
  intro X hl hg hN hc hr _ _ _ hQ
  subst hl; subst hg
  have h := hf
  unfold m_leafOf at h
  show V X 0 0 _ [(0, .ref a), (1, .int x1), (2, .int x2)] [] 0
  refine pv_aload_n 0 hc dX9_leafOf_0 rfl rfl ?_
  refine m_get_98 hc hM hG dX9_leafOf_1 ?_
  refine pv_bipush (86 : Int32) hc dX9_leafOf_4 rfl ?_
  refine pv_bipush (12 : Int32) hc dX9_leafOf_6 rfl ?_
  refine pv_iload_n 1 hc dX9_leafOf_8 rfl rfl ?_
  refine pv_imul hc dX9_leafOf_9 ?_
  refine pv_iadd hc dX9_leafOf_10 ?_
  refine pv_iload_n 2 hc dX9_leafOf_11 rfl rfl ?_
  refine pv_iadd hc dX9_leafOf_12 ?_
  obtain ⟨i1, hi1, h⟩ := IX_el h
  refine m_ald_14 hc hM hG hi1 dX9_leafOf_13 ?_
  exact pv_iret hc hr hQ (e_i1 h) rfl dX9_leafOf_14
