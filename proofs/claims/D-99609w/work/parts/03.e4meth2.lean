/-! ParlourLeavesModel's methods: what each computes, and that it does (written by gen/dec_all.py) -/
set_option maxRecDepth 100000
def m_hasCome (s : Rec) (x1 : Int32) (x2 : Int32) : Option Int32 := BD (m_leafOf s x1 x2) (fun v2 => (if v2 = (-1 : Int32) then some (0 : Int32) else BD (m_leafOf s x1 x2) (fun v4 => (if (gA s 14 24) < v4 then some (0 : Int32) else some (1 : Int32)))))
set_option maxHeartbeats 4000000 in
theorem m_hasCome_ok {l : Launch} {g : Gh} {G : Wd} (hM : MOK g) {a : Nat} {s : Rec} (hG : G.2 a = some (7, s)) {x1 : Int32} {x2 : Int32} {r : Int32} (hf : m_hasCome s x1 x2 = some r) : MT l g yX9_hasCome cX9_hasCome 3 (some .boolean) 2 G [.ref a, .int x1, .int x2] (some (.int r)) G := by
  refine pv_start (by decide) (Nat.le_of_ble_eq_true rfl) ?_
  intro X hl hg hN hc hr _ _ _ hQ
  subst hl; subst hg
  have h := hf
  unfold m_hasCome at h
  show V X 0 0 _ [(0, .ref a), (1, .int x1), (2, .int x2)] [] 0
  refine pv_aload_n 0 hc dX9_hasCome_0 rfl rfl ?_
  refine pv_iload_n 1 hc dX9_hasCome_1 rfl rfl ?_
  refine pv_iload_n 2 hc dX9_hasCome_2 rfl rfl ?_
  obtain ⟨v2, hf1, h⟩ := BD_el h
  refine m_call_224 hc hM hG (m_leafOf_ok hM hG hf1) (by decide) (Nat.le_of_ble_eq_true rfl) dX9_hasCome_3 ?_
  refine pv_iconst (-1 : Int32) hc dX9_hasCome_6 rfl ?_
  refine pv_icmp_eq (tgt := 30) hc dX9_hasCome_7 (by decide) h (fun h => ?_) (fun h => ?_)
  · refine pv_iconst (0 : Int32) hc dX9_hasCome_30 rfl ?_
    exact pv_zret hc hr hQ (by decide) (e_i1 h) rfl dX9_hasCome_31
  · refine pv_aload_n 0 hc dX9_hasCome_10 rfl rfl ?_
    refine pv_iload_n 1 hc dX9_hasCome_11 rfl rfl ?_
    refine pv_iload_n 2 hc dX9_hasCome_12 rfl rfl ?_
    obtain ⟨v4, hf3, h⟩ := BD_el h
    refine m_call_224 hc hM hG (m_leafOf_ok hM hG hf3) (by decide) (Nat.le_of_ble_eq_true rfl) dX9_hasCome_13 ?_
    refine pv_aload_n 0 hc dX9_hasCome_16 rfl rfl ?_
    refine m_get_98 hc hM hG dX9_hasCome_17 ?_
    refine pv_bipush (24 : Int32) hc dX9_hasCome_20 rfl ?_
    refine m_ald_14 hc hM hG (vp_lit (j := 24) (by decide)) dX9_hasCome_22 ?_
    refine pv_icmp_gt (tgt := 30) hc dX9_hasCome_23 (by decide) h (fun h => ?_) (fun h => ?_)
    · refine pv_iconst (0 : Int32) hc dX9_hasCome_30 rfl ?_
      exact pv_zret hc hr hQ (by decide) (e_i1 h) rfl dX9_hasCome_31
    · refine pv_iconst (1 : Int32) hc dX9_hasCome_26 rfl ?_
      refine pv_goto (tgt := 31) hc dX9_hasCome_27 (by decide) ?_
      exact pv_zret hc hr hQ (by decide) (e_i1 h) rfl dX9_hasCome_31
def m_willCome (s : Rec) (x1 : Int32) (x2 : Int32) : Option Int32 := BD (m_leafOf s x1 x2) (fun v2 => (if v2 ≤ (gA s 14 24) then some (0 : Int32) else some (1 : Int32)))
set_option maxHeartbeats 4000000 in
theorem m_willCome_ok {l : Launch} {g : Gh} {G : Wd} (hM : MOK g) {a : Nat} {s : Rec} (hG : G.2 a = some (7, s)) {x1 : Int32} {x2 : Int32} {r : Int32} (hf : m_willCome s x1 x2 = some r) : MT l g yX9_willCome cX9_willCome 3 (some .boolean) 2 G [.ref a, .int x1, .int x2] (some (.int r)) G := by
  refine pv_start (by decide) (Nat.le_of_ble_eq_true rfl) ?_
  intro X hl hg hN hc hr _ _ _ hQ
  subst hl; subst hg
  have h := hf
  unfold m_willCome at h
  show V X 0 0 _ [(0, .ref a), (1, .int x1), (2, .int x2)] [] 0
  refine pv_aload_n 0 hc dX9_willCome_0 rfl rfl ?_
  refine pv_iload_n 1 hc dX9_willCome_1 rfl rfl ?_
  refine pv_iload_n 2 hc dX9_willCome_2 rfl rfl ?_
  obtain ⟨v2, hf1, h⟩ := BD_el h
  refine m_call_224 hc hM hG (m_leafOf_ok hM hG hf1) (by decide) (Nat.le_of_ble_eq_true rfl) dX9_willCome_3 ?_
  refine pv_aload_n 0 hc dX9_willCome_6 rfl rfl ?_
  refine m_get_98 hc hM hG dX9_willCome_7 ?_
  refine pv_bipush (24 : Int32) hc dX9_willCome_10 rfl ?_
  refine m_ald_14 hc hM hG (vp_lit (j := 24) (by decide)) dX9_willCome_12 ?_
  refine pv_icmp_le (tgt := 20) hc dX9_willCome_13 (by decide) h (fun h => ?_) (fun h => ?_)
  · refine pv_iconst (0 : Int32) hc dX9_willCome_20 rfl ?_
    exact pv_zret hc hr hQ (by decide) (e_i1 h) rfl dX9_willCome_21
  · refine pv_iconst (1 : Int32) hc dX9_willCome_16 rfl ?_
    refine pv_goto (tgt := 21) hc dX9_willCome_17 (by decide) ?_
    exact pv_zret hc hr hQ (by decide) (e_i1 h) rfl dX9_willCome_21
def m_shownBy (s : Rec) (x1 : Int32) (x2 : Int32) : Option Int32 := LP2 (fun (rec3 : Int32 → Int32 → Option Int32) (v1 : Int32) (v2 : Int32) => (if (gA s 14 25) ≤ v2 then some v1 else JN1 (fun (u4 : Unit) => rec3 (v1 ||| ((1 : Int32) <<< (v2 &&& 31))) (v2 + (1 : Int32))) (fun (j5 : Unit → Option Int32) => (if x2 = 0 then BD (m_willCome s x1 v2) (fun v7 => (if v7 = 0 then rec3 v1 (v2 + (1 : Int32)) else j5 ())) else BD (m_hasCome s x1 v2) (fun v9 => (if v9 = 0 then rec3 v1 (v2 + (1 : Int32)) else j5 ())))))) FU (0 : Int32) (0 : Int32)
set_option maxHeartbeats 4000000 in
theorem m_shownBy_ok {l : Launch} {g : Gh} {G : Wd} (hM : MOK g) {a : Nat} {s : Rec} (hG : G.2 a = some (7, s)) {x1 : Int32} {x2 : Int32} {r : Int32} (hf : m_shownBy s x1 x2 = some r) : MT l g yX9_shownBy cX9_shownBy 5 (some .int) 3 G [.ref a, .int x1, .int x2] (some (.int r)) G := by
  refine pv_start (by decide) (Nat.le_of_ble_eq_true rfl) ?_
  intro X hl hg hN hc hr _ _ _ hQ
  subst hl; subst hg
  have h := hf
  unfold m_shownBy at h
  show V X 0 0 _ [(0, .ref a), (1, .int x1), (2, .int x2)] [] 0
  refine pv_iconst (0 : Int32) hc dX9_shownBy_0 rfl ?_
  refine pv_istore_n (L' := [(3, .int (0 : Int32)), (0, .ref a), (1, .int x1), (2, .int x2)]) hc dX9_shownBy_1 rfl hN (by decide) rfl ?_
  refine pv_iconst (0 : Int32) hc dX9_shownBy_2 rfl ?_
  refine pv_istore (L' := [(4, .int (0 : Int32)), (3, .int (0 : Int32)), (0, .ref a), (1, .int x1), (2, .int x2)]) hc dX9_shownBy_3 hN (by decide) rfl ?_
  refine pv_sub [2, 3, 4, 1, 0] rfl ?_
  refine LP2_el (P := fun v1 v2 => V X 0 0 G [(0, .ref a), (1, .int x1), (2, .int x2), (3, .int v1), (4, .int v2)] [] 5) ?_ FU _ _ h
  intro rec3 hrec3 v1 v2 h
  refine pv_iload 4 hc dX9_shownBy_5 rfl ?_
  refine pv_aload_n 0 hc dX9_shownBy_7 rfl rfl ?_
  refine m_get_98 hc hM hG dX9_shownBy_8 ?_
  refine pv_bipush (25 : Int32) hc dX9_shownBy_11 rfl ?_
  refine m_ald_14 hc hM hG (vp_lit (j := 25) (by decide)) dX9_shownBy_13 ?_
  refine pv_icmp_ge (tgt := 57) hc dX9_shownBy_14 (by decide) h (fun h => ?_) (fun h => ?_)
  · refine pv_iload_n 3 hc dX9_shownBy_57 rfl rfl ?_
    exact pv_iret hc hr hQ (e_i1 h) rfl dX9_shownBy_58
  · refine pv_iload_n 2 hc dX9_shownBy_17 rfl rfl ?_
    obtain ⟨j5, hj5, h⟩ := JN1_el (P := fun u4 => V X 0 0 G [(0, .ref a), (1, .int x1), (2, .int x2), (3, .int v1), (4, .int v2)] [] 44) h (by
        intro u4 h
        refine pv_iload_n 3 hc dX9_shownBy_44 rfl rfl ?_
        refine pv_iconst (1 : Int32) hc dX9_shownBy_45 rfl ?_
        refine pv_iload 4 hc dX9_shownBy_46 rfl ?_
        refine pv_ishl hc dX9_shownBy_48 ?_
        refine pv_ior hc dX9_shownBy_49 ?_
        refine pv_istore_n (L' := [(3, .int (v1 ||| ((1 : Int32) <<< (v2 &&& 31)))), (0, .ref a), (1, .int x1), (2, .int x2), (4, .int v2)]) hc dX9_shownBy_50 rfl hN (by decide) rfl ?_
        refine pv_iinc (L' := [(4, .int (v2 + (1 : Int32))), (3, .int (v1 ||| ((1 : Int32) <<< (v2 &&& 31)))), (0, .ref a), (1, .int x1), (2, .int x2)]) 4 (v2 + (1 : Int32)) hc dX9_shownBy_51 rfl rfl hN (by decide) rfl ?_
        refine pv_goto (tgt := 5) hc dX9_shownBy_54 (by decide) ?_
        refine pv_sub [2, 3, 4, 1, 0] rfl ?_
        exact hrec3 _ _ h)
    refine pv_if_eq (tgt := 34) hc dX9_shownBy_18 (by decide) h (fun h => ?_) (fun h => ?_)
    · refine pv_aload_n 0 hc dX9_shownBy_34 rfl rfl ?_
      refine pv_iload_n 1 hc dX9_shownBy_35 rfl rfl ?_
      refine pv_iload 4 hc dX9_shownBy_36 rfl ?_
      obtain ⟨v7, hf6, h⟩ := BD_el h
      refine m_call_231 hc hM hG (m_willCome_ok hM hG hf6) (by decide) (Nat.le_of_ble_eq_true rfl) dX9_shownBy_38 ?_
      refine pv_if_eq (tgt := 51) hc dX9_shownBy_41 (by decide) h (fun h => ?_) (fun h => ?_)
      · refine pv_iinc (L' := [(4, .int (v2 + (1 : Int32))), (0, .ref a), (1, .int x1), (2, .int x2), (3, .int v1)]) 4 (v2 + (1 : Int32)) hc dX9_shownBy_51 rfl rfl hN (by decide) rfl ?_
        refine pv_goto (tgt := 5) hc dX9_shownBy_54 (by decide) ?_
        refine pv_sub [1, 2, 3, 4, 0] rfl ?_
        exact hrec3 _ _ h
      · exact hj5 _ h
    · refine pv_aload_n 0 hc dX9_shownBy_21 rfl rfl ?_
      refine pv_iload_n 1 hc dX9_shownBy_22 rfl rfl ?_
      refine pv_iload 4 hc dX9_shownBy_23 rfl ?_
      obtain ⟨v9, hf8, h⟩ := BD_el h
      refine m_call_228 hc hM hG (m_hasCome_ok hM hG hf8) (by decide) (Nat.le_of_ble_eq_true rfl) dX9_shownBy_25 ?_
      refine pv_if_eq (tgt := 51) hc dX9_shownBy_28 (by decide) h (fun h => ?_) (fun h => ?_)
      · refine pv_iinc (L' := [(4, .int (v2 + (1 : Int32))), (0, .ref a), (1, .int x1), (2, .int x2), (3, .int v1)]) 4 (v2 + (1 : Int32)) hc dX9_shownBy_51 rfl rfl hN (by decide) rfl ?_
        refine pv_goto (tgt := 5) hc dX9_shownBy_54 (by decide) ?_
        refine pv_sub [1, 2, 3, 4, 0] rfl ?_
        exact hrec3 _ _ h
      · refine pv_goto (tgt := 44) hc dX9_shownBy_31 (by decide) ?_
        exact hj5 _ h
def m_plant (s : Rec) (x1 : Int32) (x2 : Int32) : Option (Int32 × Rec) := LT (sI s 0 (0 : Int32)) (fun s1 => BD (m_isPlant s1 x1) (fun v3 => (if v3 = 0 then BD2 (m_refuse s1) (fun v33 s34 => some (v33, s34)) else (if x2 = (0 : Int32) then IX ((26 : Int32) + x1) 406 (fun i4 => some ((gA s1 14 i4), s1)) else if x2 = (1 : Int32) then IX ((17 : Int32) + x1) 406 (fun i6 => some ((gA s1 14 i6), s1)) else if x2 = (2 : Int32) then BD (m_isFern s1 x1) (fun v9 => (if v9 = 0 then some ((0 : Int32), s1) else some ((1 : Int32), s1))) else if x2 = (3 : Int32) then IX ((32 : Int32) + x1) 406 (fun i11 => some ((gA s1 14 i11), s1)) else if x2 = (4 : Int32) then BD (m_seesOf s1 x1 (0 : Int32)) (fun v14 => some (v14, s1)) else if x2 = (5 : Int32) then BD (m_shownBy s1 x1 (1 : Int32)) (fun v17 => BD (m_bits v17) (fun v19 => some (v19, s1))) else if x2 = (6 : Int32) then BD (m_shownBy s1 x1 (1 : Int32)) (fun v22 => some (v22, s1)) else if x2 = (7 : Int32) then BD (m_shownBy s1 x1 (0 : Int32)) (fun v25 => BD (m_bits v25) (fun v27 => some (v27, s1))) else BD2 (m_refuse s1) (fun v30 s31 => some (v30, s31))))))
set_option maxHeartbeats 4000000 in
theorem m_plant_ok {l : Launch} {g : Gh} {G : Wd} (hM : MOK g) {a : Nat} {s : Rec} (hG : G.2 a = some (7, s)) {x1 : Int32} {x2 : Int32} {r : Int32} {s' : Rec} (hf : m_plant s x1 x2 = some (r, s')) : MT l g yX9_plant cX9_plant 3 (some .int) 4 G [.ref a, .int x1, .int x2] (some (.int r)) (wp G a 7 s') := by
  refine pv_start (by decide) (Nat.le_of_ble_eq_true rfl) ?_
  intro X hl hg hN hc hr _ _ _ hQ
  subst hl; subst hg
  refine pv_G (wp_id hG) ?_
  have h := hf
  unfold m_plant at h
  show V X 0 0 _ [(0, .ref a), (1, .int x1), (2, .int x2)] [] 0
  refine pv_aload_n 0 hc dX9_plant_0 rfl rfl ?_
  refine pv_iconst (0 : Int32) hc dX9_plant_1 rfl ?_
  obtain ⟨s1, hs1, h⟩ := LT_el h
  refine m_put_1 hc hM hs1 dX9_plant_2 ?_
  refine pv_aload_n 0 hc dX9_plant_5 rfl rfl ?_
  refine pv_iload_n 1 hc dX9_plant_6 rfl rfl ?_
  obtain ⟨v3, hf2, h⟩ := BD_el h
  refine m_call_244 hc hM (wp_at G a 7 s1) (m_isPlant_ok hM (wp_at G a 7 s1) hf2) (by decide) (Nat.le_of_ble_eq_true rfl) dX9_plant_7 ?_
  refine pv_if_ne (tgt := 18) hc dX9_plant_10 (by decide) h (fun h => ?_) (fun h => ?_)
  · refine pv_iload_n 2 hc dX9_plant_18 rfl rfl ?_
    refine pv_tsw (tgt := 64) (c := 0) (off := 45) hc dX9_plant_19 (by decide) (by decide) (by decide) (by decide) h (fun h => ?_) (fun hx5 h => ?_)
    · refine pv_aload_n 0 hc dX9_plant_64 rfl rfl ?_
      refine m_get_98 hc hM (wp_at G a 7 s1) dX9_plant_65 ?_
      refine pv_bipush (26 : Int32) hc dX9_plant_68 rfl ?_
      refine pv_iload_n 1 hc dX9_plant_70 rfl rfl ?_
      refine pv_iadd hc dX9_plant_71 ?_
      obtain ⟨i4, hi4, h⟩ := IX_el h
      refine m_ald_14 hc hM (wp_at G a 7 s1) hi4 dX9_plant_72 ?_
      exact pv_iret hc hr hQ (e_i2 h) (e_w2 h) dX9_plant_73
    refine pv_tsw (tgt := 74) (c := 1) (off := 55) hc dX9_plant_19 (by decide) (by decide) (by decide) (by decide) h (fun h => ?_) (fun hx7 h => ?_)
    · refine pv_aload_n 0 hc dX9_plant_74 rfl rfl ?_
      refine m_get_98 hc hM (wp_at G a 7 s1) dX9_plant_75 ?_
      refine pv_bipush (17 : Int32) hc dX9_plant_78 rfl ?_
      refine pv_iload_n 1 hc dX9_plant_80 rfl rfl ?_
      refine pv_iadd hc dX9_plant_81 ?_
      obtain ⟨i6, hi6, h⟩ := IX_el h
      refine m_ald_14 hc hM (wp_at G a 7 s1) hi6 dX9_plant_82 ?_
      exact pv_iret hc hr hQ (e_i2 h) (e_w2 h) dX9_plant_83
    refine pv_tsw (tgt := 84) (c := 2) (off := 65) hc dX9_plant_19 (by decide) (by decide) (by decide) (by decide) h (fun h => ?_) (fun hx10 h => ?_)
    · refine pv_aload_n 0 hc dX9_plant_84 rfl rfl ?_
      refine pv_iload_n 1 hc dX9_plant_85 rfl rfl ?_
      obtain ⟨v9, hf8, h⟩ := BD_el h
      refine m_call_218 hc hM (wp_at G a 7 s1) (m_isFern_ok hM (wp_at G a 7 s1) hf8) (by decide) (Nat.le_of_ble_eq_true rfl) dX9_plant_86 ?_
      refine pv_if_eq (tgt := 96) hc dX9_plant_89 (by decide) h (fun h => ?_) (fun h => ?_)
      · refine pv_iconst (0 : Int32) hc dX9_plant_96 rfl ?_
        exact pv_iret hc hr hQ (e_i2 h) (e_w2 h) dX9_plant_97
      · refine pv_iconst (1 : Int32) hc dX9_plant_92 rfl ?_
        refine pv_goto (tgt := 97) hc dX9_plant_93 (by decide) ?_
        exact pv_iret hc hr hQ (e_i2 h) (e_w2 h) dX9_plant_97
    refine pv_tsw (tgt := 98) (c := 3) (off := 79) hc dX9_plant_19 (by decide) (by decide) (by decide) (by decide) h (fun h => ?_) (fun hx12 h => ?_)
    · refine pv_aload_n 0 hc dX9_plant_98 rfl rfl ?_
      refine m_get_98 hc hM (wp_at G a 7 s1) dX9_plant_99 ?_
      refine pv_bipush (32 : Int32) hc dX9_plant_102 rfl ?_
      refine pv_iload_n 1 hc dX9_plant_104 rfl rfl ?_
      refine pv_iadd hc dX9_plant_105 ?_
      obtain ⟨i11, hi11, h⟩ := IX_el h
      refine m_ald_14 hc hM (wp_at G a 7 s1) hi11 dX9_plant_106 ?_
      exact pv_iret hc hr hQ (e_i2 h) (e_w2 h) dX9_plant_107
    refine pv_tsw (tgt := 108) (c := 4) (off := 89) hc dX9_plant_19 (by decide) (by decide) (by decide) (by decide) h (fun h => ?_) (fun hx15 h => ?_)
    · refine pv_aload_n 0 hc dX9_plant_108 rfl rfl ?_
      refine pv_iload_n 1 hc dX9_plant_109 rfl rfl ?_
      refine pv_iconst (0 : Int32) hc dX9_plant_110 rfl ?_
      obtain ⟨v14, hf13, h⟩ := BD_el h
      refine m_call_250 hc hM (wp_at G a 7 s1) (m_seesOf_ok hM (wp_at G a 7 s1) hf13) (by decide) (Nat.le_of_ble_eq_true rfl) dX9_plant_111 ?_
      exact pv_iret hc hr hQ (e_i2 h) (e_w2 h) dX9_plant_114
    refine pv_tsw (tgt := 115) (c := 5) (off := 96) hc dX9_plant_19 (by decide) (by decide) (by decide) (by decide) h (fun h => ?_) (fun hx20 h => ?_)
    · refine pv_aload_n 0 hc dX9_plant_115 rfl rfl ?_
      refine pv_iload_n 1 hc dX9_plant_116 rfl rfl ?_
      refine pv_iconst (1 : Int32) hc dX9_plant_117 rfl ?_
      obtain ⟨v17, hf16, h⟩ := BD_el h
      refine m_call_253 hc hM (wp_at G a 7 s1) (m_shownBy_ok hM (wp_at G a 7 s1) hf16) (by decide) (Nat.le_of_ble_eq_true rfl) dX9_plant_118 ?_
      obtain ⟨v19, hf18, h⟩ := BD_el h
      refine m_call_238 hc (m_bits_ok hf18) (by decide) (Nat.le_of_ble_eq_true rfl) dX9_plant_121 ?_
      exact pv_iret hc hr hQ (e_i2 h) (e_w2 h) dX9_plant_124
    refine pv_tsw (tgt := 125) (c := 6) (off := 106) hc dX9_plant_19 (by decide) (by decide) (by decide) (by decide) h (fun h => ?_) (fun hx23 h => ?_)
    · refine pv_aload_n 0 hc dX9_plant_125 rfl rfl ?_
      refine pv_iload_n 1 hc dX9_plant_126 rfl rfl ?_
      refine pv_iconst (1 : Int32) hc dX9_plant_127 rfl ?_
      obtain ⟨v22, hf21, h⟩ := BD_el h
      refine m_call_253 hc hM (wp_at G a 7 s1) (m_shownBy_ok hM (wp_at G a 7 s1) hf21) (by decide) (Nat.le_of_ble_eq_true rfl) dX9_plant_128 ?_
      exact pv_iret hc hr hQ (e_i2 h) (e_w2 h) dX9_plant_131
    refine pv_tsw (tgt := 132) (c := 7) (off := 113) hc dX9_plant_19 (by decide) (by decide) (by decide) (by decide) h (fun h => ?_) (fun hx28 h => ?_)
    · refine pv_aload_n 0 hc dX9_plant_132 rfl rfl ?_
      refine pv_iload_n 1 hc dX9_plant_133 rfl rfl ?_
      refine pv_iconst (0 : Int32) hc dX9_plant_134 rfl ?_
      obtain ⟨v25, hf24, h⟩ := BD_el h
      refine m_call_253 hc hM (wp_at G a 7 s1) (m_shownBy_ok hM (wp_at G a 7 s1) hf24) (by decide) (Nat.le_of_ble_eq_true rfl) dX9_plant_135 ?_
      obtain ⟨v27, hf26, h⟩ := BD_el h
      refine m_call_238 hc (m_bits_ok hf26) (by decide) (Nat.le_of_ble_eq_true rfl) dX9_plant_138 ?_
      exact pv_iret hc hr hQ (e_i2 h) (e_w2 h) dX9_plant_141
    refine pv_tableOut (tgt := 142) hc dX9_plant_19 (tsw_out 0 [0, 1, 2, 3, 4, 5, 6, 7] (ne_c hx5 (ne_c hx7 (ne_c hx10 (ne_c hx12 (ne_c hx15 (ne_c hx20 (ne_c hx23 (ne_c hx28 ne_n)))))))) 7 (by decide)) (by decide) ?_
    refine pv_aload_n 0 hc dX9_plant_142 rfl rfl ?_
    obtain ⟨v30, s31, hf29, h⟩ := BD2_el h
    refine m_call_247 hc hM (m_refuse_ok hM (wp_at G a 7 s1) hf29) (by decide) (Nat.le_of_ble_eq_true rfl) dX9_plant_143 ?_
    exact pv_iret hc hr hQ (e_i2 h) (e_w2 h) dX9_plant_146
  · refine pv_aload_n 0 hc dX9_plant_13 rfl rfl ?_
    obtain ⟨v33, s34, hf32, h⟩ := BD2_el h
    refine m_call_247 hc hM (m_refuse_ok hM (wp_at G a 7 s1) hf32) (by decide) (Nat.le_of_ble_eq_true rfl) dX9_plant_14 ?_
    exact pv_iret hc hr hQ (e_i2 h) (e_w2 h) dX9_plant_17
def m_isAct (s : Rec) (x1 : Int32) : Option Int32 := BD (m_isIn x1 (0 : Int32) ((gA s 14 25) - (1 : Int32))) (fun v2 => BZ v2 (some v2))
set_option maxHeartbeats 4000000 in
theorem m_isAct_ok {l : Launch} {g : Gh} {G : Wd} (hM : MOK g) {a : Nat} {s : Rec} (hG : G.2 a = some (7, s)) {x1 : Int32} {r : Int32} (hf : m_isAct s x1 = some r) : MT l g yX9_isAct cX9_isAct 2 (some .boolean) 2 G [.ref a, .int x1] (some (.int r)) G := by
  refine pv_start (by decide) (Nat.le_of_ble_eq_true rfl) ?_
  intro X hl hg hN hc hr _ _ _ hQ
  subst hl; subst hg
  have h := hf
  unfold m_isAct at h
  show V X 0 0 _ [(0, .ref a), (1, .int x1)] [] 0
  refine pv_iload_n 1 hc dX9_isAct_0 rfl rfl ?_
  refine pv_iconst (0 : Int32) hc dX9_isAct_1 rfl ?_
  refine pv_aload_n 0 hc dX9_isAct_2 rfl rfl ?_
  refine m_get_98 hc hM hG dX9_isAct_3 ?_
  refine pv_bipush (25 : Int32) hc dX9_isAct_6 rfl ?_
  refine m_ald_14 hc hM hG (vp_lit (j := 25) (by decide)) dX9_isAct_8 ?_
  refine pv_iconst (1 : Int32) hc dX9_isAct_9 rfl ?_
  refine pv_isub hc dX9_isAct_10 ?_
  obtain ⟨v2, hf1, h⟩ := BD_el h
  refine m_call_75 hc (m_isIn_ok hf1) (by decide) (Nat.le_of_ble_eq_true rfl) dX9_isAct_11 ?_
  obtain ⟨hb3, h⟩ := BZ_el h
  exact pv_zret hc hr hQ hb3 (e_i1 h) rfl dX9_isAct_14
def m_plantsFor (s : Rec) (x1 : Int32) (x2 : Int32) : Option Int32 := LP2 (fun (rec3 : Int32 → Int32 → Option Int32) (v1 : Int32) (v2 : Int32) => (if (gA s 14 1) ≤ v2 then some v1 else JN1 (fun (u4 : Unit) => rec3 (v1 ||| ((1 : Int32) <<< (v2 &&& 31))) (v2 + (1 : Int32))) (fun (j5 : Unit → Option Int32) => (if x2 = 0 then BD (m_willCome s v2 x1) (fun v7 => (if v7 = 0 then rec3 v1 (v2 + (1 : Int32)) else j5 ())) else BD (m_hasCome s v2 x1) (fun v9 => (if v9 = 0 then rec3 v1 (v2 + (1 : Int32)) else j5 ())))))) FU (0 : Int32) (0 : Int32)
set_option maxHeartbeats 4000000 in
theorem m_plantsFor_ok {l : Launch} {g : Gh} {G : Wd} (hM : MOK g) {a : Nat} {s : Rec} (hG : G.2 a = some (7, s)) {x1 : Int32} {x2 : Int32} {r : Int32} (hf : m_plantsFor s x1 x2 = some r) : MT l g yX9_plantsFor cX9_plantsFor 5 (some .int) 3 G [.ref a, .int x1, .int x2] (some (.int r)) G := by
  refine pv_start (by decide) (Nat.le_of_ble_eq_true rfl) ?_
  intro X hl hg hN hc hr _ _ _ hQ
  subst hl; subst hg
  have h := hf
  unfold m_plantsFor at h
  show V X 0 0 _ [(0, .ref a), (1, .int x1), (2, .int x2)] [] 0
  refine pv_iconst (0 : Int32) hc dX9_plantsFor_0 rfl ?_
  refine pv_istore_n (L' := [(3, .int (0 : Int32)), (0, .ref a), (1, .int x1), (2, .int x2)]) hc dX9_plantsFor_1 rfl hN (by decide) rfl ?_
  refine pv_iconst (0 : Int32) hc dX9_plantsFor_2 rfl ?_
  refine pv_istore (L' := [(4, .int (0 : Int32)), (3, .int (0 : Int32)), (0, .ref a), (1, .int x1), (2, .int x2)]) hc dX9_plantsFor_3 hN (by decide) rfl ?_
  refine pv_sub [2, 3, 4, 1, 0] rfl ?_
  refine LP2_el (P := fun v1 v2 => V X 0 0 G [(0, .ref a), (1, .int x1), (2, .int x2), (3, .int v1), (4, .int v2)] [] 5) ?_ FU _ _ h
  intro rec3 hrec3 v1 v2 h
  refine pv_iload 4 hc dX9_plantsFor_5 rfl ?_
  refine pv_aload_n 0 hc dX9_plantsFor_7 rfl rfl ?_
  refine m_get_98 hc hM hG dX9_plantsFor_8 ?_
  refine pv_iconst (1 : Int32) hc dX9_plantsFor_11 rfl ?_
  refine m_ald_14 hc hM hG (vp_lit (j := 1) (by decide)) dX9_plantsFor_12 ?_
  refine pv_icmp_ge (tgt := 56) hc dX9_plantsFor_13 (by decide) h (fun h => ?_) (fun h => ?_)
  · refine pv_iload_n 3 hc dX9_plantsFor_56 rfl rfl ?_
    exact pv_iret hc hr hQ (e_i1 h) rfl dX9_plantsFor_57
  · refine pv_iload_n 2 hc dX9_plantsFor_16 rfl rfl ?_
    obtain ⟨j5, hj5, h⟩ := JN1_el (P := fun u4 => V X 0 0 G [(0, .ref a), (1, .int x1), (2, .int x2), (3, .int v1), (4, .int v2)] [] 43) h (by
        intro u4 h
        refine pv_iload_n 3 hc dX9_plantsFor_43 rfl rfl ?_
        refine pv_iconst (1 : Int32) hc dX9_plantsFor_44 rfl ?_
        refine pv_iload 4 hc dX9_plantsFor_45 rfl ?_
        refine pv_ishl hc dX9_plantsFor_47 ?_
        refine pv_ior hc dX9_plantsFor_48 ?_
        refine pv_istore_n (L' := [(3, .int (v1 ||| ((1 : Int32) <<< (v2 &&& 31)))), (0, .ref a), (1, .int x1), (2, .int x2), (4, .int v2)]) hc dX9_plantsFor_49 rfl hN (by decide) rfl ?_
        refine pv_iinc (L' := [(4, .int (v2 + (1 : Int32))), (3, .int (v1 ||| ((1 : Int32) <<< (v2 &&& 31)))), (0, .ref a), (1, .int x1), (2, .int x2)]) 4 (v2 + (1 : Int32)) hc dX9_plantsFor_50 rfl rfl hN (by decide) rfl ?_
        refine pv_goto (tgt := 5) hc dX9_plantsFor_53 (by decide) ?_
        refine pv_sub [2, 3, 4, 1, 0] rfl ?_
        exact hrec3 _ _ h)
    refine pv_if_eq (tgt := 33) hc dX9_plantsFor_17 (by decide) h (fun h => ?_) (fun h => ?_)
    · refine pv_aload_n 0 hc dX9_plantsFor_33 rfl rfl ?_
      refine pv_iload 4 hc dX9_plantsFor_34 rfl ?_
      refine pv_iload_n 1 hc dX9_plantsFor_36 rfl rfl ?_
      obtain ⟨v7, hf6, h⟩ := BD_el h
      refine m_call_231 hc hM hG (m_willCome_ok hM hG hf6) (by decide) (Nat.le_of_ble_eq_true rfl) dX9_plantsFor_37 ?_
      refine pv_if_eq (tgt := 50) hc dX9_plantsFor_40 (by decide) h (fun h => ?_) (fun h => ?_)
      · refine pv_iinc (L' := [(4, .int (v2 + (1 : Int32))), (0, .ref a), (1, .int x1), (2, .int x2), (3, .int v1)]) 4 (v2 + (1 : Int32)) hc dX9_plantsFor_50 rfl rfl hN (by decide) rfl ?_
        refine pv_goto (tgt := 5) hc dX9_plantsFor_53 (by decide) ?_
        refine pv_sub [1, 2, 3, 4, 0] rfl ?_
        exact hrec3 _ _ h
      · exact hj5 _ h
    · refine pv_aload_n 0 hc dX9_plantsFor_20 rfl rfl ?_
      refine pv_iload 4 hc dX9_plantsFor_21 rfl ?_
      refine pv_iload_n 1 hc dX9_plantsFor_23 rfl rfl ?_
      obtain ⟨v9, hf8, h⟩ := BD_el h
      refine m_call_228 hc hM hG (m_hasCome_ok hM hG hf8) (by decide) (Nat.le_of_ble_eq_true rfl) dX9_plantsFor_24 ?_
      refine pv_if_eq (tgt := 50) hc dX9_plantsFor_27 (by decide) h (fun h => ?_) (fun h => ?_)
      · refine pv_iinc (L' := [(4, .int (v2 + (1 : Int32))), (0, .ref a), (1, .int x1), (2, .int x2), (3, .int v1)]) 4 (v2 + (1 : Int32)) hc dX9_plantsFor_50 rfl rfl hN (by decide) rfl ?_
        refine pv_goto (tgt := 5) hc dX9_plantsFor_53 (by decide) ?_
        refine pv_sub [1, 2, 3, 4, 0] rfl ?_
        exact hrec3 _ _ h
      · refine pv_goto (tgt := 43) hc dX9_plantsFor_30 (by decide) ?_
        exact hj5 _ h
def m_isProved (s : Rec) (x1 : Int32) : Option Int32 := BD (m_plantsFor s x1 (1 : Int32)) (fun v2 => BD (m_bits v2) (fun v4 => (if v4 < (gA s 14 5) then some (0 : Int32) else some (1 : Int32))))
set_option maxHeartbeats 4000000 in
theorem m_isProved_ok {l : Launch} {g : Gh} {G : Wd} (hM : MOK g) {a : Nat} {s : Rec} (hG : G.2 a = some (7, s)) {x1 : Int32} {r : Int32} (hf : m_isProved s x1 = some r) : MT l g yX9_isProved cX9_isProved 2 (some .boolean) 4 G [.ref a, .int x1] (some (.int r)) G := by
  refine pv_start (by decide) (Nat.le_of_ble_eq_true rfl) ?_
  intro X hl hg hN hc hr _ _ _ hQ
  subst hl; subst hg
  have h := hf
  unfold m_isProved at h
  show V X 0 0 _ [(0, .ref a), (1, .int x1)] [] 0
  refine pv_aload_n 0 hc dX9_isProved_0 rfl rfl ?_
  refine pv_iload_n 1 hc dX9_isProved_1 rfl rfl ?_
  refine pv_iconst (1 : Int32) hc dX9_isProved_2 rfl ?_
  obtain ⟨v2, hf1, h⟩ := BD_el h
  refine m_call_234 hc hM hG (m_plantsFor_ok hM hG hf1) (by decide) (Nat.le_of_ble_eq_true rfl) dX9_isProved_3 ?_
  obtain ⟨v4, hf3, h⟩ := BD_el h
  refine m_call_238 hc (m_bits_ok hf3) (by decide) (Nat.le_of_ble_eq_true rfl) dX9_isProved_6 ?_
  refine pv_aload_n 0 hc dX9_isProved_9 rfl rfl ?_
  refine m_get_98 hc hM hG dX9_isProved_10 ?_
  refine pv_iconst (5 : Int32) hc dX9_isProved_13 rfl ?_
  refine m_ald_14 hc hM hG (vp_lit (j := 5) (by decide)) dX9_isProved_14 ?_
  refine pv_icmp_lt (tgt := 22) hc dX9_isProved_15 (by decide) h (fun h => ?_) (fun h => ?_)
  · refine pv_iconst (0 : Int32) hc dX9_isProved_22 rfl ?_
    exact pv_zret hc hr hQ (by decide) (e_i1 h) rfl dX9_isProved_23
  · refine pv_iconst (1 : Int32) hc dX9_isProved_18 rfl ?_
    refine pv_goto (tgt := 23) hc dX9_isProved_19 (by decide) ?_
    exact pv_zret hc hr hQ (by decide) (e_i1 h) rfl dX9_isProved_23
def m_act (s : Rec) (x1 : Int32) (x2 : Int32) : Option (Int32 × Rec) := LT (sI s 0 (0 : Int32)) (fun s1 => BD (m_isAct s1 x1) (fun v3 => (if v3 = 0 then BD2 (m_refuse s1) (fun v25 s26 => some (v25, s26)) else (if x2 = (0 : Int32) then IX ((38 : Int32) + x1) 406 (fun i4 => some ((gA s1 14 i4), s1)) else if x2 = (1 : Int32) then IX ((50 : Int32) + x1) 406 (fun i6 => some ((gA s1 14 i6), s1)) else if x2 = (2 : Int32) then IX ((62 : Int32) + x1) 406 (fun i8 => some ((gA s1 14 i8), s1)) else if x2 = (3 : Int32) then IX ((74 : Int32) + x1) 406 (fun i10 => some ((gA s1 14 i10), s1)) else if x2 = (4 : Int32) then BD (m_plantsFor s1 x1 (1 : Int32)) (fun v13 => some (v13, s1)) else if x2 = (5 : Int32) then BD (m_plantsFor s1 x1 (0 : Int32)) (fun v16 => some (v16, s1)) else if x2 = (6 : Int32) then BD (m_isProved s1 x1) (fun v19 => (if v19 = 0 then some ((0 : Int32), s1) else some ((1 : Int32), s1))) else BD2 (m_refuse s1) (fun v22 s23 => some (v22, s23))))))
set_option maxHeartbeats 4000000 in
theorem m_act_ok {l : Launch} {g : Gh} {G : Wd} (hM : MOK g) {a : Nat} {s : Rec} (hG : G.2 a = some (7, s)) {x1 : Int32} {x2 : Int32} {r : Int32} {s' : Rec} (hf : m_act s x1 x2 = some (r, s')) : MT l g yX9_act cX9_act 3 (some .int) 5 G [.ref a, .int x1, .int x2] (some (.int r)) (wp G a 7 s') := by
  refine pv_start (by decide) (Nat.le_of_ble_eq_true rfl) ?_
  intro X hl hg hN hc hr _ _ _ hQ
  subst hl; subst hg
  refine pv_G (wp_id hG) ?_
  have h := hf
  unfold m_act at h
  show V X 0 0 _ [(0, .ref a), (1, .int x1), (2, .int x2)] [] 0
  refine pv_aload_n 0 hc dX9_act_0 rfl rfl ?_
  refine pv_iconst (0 : Int32) hc dX9_act_1 rfl ?_
  obtain ⟨s1, hs1, h⟩ := LT_el h
  refine m_put_1 hc hM hs1 dX9_act_2 ?_
  refine pv_aload_n 0 hc dX9_act_5 rfl rfl ?_
  refine pv_iload_n 1 hc dX9_act_6 rfl rfl ?_
  obtain ⟨v3, hf2, h⟩ := BD_el h
  refine m_call_256 hc hM (wp_at G a 7 s1) (m_isAct_ok hM (wp_at G a 7 s1) hf2) (by decide) (Nat.le_of_ble_eq_true rfl) dX9_act_7 ?_
  refine pv_if_ne (tgt := 18) hc dX9_act_10 (by decide) h (fun h => ?_) (fun h => ?_)
  · refine pv_iload_n 2 hc dX9_act_18 rfl rfl ?_
    refine pv_tsw (tgt := 60) (c := 0) (off := 41) hc dX9_act_19 (by decide) (by decide) (by decide) (by decide) h (fun h => ?_) (fun hx5 h => ?_)
    · refine pv_aload_n 0 hc dX9_act_60 rfl rfl ?_
      refine m_get_98 hc hM (wp_at G a 7 s1) dX9_act_61 ?_
      refine pv_bipush (38 : Int32) hc dX9_act_64 rfl ?_
      refine pv_iload_n 1 hc dX9_act_66 rfl rfl ?_
      refine pv_iadd hc dX9_act_67 ?_
      obtain ⟨i4, hi4, h⟩ := IX_el h
      refine m_ald_14 hc hM (wp_at G a 7 s1) hi4 dX9_act_68 ?_
      exact pv_iret hc hr hQ (e_i2 h) (e_w2 h) dX9_act_69
    refine pv_tsw (tgt := 70) (c := 1) (off := 51) hc dX9_act_19 (by decide) (by decide) (by decide) (by decide) h (fun h => ?_) (fun hx7 h => ?_)
    · refine pv_aload_n 0 hc dX9_act_70 rfl rfl ?_
      refine m_get_98 hc hM (wp_at G a 7 s1) dX9_act_71 ?_
      refine pv_bipush (50 : Int32) hc dX9_act_74 rfl ?_
      refine pv_iload_n 1 hc dX9_act_76 rfl rfl ?_
      refine pv_iadd hc dX9_act_77 ?_
      obtain ⟨i6, hi6, h⟩ := IX_el h
      refine m_ald_14 hc hM (wp_at G a 7 s1) hi6 dX9_act_78 ?_
      exact pv_iret hc hr hQ (e_i2 h) (e_w2 h) dX9_act_79
    refine pv_tsw (tgt := 80) (c := 2) (off := 61) hc dX9_act_19 (by decide) (by decide) (by decide) (by decide) h (fun h => ?_) (fun hx9 h => ?_)
    · refine pv_aload_n 0 hc dX9_act_80 rfl rfl ?_
      refine m_get_98 hc hM (wp_at G a 7 s1) dX9_act_81 ?_
      refine pv_bipush (62 : Int32) hc dX9_act_84 rfl ?_
      refine pv_iload_n 1 hc dX9_act_86 rfl rfl ?_
      refine pv_iadd hc dX9_act_87 ?_
      obtain ⟨i8, hi8, h⟩ := IX_el h
      refine m_ald_14 hc hM (wp_at G a 7 s1) hi8 dX9_act_88 ?_
      exact pv_iret hc hr hQ (e_i2 h) (e_w2 h) dX9_act_89
    refine pv_tsw (tgt := 90) (c := 3) (off := 71) hc dX9_act_19 (by decide) (by decide) (by decide) (by decide) h (fun h => ?_) (fun hx11 h => ?_)
    · refine pv_aload_n 0 hc dX9_act_90 rfl rfl ?_
      refine m_get_98 hc hM (wp_at G a 7 s1) dX9_act_91 ?_
      refine pv_bipush (74 : Int32) hc dX9_act_94 rfl ?_
      refine pv_iload_n 1 hc dX9_act_96 rfl rfl ?_
      refine pv_iadd hc dX9_act_97 ?_
      obtain ⟨i10, hi10, h⟩ := IX_el h
      refine m_ald_14 hc hM (wp_at G a 7 s1) hi10 dX9_act_98 ?_
      exact pv_iret hc hr hQ (e_i2 h) (e_w2 h) dX9_act_99
    refine pv_tsw (tgt := 100) (c := 4) (off := 81) hc dX9_act_19 (by decide) (by decide) (by decide) (by decide) h (fun h => ?_) (fun hx14 h => ?_)
    · refine pv_aload_n 0 hc dX9_act_100 rfl rfl ?_
      refine pv_iload_n 1 hc dX9_act_101 rfl rfl ?_
      refine pv_iconst (1 : Int32) hc dX9_act_102 rfl ?_
      obtain ⟨v13, hf12, h⟩ := BD_el h
      refine m_call_234 hc hM (wp_at G a 7 s1) (m_plantsFor_ok hM (wp_at G a 7 s1) hf12) (by decide) (Nat.le_of_ble_eq_true rfl) dX9_act_103 ?_
      exact pv_iret hc hr hQ (e_i2 h) (e_w2 h) dX9_act_106
    refine pv_tsw (tgt := 107) (c := 5) (off := 88) hc dX9_act_19 (by decide) (by decide) (by decide) (by decide) h (fun h => ?_) (fun hx17 h => ?_)
    · refine pv_aload_n 0 hc dX9_act_107 rfl rfl ?_
      refine pv_iload_n 1 hc dX9_act_108 rfl rfl ?_
      refine pv_iconst (0 : Int32) hc dX9_act_109 rfl ?_
      obtain ⟨v16, hf15, h⟩ := BD_el h
      refine m_call_234 hc hM (wp_at G a 7 s1) (m_plantsFor_ok hM (wp_at G a 7 s1) hf15) (by decide) (Nat.le_of_ble_eq_true rfl) dX9_act_110 ?_
      exact pv_iret hc hr hQ (e_i2 h) (e_w2 h) dX9_act_113
    refine pv_tsw (tgt := 114) (c := 6) (off := 95) hc dX9_act_19 (by decide) (by decide) (by decide) (by decide) h (fun h => ?_) (fun hx20 h => ?_)
    · refine pv_aload_n 0 hc dX9_act_114 rfl rfl ?_
      refine pv_iload_n 1 hc dX9_act_115 rfl rfl ?_
      obtain ⟨v19, hf18, h⟩ := BD_el h
      refine m_call_241 hc hM (wp_at G a 7 s1) (m_isProved_ok hM (wp_at G a 7 s1) hf18) (by decide) (Nat.le_of_ble_eq_true rfl) dX9_act_116 ?_
      refine pv_if_eq (tgt := 126) hc dX9_act_119 (by decide) h (fun h => ?_) (fun h => ?_)
      · refine pv_iconst (0 : Int32) hc dX9_act_126 rfl ?_
        exact pv_iret hc hr hQ (e_i2 h) (e_w2 h) dX9_act_127
      · refine pv_iconst (1 : Int32) hc dX9_act_122 rfl ?_
        refine pv_goto (tgt := 127) hc dX9_act_123 (by decide) ?_
        exact pv_iret hc hr hQ (e_i2 h) (e_w2 h) dX9_act_127
    refine pv_tableOut (tgt := 128) hc dX9_act_19 (tsw_out 0 [0, 1, 2, 3, 4, 5, 6] (ne_c hx5 (ne_c hx7 (ne_c hx9 (ne_c hx11 (ne_c hx14 (ne_c hx17 (ne_c hx20 ne_n))))))) 6 (by decide)) (by decide) ?_
    refine pv_aload_n 0 hc dX9_act_128 rfl rfl ?_
    obtain ⟨v22, s23, hf21, h⟩ := BD2_el h
    refine m_call_247 hc hM (m_refuse_ok hM (wp_at G a 7 s1) hf21) (by decide) (Nat.le_of_ble_eq_true rfl) dX9_act_129 ?_
    exact pv_iret hc hr hQ (e_i2 h) (e_w2 h) dX9_act_132
  · refine pv_aload_n 0 hc dX9_act_13 rfl rfl ?_
    obtain ⟨v25, s26, hf24, h⟩ := BD2_el h
    refine m_call_247 hc hM (m_refuse_ok hM (wp_at G a 7 s1) hf24) (by decide) (Nat.le_of_ble_eq_true rfl) dX9_act_14 ?_
    exact pv_iret hc hr hQ (e_i2 h) (e_w2 h) dX9_act_17
def m_comes (s : Rec) (x1 : Int32) (x2 : Int32) : Option (Int32 × Rec) := LT (sI s 0 (0 : Int32)) (fun s1 => BD (m_isPlant s1 x1) (fun v3 => (if v3 = 0 then some ((-1 : Int32), s1) else BD (m_isAct s1 x2) (fun v5 => (if v5 = 0 then some ((-1 : Int32), s1) else BD (m_leafOf s1 x1 x2) (fun v7 => some (v7, s1)))))))
set_option maxHeartbeats 4000000 in
theorem m_comes_ok {l : Launch} {g : Gh} {G : Wd} (hM : MOK g) {a : Nat} {s : Rec} (hG : G.2 a = some (7, s)) {x1 : Int32} {x2 : Int32} {r : Int32} {s' : Rec} (hf : m_comes s x1 x2 = some (r, s')) : MT l g yX9_comes cX9_comes 3 (some .int) 3 G [.ref a, .int x1, .int x2] (some (.int r)) (wp G a 7 s') := by
  refine pv_start (by decide) (Nat.le_of_ble_eq_true rfl) ?_
  intro X hl hg hN hc hr _ _ _ hQ
  subst hl; subst hg
  refine pv_G (wp_id hG) ?_
  have h := hf
  unfold m_comes at h
  show V X 0 0 _ [(0, .ref a), (1, .int x1), (2, .int x2)] [] 0
  refine pv_aload_n 0 hc dX9_comes_0 rfl rfl ?_
  refine pv_iconst (0 : Int32) hc dX9_comes_1 rfl ?_
  obtain ⟨s1, hs1, h⟩ := LT_el h
  refine m_put_1 hc hM hs1 dX9_comes_2 ?_
  refine pv_aload_n 0 hc dX9_comes_5 rfl rfl ?_
  refine pv_iload_n 1 hc dX9_comes_6 rfl rfl ?_
  obtain ⟨v3, hf2, h⟩ := BD_el h
  refine m_call_244 hc hM (wp_at G a 7 s1) (m_isPlant_ok hM (wp_at G a 7 s1) hf2) (by decide) (Nat.le_of_ble_eq_true rfl) dX9_comes_7 ?_
  refine pv_if_eq (tgt := 30) hc dX9_comes_10 (by decide) h (fun h => ?_) (fun h => ?_)
  · refine pv_iconst (-1 : Int32) hc dX9_comes_30 rfl ?_
    exact pv_iret hc hr hQ (e_i2 h) (e_w2 h) dX9_comes_31
  · refine pv_aload_n 0 hc dX9_comes_13 rfl rfl ?_
    refine pv_iload_n 2 hc dX9_comes_14 rfl rfl ?_
    obtain ⟨v5, hf4, h⟩ := BD_el h
    refine m_call_256 hc hM (wp_at G a 7 s1) (m_isAct_ok hM (wp_at G a 7 s1) hf4) (by decide) (Nat.le_of_ble_eq_true rfl) dX9_comes_15 ?_
    refine pv_if_eq (tgt := 30) hc dX9_comes_18 (by decide) h (fun h => ?_) (fun h => ?_)
    · refine pv_iconst (-1 : Int32) hc dX9_comes_30 rfl ?_
      exact pv_iret hc hr hQ (e_i2 h) (e_w2 h) dX9_comes_31
    · refine pv_aload_n 0 hc dX9_comes_21 rfl rfl ?_
      refine pv_iload_n 1 hc dX9_comes_22 rfl rfl ?_
      refine pv_iload_n 2 hc dX9_comes_23 rfl rfl ?_
      obtain ⟨v7, hf6, h⟩ := BD_el h
      refine m_call_224 hc hM (wp_at G a 7 s1) (m_leafOf_ok hM (wp_at G a 7 s1) hf6) (by decide) (Nat.le_of_ble_eq_true rfl) dX9_comes_24 ?_
      refine pv_goto (tgt := 31) hc dX9_comes_27 (by decide) ?_
      exact pv_iret hc hr hQ (e_i2 h) (e_w2 h) dX9_comes_31
def m_isParlour (s : Rec) (x1 : Int32) : Option Int32 := BD (m_isIn x1 (0 : Int32) ((gA s 14 0) - (1 : Int32))) (fun v2 => BZ v2 (some v2))
set_option maxHeartbeats 4000000 in
theorem m_isParlour_ok {l : Launch} {g : Gh} {G : Wd} (hM : MOK g) {a : Nat} {s : Rec} (hG : G.2 a = some (7, s)) {x1 : Int32} {r : Int32} (hf : m_isParlour s x1 = some r) : MT l g yX9_isParlour cX9_isParlour 2 (some .boolean) 2 G [.ref a, .int x1] (some (.int r)) G := by
  refine pv_start (by decide) (Nat.le_of_ble_eq_true rfl) ?_
  intro X hl hg hN hc hr _ _ _ hQ
  subst hl; subst hg
  have h := hf
  unfold m_isParlour at h
  show V X 0 0 _ [(0, .ref a), (1, .int x1)] [] 0
  refine pv_iload_n 1 hc dX9_isParlour_0 rfl rfl ?_
  refine pv_iconst (0 : Int32) hc dX9_isParlour_1 rfl ?_
  refine pv_aload_n 0 hc dX9_isParlour_2 rfl rfl ?_
  refine m_get_98 hc hM hG dX9_isParlour_3 ?_
  refine pv_iconst (0 : Int32) hc dX9_isParlour_6 rfl ?_
  refine m_ald_14 hc hM hG (vp_lit (j := 0) (by decide)) dX9_isParlour_7 ?_
  refine pv_iconst (1 : Int32) hc dX9_isParlour_8 rfl ?_
  refine pv_isub hc dX9_isParlour_9 ?_
  obtain ⟨v2, hf1, h⟩ := BD_el h
  refine m_call_75 hc (m_isIn_ok hf1) (by decide) (Nat.le_of_ble_eq_true rfl) dX9_isParlour_10 ?_
  obtain ⟨hb3, h⟩ := BZ_el h
  exact pv_zret hc hr hQ hb3 (e_i1 h) rfl dX9_isParlour_13
def m_sights (s : Rec) (x1 : Int32) : Option (Int32 × Rec) := LT (sI s 0 (0 : Int32)) (fun s1 => BD (m_isParlour s1 x1) (fun v3 => (if v3 = 0 then some ((-1 : Int32), s1) else IX ((6 : Int32) + x1) 406 (fun i4 => some ((gA s1 14 i4), s1)))))
set_option maxHeartbeats 4000000 in
theorem m_sights_ok {l : Launch} {g : Gh} {G : Wd} (hM : MOK g) {a : Nat} {s : Rec} (hG : G.2 a = some (7, s)) {x1 : Int32} {r : Int32} {s' : Rec} (hf : m_sights s x1 = some (r, s')) : MT l g yX9_sights cX9_sights 2 (some .int) 3 G [.ref a, .int x1] (some (.int r)) (wp G a 7 s') := by
  refine pv_start (by decide) (Nat.le_of_ble_eq_true rfl) ?_
  intro X hl hg hN hc hr _ _ _ hQ
  subst hl; subst hg
  refine pv_G (wp_id hG) ?_
  have h := hf
  unfold m_sights at h
  show V X 0 0 _ [(0, .ref a), (1, .int x1)] [] 0
  refine pv_aload_n 0 hc dX9_sights_0 rfl rfl ?_
  refine pv_iconst (0 : Int32) hc dX9_sights_1 rfl ?_
  obtain ⟨s1, hs1, h⟩ := LT_el h
  refine m_put_1 hc hM hs1 dX9_sights_2 ?_
  refine pv_aload_n 0 hc dX9_sights_5 rfl rfl ?_
  refine pv_iload_n 1 hc dX9_sights_6 rfl rfl ?_
  obtain ⟨v3, hf2, h⟩ := BD_el h
  refine m_call_259 hc hM (wp_at G a 7 s1) (m_isParlour_ok hM (wp_at G a 7 s1) hf2) (by decide) (Nat.le_of_ble_eq_true rfl) dX9_sights_7 ?_
  refine pv_if_eq (tgt := 25) hc dX9_sights_10 (by decide) h (fun h => ?_) (fun h => ?_)
  · refine pv_iconst (-1 : Int32) hc dX9_sights_25 rfl ?_
    exact pv_iret hc hr hQ (e_i2 h) (e_w2 h) dX9_sights_26
  · refine pv_aload_n 0 hc dX9_sights_13 rfl rfl ?_
    refine m_get_98 hc hM (wp_at G a 7 s1) dX9_sights_14 ?_
    refine pv_bipush (6 : Int32) hc dX9_sights_17 rfl ?_
    refine pv_iload_n 1 hc dX9_sights_19 rfl rfl ?_
    refine pv_iadd hc dX9_sights_20 ?_
    obtain ⟨i4, hi4, h⟩ := IX_el h
    refine m_ald_14 hc hM (wp_at G a 7 s1) hi4 dX9_sights_21 ?_
    refine pv_goto (tgt := 26) hc dX9_sights_22 (by decide) ?_
    exact pv_iret hc hr hQ (e_i2 h) (e_w2 h) dX9_sights_26
def m_proved (s : Rec)  : Option Int32 := LP2 (fun (rec3 : Int32 → Int32 → Option Int32) (v1 : Int32) (v2 : Int32) => (if (gA s 14 25) ≤ v2 then some v1 else BD (m_isProved s v2) (fun v5 => (if v5 = 0 then rec3 v1 (v2 + (1 : Int32)) else rec3 (v1 ||| ((1 : Int32) <<< (v2 &&& 31))) (v2 + (1 : Int32)))))) FU (0 : Int32) (0 : Int32)
set_option maxHeartbeats 4000000 in
theorem m_proved_ok {l : Launch} {g : Gh} {G : Wd} (hM : MOK g) {a : Nat} {s : Rec} (hG : G.2 a = some (7, s))  {r : Int32} (hf : m_proved s  = some r) : MT l g yX9_proved cX9_proved 3 (some .int) 5 G [.ref a] (some (.int r)) G := by
  refine pv_start (by decide) (Nat.le_of_ble_eq_true rfl) ?_
  intro X hl hg hN hc hr _ _ _ hQ
  subst hl; subst hg
  have h := hf
  unfold m_proved at h
  show V X 0 0 _ [(0, .ref a)] [] 0
  refine pv_iconst (0 : Int32) hc dX9_proved_0 rfl ?_
  refine pv_istore_n (L' := [(1, .int (0 : Int32)), (0, .ref a)]) hc dX9_proved_1 rfl hN (by decide) rfl ?_
  refine pv_iconst (0 : Int32) hc dX9_proved_2 rfl ?_
  refine pv_istore_n (L' := [(2, .int (0 : Int32)), (1, .int (0 : Int32)), (0, .ref a)]) hc dX9_proved_3 rfl hN (by decide) rfl ?_
  refine pv_sub [2, 1, 0] rfl ?_
  refine LP2_el (P := fun v1 v2 => V X 0 0 G [(0, .ref a), (1, .int v1), (2, .int v2)] [] 4) ?_ FU _ _ h
  intro rec3 hrec3 v1 v2 h
  refine pv_iload_n 2 hc dX9_proved_4 rfl rfl ?_
  refine pv_aload_n 0 hc dX9_proved_5 rfl rfl ?_
  refine m_get_98 hc hM hG dX9_proved_6 ?_
  refine pv_bipush (25 : Int32) hc dX9_proved_9 rfl ?_
  refine m_ald_14 hc hM hG (vp_lit (j := 25) (by decide)) dX9_proved_11 ?_
  refine pv_icmp_ge (tgt := 35) hc dX9_proved_12 (by decide) h (fun h => ?_) (fun h => ?_)
  · refine pv_iload_n 1 hc dX9_proved_35 rfl rfl ?_
    exact pv_iret hc hr hQ (e_i1 h) rfl dX9_proved_36
  · refine pv_aload_n 0 hc dX9_proved_15 rfl rfl ?_
    refine pv_iload_n 2 hc dX9_proved_16 rfl rfl ?_
    obtain ⟨v5, hf4, h⟩ := BD_el h
    refine m_call_241 hc hM hG (m_isProved_ok hM hG hf4) (by decide) (Nat.le_of_ble_eq_true rfl) dX9_proved_17 ?_
    refine pv_if_eq (tgt := 29) hc dX9_proved_20 (by decide) h (fun h => ?_) (fun h => ?_)
    · refine pv_iinc (L' := [(2, .int (v2 + (1 : Int32))), (0, .ref a), (1, .int v1)]) 2 (v2 + (1 : Int32)) hc dX9_proved_29 rfl rfl hN (by decide) rfl ?_
      refine pv_goto (tgt := 4) hc dX9_proved_32 (by decide) ?_
      refine pv_sub [1, 2, 0] rfl ?_
      exact hrec3 _ _ h
    · refine pv_iload_n 1 hc dX9_proved_23 rfl rfl ?_
      refine pv_iconst (1 : Int32) hc dX9_proved_24 rfl ?_
      refine pv_iload_n 2 hc dX9_proved_25 rfl rfl ?_
      refine pv_ishl hc dX9_proved_26 ?_
      refine pv_ior hc dX9_proved_27 ?_
      refine pv_istore_n (L' := [(1, .int (v1 ||| ((1 : Int32) <<< (v2 &&& 31)))), (0, .ref a), (2, .int v2)]) hc dX9_proved_28 rfl hN (by decide) rfl ?_
      refine pv_iinc (L' := [(2, .int (v2 + (1 : Int32))), (1, .int (v1 ||| ((1 : Int32) <<< (v2 &&& 31)))), (0, .ref a)]) 2 (v2 + (1 : Int32)) hc dX9_proved_29 rfl rfl hN (by decide) rfl ?_
      refine pv_goto (tgt := 4) hc dX9_proved_32 (by decide) ?_
      refine pv_sub [2, 1, 0] rfl ?_
      exact hrec3 _ _ h
def m_unseen (s : Rec) (x1 : Int32) : Option Int32 := LP2 (fun (rec3 : Int32 → Int32 → Option Int32) (v1 : Int32) (v2 : Int32) => (if (gA s 14 1) ≤ v2 then some v1 else BD (m_seesOf s v2 x1) (fun v5 => rec3 (v1 &&& (v5 ^^^ (-1 : Int32))) (v2 + (1 : Int32))))) FU (((1 : Int32) <<< ((gA s 14 0) &&& 31)) - (1 : Int32)) (0 : Int32)
set_option maxHeartbeats 4000000 in
theorem m_unseen_ok {l : Launch} {g : Gh} {G : Wd} (hM : MOK g) {a : Nat} {s : Rec} (hG : G.2 a = some (7, s)) {x1 : Int32} {r : Int32} (hf : m_unseen s x1 = some r) : MT l g yX9_unseen cX9_unseen 4 (some .int) 4 G [.ref a, .int x1] (some (.int r)) G := by
  refine pv_start (by decide) (Nat.le_of_ble_eq_true rfl) ?_
  intro X hl hg hN hc hr _ _ _ hQ
  subst hl; subst hg
  have h := hf
  unfold m_unseen at h
  show V X 0 0 _ [(0, .ref a), (1, .int x1)] [] 0
  refine pv_iconst (1 : Int32) hc dX9_unseen_0 rfl ?_
  refine pv_aload_n 0 hc dX9_unseen_1 rfl rfl ?_
  refine m_get_98 hc hM hG dX9_unseen_2 ?_
  refine pv_iconst (0 : Int32) hc dX9_unseen_5 rfl ?_
  refine m_ald_14 hc hM hG (vp_lit (j := 0) (by decide)) dX9_unseen_6 ?_
  refine pv_ishl hc dX9_unseen_7 ?_
  refine pv_iconst (1 : Int32) hc dX9_unseen_8 rfl ?_
  refine pv_isub hc dX9_unseen_9 ?_
  refine pv_istore_n (L' := [(2, .int (((1 : Int32) <<< ((gA s 14 0) &&& 31)) - (1 : Int32))), (0, .ref a), (1, .int x1)]) hc dX9_unseen_10 rfl hN (by decide) rfl ?_
  refine pv_iconst (0 : Int32) hc dX9_unseen_11 rfl ?_
  refine pv_istore_n (L' := [(3, .int (0 : Int32)), (2, .int (((1 : Int32) <<< ((gA s 14 0) &&& 31)) - (1 : Int32))), (0, .ref a), (1, .int x1)]) hc dX9_unseen_12 rfl hN (by decide) rfl ?_
  refine pv_sub [2, 3, 1, 0] rfl ?_
  refine LP2_el (P := fun v1 v2 => V X 0 0 G [(0, .ref a), (1, .int x1), (2, .int v1), (3, .int v2)] [] 13) ?_ FU _ _ h
  intro rec3 hrec3 v1 v2 h
  refine pv_iload_n 3 hc dX9_unseen_13 rfl rfl ?_
  refine pv_aload_n 0 hc dX9_unseen_14 rfl rfl ?_
  refine m_get_98 hc hM hG dX9_unseen_15 ?_
  refine pv_iconst (1 : Int32) hc dX9_unseen_18 rfl ?_
  refine m_ald_14 hc hM hG (vp_lit (j := 1) (by decide)) dX9_unseen_19 ?_
  refine pv_icmp_ge (tgt := 40) hc dX9_unseen_20 (by decide) h (fun h => ?_) (fun h => ?_)
  · refine pv_iload_n 2 hc dX9_unseen_40 rfl rfl ?_
    exact pv_iret hc hr hQ (e_i1 h) rfl dX9_unseen_41
  · refine pv_iload_n 2 hc dX9_unseen_23 rfl rfl ?_
    refine pv_aload_n 0 hc dX9_unseen_24 rfl rfl ?_
    refine pv_iload_n 3 hc dX9_unseen_25 rfl rfl ?_
    refine pv_iload_n 1 hc dX9_unseen_26 rfl rfl ?_
    obtain ⟨v5, hf4, h⟩ := BD_el h
    refine m_call_250 hc hM hG (m_seesOf_ok hM hG hf4) (by decide) (Nat.le_of_ble_eq_true rfl) dX9_unseen_27 ?_
    refine pv_iconst (-1 : Int32) hc dX9_unseen_30 rfl ?_
    refine pv_ixor hc dX9_unseen_31 ?_
    refine pv_iand hc dX9_unseen_32 ?_
    refine pv_istore_n (L' := [(2, .int (v1 &&& (v5 ^^^ (-1 : Int32)))), (0, .ref a), (1, .int x1), (3, .int v2)]) hc dX9_unseen_33 rfl hN (by decide) rfl ?_
    refine pv_iinc (L' := [(3, .int (v2 + (1 : Int32))), (2, .int (v1 &&& (v5 ^^^ (-1 : Int32)))), (0, .ref a), (1, .int x1)]) 3 (v2 + (1 : Int32)) hc dX9_unseen_34 rfl rfl hN (by decide) rfl ?_
    refine pv_goto (tgt := 13) hc dX9_unseen_37 (by decide) ?_
    refine pv_sub [2, 3, 1, 0] rfl ?_
    exact hrec3 _ _ h
def m_now (s : Rec) (x1 : Int32) : Option (Int32 × Rec) := LT (sI s 0 (0 : Int32)) (fun s1 => (if x1 = (0 : Int32) then some ((gA s1 14 24), s1) else if x1 = (1 : Int32) then some ((gA s1 14 25), s1) else if x1 = (2 : Int32) then BD (m_proved s1) (fun v5 => some (v5, s1)) else if x1 = (3 : Int32) then LP2 (fun (rec9 : Int32 → Int32 → Option (Int32 × Rec)) (v7 : Int32) (v8 : Int32) => (if (gA s1 14 1) ≤ v8 then some (v7, s1) else BD (m_seesOf s1 v8 (0 : Int32)) (fun v11 => (if v11 = 0 then rec9 v7 (v8 + (1 : Int32)) else rec9 (v7 ||| ((1 : Int32) <<< (v8 &&& 31))) (v8 + (1 : Int32)))))) FU (0 : Int32) (0 : Int32) else if x1 = (4 : Int32) then LP2 (fun (rec15 : Int32 → Int32 → Option (Int32 × Rec)) (v13 : Int32) (v14 : Int32) => (if (gA s1 14 1) ≤ v14 then some (v13, s1) else IX ((32 : Int32) + v14) 406 (fun i16 => (if (gA s1 14 i16) ≤ 0 then rec15 v13 (v14 + (1 : Int32)) else rec15 (v13 ||| ((1 : Int32) <<< (v14 &&& 31))) (v14 + (1 : Int32)))))) FU (0 : Int32) (0 : Int32) else if x1 = (5 : Int32) then LP2 (fun (rec20 : Int32 → Int32 → Option (Int32 × Rec)) (v18 : Int32) (v19 : Int32) => (if (gA s1 14 1) ≤ v19 then some (v18, s1) else JN1 (fun (v21 : Int32) => BD (m_shownBy s1 v19 v21) (fun v24 => BD (m_bits v24) (fun v26 => rec20 (v18 + v26) (v19 + (1 : Int32))))) (fun (j22 : Int32 → Option (Int32 × Rec)) => (if x1 = (5 : Int32) then j22 (1 : Int32) else j22 (0 : Int32))))) FU (0 : Int32) (0 : Int32) else if x1 = (6 : Int32) then LP2 (fun (rec30 : Int32 → Int32 → Option (Int32 × Rec)) (v28 : Int32) (v29 : Int32) => (if (gA s1 14 1) ≤ v29 then some (v28, s1) else JN1 (fun (v31 : Int32) => BD (m_shownBy s1 v29 v31) (fun v34 => BD (m_bits v34) (fun v36 => rec30 (v28 + v36) (v29 + (1 : Int32))))) (fun (j32 : Int32 → Option (Int32 × Rec)) => (if x1 = (5 : Int32) then j32 (1 : Int32) else j32 (0 : Int32))))) FU (0 : Int32) (0 : Int32) else if x1 = (7 : Int32) then BD (m_unseen s1 (0 : Int32)) (fun v39 => some (v39, s1)) else some ((-1 : Int32), s1)))
set_option maxHeartbeats 4000000 in
theorem m_now_ok {l : Launch} {g : Gh} {G : Wd} (hM : MOK g) {a : Nat} {s : Rec} (hG : G.2 a = some (7, s)) {x1 : Int32} {r : Int32} {s' : Rec} (hf : m_now s x1 = some (r, s')) : MT l g yX9_now cX9_now 4 (some .int) 6 G [.ref a, .int x1] (some (.int r)) (wp G a 7 s') := by
  refine pv_start (by decide) (Nat.le_of_ble_eq_true rfl) ?_
  intro X hl hg hN hc hr _ _ _ hQ
  subst hl; subst hg
  refine pv_G (wp_id hG) ?_
  have h := hf
  unfold m_now at h
  show V X 0 0 _ [(0, .ref a), (1, .int x1)] [] 0
  refine pv_aload_n 0 hc dX9_now_0 rfl rfl ?_
  refine pv_iconst (0 : Int32) hc dX9_now_1 rfl ?_
  obtain ⟨s1, hs1, h⟩ := LT_el h
  refine m_put_1 hc hM hs1 dX9_now_2 ?_
  refine pv_iconst (0 : Int32) hc dX9_now_5 rfl ?_
  refine pv_istore_n (L' := [(2, .int (0 : Int32)), (0, .ref a), (1, .int x1)]) hc dX9_now_6 rfl hN (by decide) rfl ?_
  refine pv_iload_n 2 hc dX9_now_7 rfl rfl ?_
  refine pv_tsw (tgt := 56) (c := 0) (off := 48) hc dX9_now_8 (by decide) (by decide) (by decide) (by decide) h (fun h => ?_) (fun hx2 h => ?_)
  · refine pv_aload_n 1 hc dX9_now_56 rfl rfl ?_
    refine m_get_98 hc hM (wp_at G a 7 s1) dX9_now_57 ?_
    refine pv_bipush (24 : Int32) hc dX9_now_60 rfl ?_
    refine m_ald_14 hc hM (wp_at G a 7 s1) (vp_lit (j := 24) (by decide)) dX9_now_62 ?_
    exact pv_iret hc hr hQ (e_i2 h) (e_w2 h) dX9_now_63
  refine pv_tsw (tgt := 64) (c := 1) (off := 56) hc dX9_now_8 (by decide) (by decide) (by decide) (by decide) h (fun h => ?_) (fun hx3 h => ?_)
  · refine pv_aload_n 1 hc dX9_now_64 rfl rfl ?_
    refine m_get_98 hc hM (wp_at G a 7 s1) dX9_now_65 ?_
    refine pv_bipush (25 : Int32) hc dX9_now_68 rfl ?_
    refine m_ald_14 hc hM (wp_at G a 7 s1) (vp_lit (j := 25) (by decide)) dX9_now_70 ?_
    exact pv_iret hc hr hQ (e_i2 h) (e_w2 h) dX9_now_71
  refine pv_tsw (tgt := 72) (c := 2) (off := 64) hc dX9_now_8 (by decide) (by decide) (by decide) (by decide) h (fun h => ?_) (fun hx6 h => ?_)
  · refine pv_aload_n 1 hc dX9_now_72 rfl rfl ?_
    obtain ⟨v5, hf4, h⟩ := BD_el h
    refine m_call_262 hc hM (wp_at G a 7 s1) (m_proved_ok hM (wp_at G a 7 s1) hf4) (by decide) (Nat.le_of_ble_eq_true rfl) dX9_now_73 ?_
    exact pv_iret hc hr hQ (e_i2 h) (e_w2 h) dX9_now_76
  refine pv_tsw (tgt := 77) (c := 3) (off := 69) hc dX9_now_8 (by decide) (by decide) (by decide) (by decide) h (fun h => ?_) (fun hx12 h => ?_)
  · refine pv_iconst (0 : Int32) hc dX9_now_77 rfl ?_
    refine pv_istore_n (L' := [(3, .int (0 : Int32)), (2, .int (0 : Int32)), (0, .ref a), (1, .int x1)]) hc dX9_now_78 rfl hN (by decide) rfl ?_
    refine pv_sub [2, 1, 0] rfl ?_
    refine LP2_el (P := fun v7 v8 => V X 0 0 (wp G a 7 s1) [(0, .ref a), (2, .int v7), (3, .int v8)] [] 79) ?_ FU _ _ h
    intro rec9 hrec9 v7 v8 h
    refine pv_iload_n 2 hc dX9_now_79 rfl rfl ?_
    refine pv_aload_n 0 hc dX9_now_80 rfl rfl ?_
    refine m_get_98 hc hM (wp_at G a 7 s1) dX9_now_81 ?_
    refine pv_iconst (1 : Int32) hc dX9_now_84 rfl ?_
    refine m_ald_14 hc hM (wp_at G a 7 s1) (vp_lit (j := 1) (by decide)) dX9_now_85 ?_
    refine pv_icmp_ge (tgt := 110) hc dX9_now_86 (by decide) h (fun h => ?_) (fun h => ?_)
    · refine pv_iload_n 1 hc dX9_now_110 rfl rfl ?_
      exact pv_iret hc hr hQ (e_i2 h) (e_w2 h) dX9_now_111
    · refine pv_aload_n 0 hc dX9_now_89 rfl rfl ?_
      refine pv_iload_n 2 hc dX9_now_90 rfl rfl ?_
      refine pv_iconst (0 : Int32) hc dX9_now_91 rfl ?_
      obtain ⟨v11, hf10, h⟩ := BD_el h
      refine m_call_250 hc hM (wp_at G a 7 s1) (m_seesOf_ok hM (wp_at G a 7 s1) hf10) (by decide) (Nat.le_of_ble_eq_true rfl) dX9_now_92 ?_
      refine pv_if_eq (tgt := 104) hc dX9_now_95 (by decide) h (fun h => ?_) (fun h => ?_)
      · refine pv_iinc (L' := [(3, .int (v8 + (1 : Int32))), (0, .ref a), (2, .int v7)]) 2 (v8 + (1 : Int32)) hc dX9_now_104 rfl rfl hN (by decide) rfl ?_
        refine pv_goto (tgt := 79) hc dX9_now_107 (by decide) ?_
        refine pv_sub [1, 2, 0] rfl ?_
        exact hrec9 _ _ h
      · refine pv_iload_n 1 hc dX9_now_98 rfl rfl ?_
        refine pv_iconst (1 : Int32) hc dX9_now_99 rfl ?_
        refine pv_iload_n 2 hc dX9_now_100 rfl rfl ?_
        refine pv_ishl hc dX9_now_101 ?_
        refine pv_ior hc dX9_now_102 ?_
        refine pv_istore_n (L' := [(2, .int (v7 ||| ((1 : Int32) <<< (v8 &&& 31)))), (0, .ref a), (3, .int v8)]) hc dX9_now_103 rfl hN (by decide) rfl ?_
        refine pv_iinc (L' := [(3, .int (v8 + (1 : Int32))), (2, .int (v7 ||| ((1 : Int32) <<< (v8 &&& 31)))), (0, .ref a)]) 2 (v8 + (1 : Int32)) hc dX9_now_104 rfl rfl hN (by decide) rfl ?_
        refine pv_goto (tgt := 79) hc dX9_now_107 (by decide) ?_
        refine pv_sub [2, 1, 0] rfl ?_
        exact hrec9 _ _ h
  refine pv_tsw (tgt := 112) (c := 4) (off := 104) hc dX9_now_8 (by decide) (by decide) (by decide) (by decide) h (fun h => ?_) (fun hx17 h => ?_)
  · refine pv_iconst (0 : Int32) hc dX9_now_112 rfl ?_
    refine pv_istore_n (L' := [(3, .int (0 : Int32)), (2, .int (0 : Int32)), (0, .ref a), (1, .int x1)]) hc dX9_now_113 rfl hN (by decide) rfl ?_
    refine pv_sub [2, 1, 0] rfl ?_
    refine LP2_el (P := fun v13 v14 => V X 0 0 (wp G a 7 s1) [(0, .ref a), (2, .int v13), (3, .int v14)] [] 114) ?_ FU _ _ h
    intro rec15 hrec15 v13 v14 h
    refine pv_iload_n 2 hc dX9_now_114 rfl rfl ?_
    refine pv_aload_n 0 hc dX9_now_115 rfl rfl ?_
    refine m_get_98 hc hM (wp_at G a 7 s1) dX9_now_116 ?_
    refine pv_iconst (1 : Int32) hc dX9_now_119 rfl ?_
    refine m_ald_14 hc hM (wp_at G a 7 s1) (vp_lit (j := 1) (by decide)) dX9_now_120 ?_
    refine pv_icmp_ge (tgt := 148) hc dX9_now_121 (by decide) h (fun h => ?_) (fun h => ?_)
    · refine pv_iload_n 1 hc dX9_now_148 rfl rfl ?_
      exact pv_iret hc hr hQ (e_i2 h) (e_w2 h) dX9_now_149
    · refine pv_aload_n 0 hc dX9_now_124 rfl rfl ?_
      refine m_get_98 hc hM (wp_at G a 7 s1) dX9_now_125 ?_
      refine pv_bipush (32 : Int32) hc dX9_now_128 rfl ?_
      refine pv_iload_n 2 hc dX9_now_130 rfl rfl ?_
      refine pv_iadd hc dX9_now_131 ?_
      obtain ⟨i16, hi16, h⟩ := IX_el h
      refine m_ald_14 hc hM (wp_at G a 7 s1) hi16 dX9_now_132 ?_
      refine pv_if_le (tgt := 142) hc dX9_now_133 (by decide) h (fun h => ?_) (fun h => ?_)
      · refine pv_iinc (L' := [(3, .int (v14 + (1 : Int32))), (0, .ref a), (2, .int v13)]) 2 (v14 + (1 : Int32)) hc dX9_now_142 rfl rfl hN (by decide) rfl ?_
        refine pv_goto (tgt := 114) hc dX9_now_145 (by decide) ?_
        refine pv_sub [1, 2, 0] rfl ?_
        exact hrec15 _ _ h
      · refine pv_iload_n 1 hc dX9_now_136 rfl rfl ?_
        refine pv_iconst (1 : Int32) hc dX9_now_137 rfl ?_
        refine pv_iload_n 2 hc dX9_now_138 rfl rfl ?_
        refine pv_ishl hc dX9_now_139 ?_
        refine pv_ior hc dX9_now_140 ?_
        refine pv_istore_n (L' := [(2, .int (v13 ||| ((1 : Int32) <<< (v14 &&& 31)))), (0, .ref a), (3, .int v14)]) hc dX9_now_141 rfl hN (by decide) rfl ?_
        refine pv_iinc (L' := [(3, .int (v14 + (1 : Int32))), (2, .int (v13 ||| ((1 : Int32) <<< (v14 &&& 31)))), (0, .ref a)]) 2 (v14 + (1 : Int32)) hc dX9_now_142 rfl rfl hN (by decide) rfl ?_
        refine pv_goto (tgt := 114) hc dX9_now_145 (by decide) ?_
        refine pv_sub [2, 1, 0] rfl ?_
        exact hrec15 _ _ h
  refine pv_tsw (tgt := 150) (c := 5) (off := 142) hc dX9_now_8 (by decide) (by decide) (by decide) (by decide) h (fun h => ?_) (fun hx27 h => ?_)
  · refine pv_iconst (0 : Int32) hc dX9_now_150 rfl ?_
    refine pv_istore_n (L' := [(3, .int (0 : Int32)), (2, .int (0 : Int32)), (0, .ref a), (1, .int x1)]) hc dX9_now_151 rfl hN (by decide) rfl ?_
    refine pv_sub [2, 3, 1, 0] rfl ?_
    refine LP2_el (P := fun v18 v19 => V X 0 0 (wp G a 7 s1) [(0, .ref a), (1, .int x1), (2, .int v18), (3, .int v19)] [] 152) ?_ FU _ _ h
    intro rec20 hrec20 v18 v19 h
    refine pv_iload_n 3 hc dX9_now_152 rfl rfl ?_
    refine pv_aload_n 0 hc dX9_now_153 rfl rfl ?_
    refine m_get_98 hc hM (wp_at G a 7 s1) dX9_now_154 ?_
    refine pv_iconst (1 : Int32) hc dX9_now_157 rfl ?_
    refine m_ald_14 hc hM (wp_at G a 7 s1) (vp_lit (j := 1) (by decide)) dX9_now_158 ?_
    refine pv_icmp_ge (tgt := 189) hc dX9_now_159 (by decide) h (fun h => ?_) (fun h => ?_)
    · refine pv_iload_n 2 hc dX9_now_189 rfl rfl ?_
      exact pv_iret hc hr hQ (e_i2 h) (e_w2 h) dX9_now_190
    · refine pv_iload_n 2 hc dX9_now_162 rfl rfl ?_
      refine pv_aload_n 0 hc dX9_now_163 rfl rfl ?_
      refine pv_iload_n 3 hc dX9_now_164 rfl rfl ?_
      refine pv_iload_n 1 hc dX9_now_165 rfl rfl ?_
      refine pv_iconst (5 : Int32) hc dX9_now_166 rfl ?_
      obtain ⟨j22, hj22, h⟩ := JN1_el (P := fun v21 => V X 0 0 (wp G a 7 s1) [(0, .ref a), (1, .int x1), (3, .int v19)] [.int v21, .int v19, .ref a, .int v18] 175) h (by
          intro v21 h
          obtain ⟨v24, hf23, h⟩ := BD_el h
          refine m_call_253 hc hM (wp_at G a 7 s1) (m_shownBy_ok hM (wp_at G a 7 s1) hf23) (by decide) (Nat.le_of_ble_eq_true rfl) dX9_now_175 ?_
          obtain ⟨v26, hf25, h⟩ := BD_el h
          refine m_call_238 hc (m_bits_ok hf25) (by decide) (Nat.le_of_ble_eq_true rfl) dX9_now_178 ?_
          refine pv_iadd hc dX9_now_181 ?_
          refine pv_istore_n (L' := [(2, .int (v18 + v26)), (0, .ref a), (1, .int x1), (3, .int v19)]) hc dX9_now_182 rfl hN (by decide) rfl ?_
          refine pv_iinc (L' := [(3, .int (v19 + (1 : Int32))), (2, .int (v18 + v26)), (0, .ref a), (1, .int x1)]) 3 (v19 + (1 : Int32)) hc dX9_now_183 rfl rfl hN (by decide) rfl ?_
          refine pv_goto (tgt := 152) hc dX9_now_186 (by decide) ?_
          refine pv_sub [2, 3, 1, 0] rfl ?_
          exact hrec20 _ _ h)
      refine pv_icmp_ne (tgt := 174) hc dX9_now_167 (by decide) h (fun h => ?_) (fun h => ?_)
      · refine pv_iconst (0 : Int32) hc dX9_now_174 rfl ?_
        refine pv_sub [0, 1, 3] rfl ?_
        exact hj22 _ h
      · refine pv_iconst (1 : Int32) hc dX9_now_170 rfl ?_
        refine pv_goto (tgt := 175) hc dX9_now_171 (by decide) ?_
        refine pv_sub [0, 1, 3] rfl ?_
        exact hj22 _ h
  refine pv_tsw (tgt := 150) (c := 6) (off := 142) hc dX9_now_8 (by decide) (by decide) (by decide) (by decide) h (fun h => ?_) (fun hx37 h => ?_)
  · refine pv_iconst (0 : Int32) hc dX9_now_150 rfl ?_
    refine pv_istore_n (L' := [(3, .int (0 : Int32)), (2, .int (0 : Int32)), (0, .ref a), (1, .int x1)]) hc dX9_now_151 rfl hN (by decide) rfl ?_
    refine pv_sub [2, 3, 1, 0] rfl ?_
    refine LP2_el (P := fun v28 v29 => V X 0 0 (wp G a 7 s1) [(0, .ref a), (1, .int x1), (2, .int v28), (3, .int v29)] [] 152) ?_ FU _ _ h
    intro rec30 hrec30 v28 v29 h
    refine pv_iload_n 3 hc dX9_now_152 rfl rfl ?_
    refine pv_aload_n 0 hc dX9_now_153 rfl rfl ?_
    refine m_get_98 hc hM (wp_at G a 7 s1) dX9_now_154 ?_
    refine pv_iconst (1 : Int32) hc dX9_now_157 rfl ?_
    refine m_ald_14 hc hM (wp_at G a 7 s1) (vp_lit (j := 1) (by decide)) dX9_now_158 ?_
    refine pv_icmp_ge (tgt := 189) hc dX9_now_159 (by decide) h (fun h => ?_) (fun h => ?_)
    · refine pv_iload_n 2 hc dX9_now_189 rfl rfl ?_
      exact pv_iret hc hr hQ (e_i2 h) (e_w2 h) dX9_now_190
    · refine pv_iload_n 2 hc dX9_now_162 rfl rfl ?_
      refine pv_aload_n 0 hc dX9_now_163 rfl rfl ?_
      refine pv_iload_n 3 hc dX9_now_164 rfl rfl ?_
      refine pv_iload_n 1 hc dX9_now_165 rfl rfl ?_
      refine pv_iconst (5 : Int32) hc dX9_now_166 rfl ?_
      obtain ⟨j32, hj32, h⟩ := JN1_el (P := fun v31 => V X 0 0 (wp G a 7 s1) [(0, .ref a), (1, .int x1), (3, .int v29)] [.int v31, .int v29, .ref a, .int v28] 175) h (by
          intro v31 h
          obtain ⟨v34, hf33, h⟩ := BD_el h
          refine m_call_253 hc hM (wp_at G a 7 s1) (m_shownBy_ok hM (wp_at G a 7 s1) hf33) (by decide) (Nat.le_of_ble_eq_true rfl) dX9_now_175 ?_
          obtain ⟨v36, hf35, h⟩ := BD_el h
          refine m_call_238 hc (m_bits_ok hf35) (by decide) (Nat.le_of_ble_eq_true rfl) dX9_now_178 ?_
          refine pv_iadd hc dX9_now_181 ?_
          refine pv_istore_n (L' := [(2, .int (v28 + v36)), (0, .ref a), (1, .int x1), (3, .int v29)]) hc dX9_now_182 rfl hN (by decide) rfl ?_
          refine pv_iinc (L' := [(3, .int (v29 + (1 : Int32))), (2, .int (v28 + v36)), (0, .ref a), (1, .int x1)]) 3 (v29 + (1 : Int32)) hc dX9_now_183 rfl rfl hN (by decide) rfl ?_
          refine pv_goto (tgt := 152) hc dX9_now_186 (by decide) ?_
          refine pv_sub [2, 3, 1, 0] rfl ?_
          exact hrec30 _ _ h)
      refine pv_icmp_ne (tgt := 174) hc dX9_now_167 (by decide) h (fun h => ?_) (fun h => ?_)
      · refine pv_iconst (0 : Int32) hc dX9_now_174 rfl ?_
        refine pv_sub [0, 1, 3] rfl ?_
        exact hj32 _ h
      · refine pv_iconst (1 : Int32) hc dX9_now_170 rfl ?_
        refine pv_goto (tgt := 175) hc dX9_now_171 (by decide) ?_
        refine pv_sub [0, 1, 3] rfl ?_
        exact hj32 _ h
  refine pv_tsw (tgt := 191) (c := 7) (off := 183) hc dX9_now_8 (by decide) (by decide) (by decide) (by decide) h (fun h => ?_) (fun hx40 h => ?_)
  · refine pv_aload_n 1 hc dX9_now_191 rfl rfl ?_
    refine pv_iconst (0 : Int32) hc dX9_now_192 rfl ?_
    obtain ⟨v39, hf38, h⟩ := BD_el h
    refine m_call_265 hc hM (wp_at G a 7 s1) (m_unseen_ok hM (wp_at G a 7 s1) hf38) (by decide) (Nat.le_of_ble_eq_true rfl) dX9_now_193 ?_
    exact pv_iret hc hr hQ (e_i2 h) (e_w2 h) dX9_now_196
  refine pv_tableOut (tgt := 197) hc dX9_now_8 (tsw_out 0 [0, 1, 2, 3, 4, 5, 6, 7] (ne_c hx2 (ne_c hx3 (ne_c hx6 (ne_c hx12 (ne_c hx17 (ne_c hx27 (ne_c hx37 (ne_c hx40 ne_n)))))))) 7 (by decide)) (by decide) ?_
  refine pv_iconst (-1 : Int32) hc dX9_now_197 rfl ?_
  exact pv_iret hc hr hQ (e_i2 h) (e_w2 h) dX9_now_198
def m_nextLeaf (s : Rec) (x1 : Int32) : Option Int32 := IX ((158 : Int32) + x1) 406 (fun i1 => JN1 (fun (v2 : Int32) => IX ((17 : Int32) + x1) 406 (fun i4 => some (v2 + (gA s 14 i4)))) (fun (j3 : Int32 → Option Int32) => (if (gA s 14 i1) ≤ (gA s 14 24) then j3 (gA s 14 24) else j3 (gA s 14 i1))))
set_option maxHeartbeats 4000000 in
theorem m_nextLeaf_ok {l : Launch} {g : Gh} {G : Wd} (hM : MOK g) {a : Nat} {s : Rec} (hG : G.2 a = some (7, s)) {x1 : Int32} {r : Int32} (hf : m_nextLeaf s x1 = some r) : MT l g yX9_nextLeaf cX9_nextLeaf 2 (some .int) 1 G [.ref a, .int x1] (some (.int r)) G := by
  refine pv_start (by decide) (Nat.le_of_ble_eq_true rfl) ?_
  intro X hl hg hN hc hr _ _ _ hQ
  subst hl; subst hg
  have h := hf
  unfold m_nextLeaf at h
  show V X 0 0 _ [(0, .ref a), (1, .int x1)] [] 0
  refine pv_aload_n 0 hc dX9_nextLeaf_0 rfl rfl ?_
  refine m_get_98 hc hM hG dX9_nextLeaf_1 ?_
  refine pv_sipush (158 : Int32) hc dX9_nextLeaf_4 rfl ?_
  refine pv_iload_n 1 hc dX9_nextLeaf_7 rfl rfl ?_
  refine pv_iadd hc dX9_nextLeaf_8 ?_
  obtain ⟨i1, hi1, h⟩ := IX_el h
  refine m_ald_14 hc hM hG hi1 dX9_nextLeaf_9 ?_
  refine pv_aload_n 0 hc dX9_nextLeaf_10 rfl rfl ?_
  refine m_get_98 hc hM hG dX9_nextLeaf_11 ?_
  refine pv_bipush (24 : Int32) hc dX9_nextLeaf_14 rfl ?_
  refine m_ald_14 hc hM hG (vp_lit (j := 24) (by decide)) dX9_nextLeaf_16 ?_
  obtain ⟨j3, hj3, h⟩ := JN1_el (P := fun v2 => V X 0 0 G [(0, .ref a), (1, .int x1)] [.int v2] 40) h (by
      intro v2 h
      refine pv_aload_n 0 hc dX9_nextLeaf_40 rfl rfl ?_
      refine m_get_98 hc hM hG dX9_nextLeaf_41 ?_
      refine pv_bipush (17 : Int32) hc dX9_nextLeaf_44 rfl ?_
      refine pv_iload_n 1 hc dX9_nextLeaf_46 rfl rfl ?_
      refine pv_iadd hc dX9_nextLeaf_47 ?_
      obtain ⟨i4, hi4, h⟩ := IX_el h
      refine m_ald_14 hc hM hG hi4 dX9_nextLeaf_48 ?_
      refine pv_iadd hc dX9_nextLeaf_49 ?_
      exact pv_iret hc hr hQ (e_i1 h) rfl dX9_nextLeaf_50)
  refine pv_icmp_le (tgt := 33) hc dX9_nextLeaf_17 (by decide) h (fun h => ?_) (fun h => ?_)
  · refine pv_aload_n 0 hc dX9_nextLeaf_33 rfl rfl ?_
    refine m_get_98 hc hM hG dX9_nextLeaf_34 ?_
    refine pv_bipush (24 : Int32) hc dX9_nextLeaf_37 rfl ?_
    refine m_ald_14 hc hM hG (vp_lit (j := 24) (by decide)) dX9_nextLeaf_39 ?_
    exact hj3 _ h
  · refine pv_aload_n 0 hc dX9_nextLeaf_20 rfl rfl ?_
    refine m_get_98 hc hM hG dX9_nextLeaf_21 ?_
    refine pv_sipush (158 : Int32) hc dX9_nextLeaf_24 rfl ?_
    refine pv_iload_n 1 hc dX9_nextLeaf_27 rfl rfl ?_
    refine pv_iadd hc dX9_nextLeaf_28 ?_
    refine m_ald_14 hc hM hG hi1 dX9_nextLeaf_29 ?_
    refine pv_goto (tgt := 40) hc dX9_nextLeaf_30 (by decide) ?_
    exact hj3 _ h
def m_doDeed (s : Rec) (x1 : Int32) (x2 : Int32) (x3 : Int32) : Option Rec := IX ((38 : Int32) + (gA s 14 25)) 406 (fun i1 => LT (sA s 14 i1 x1) (fun s2 => IX ((50 : Int32) + (gA s 14 25)) 406 (fun i3 => LT (sA s2 14 i3 x2) (fun s4 => IX ((62 : Int32) + (gA s 14 25)) 406 (fun i5 => LT (sA s4 14 i5 x3) (fun s6 => IX ((74 : Int32) + (gA s 14 25)) 406 (fun i7 => LT (sA s6 14 i7 (gA s6 14 24)) (fun s8 => LT (sA s8 14 25 ((gA s8 14 25) + (1 : Int32))) (fun s9 => LP2 (fun (rec12 : Int32 → Rec → Option Rec) (v10 : Int32) (s11 : Rec) => (if (gA s11 14 1) ≤ v10 then some s11 else BD (m_seesOf s11 v10 (0 : Int32)) (fun v14 => BD (m_has v14 x3) (fun v16 => (if v16 = 0 then rec12 (v10 + (1 : Int32)) s11 else BD (m_nextLeaf s11 v10) (fun v18 => IX ((158 : Int32) + v10) 406 (fun i19 => LT (sA s11 14 i19 v18) (fun s20 => IX (((86 : Int32) + ((12 : Int32) * v10)) + (gA s 14 25)) 406 (fun i21 => LT (sA s20 14 i21 (gA s20 14 i19)) (fun s22 => rec12 (v10 + (1 : Int32)) s22)))))))))) FU (0 : Int32) s9)))))))))
set_option maxHeartbeats 4000000 in
theorem m_doDeed_ok {l : Launch} {g : Gh} {G : Wd} (hM : MOK g) {a : Nat} {s : Rec} (hG : G.2 a = some (7, s)) {x1 : Int32} {x2 : Int32} {x3 : Int32} {s' : Rec} (hf : m_doDeed s x1 x2 x3 = some s') : MT l g yX9_doDeed cX9_doDeed 6 none 4 G [.ref a, .int x1, .int x2, .int x3] none (wp G a 7 s') := by
  refine pv_start (by decide) (Nat.le_of_ble_eq_true rfl) ?_
  intro X hl hg hN hc hr _ _ _ hQ
  subst hl; subst hg
  refine pv_G (wp_id hG) ?_
  have h := hf
  unfold m_doDeed at h
  show V X 0 0 _ [(0, .ref a), (1, .int x1), (2, .int x2), (3, .int x3)] [] 0
  refine pv_aload_n 0 hc dX9_doDeed_0 rfl rfl ?_
  refine m_get_98 hc hM (wp_at G a 7 s) dX9_doDeed_1 ?_
  refine pv_bipush (25 : Int32) hc dX9_doDeed_4 rfl ?_
  refine m_ald_14 hc hM (wp_at G a 7 s) (vp_lit (j := 25) (by decide)) dX9_doDeed_6 ?_
  refine pv_istore (L' := [(4, .int (gA s 14 25)), (0, .ref a), (1, .int x1), (2, .int x2), (3, .int x3)]) hc dX9_doDeed_7 hN (by decide) rfl ?_
  refine pv_aload_n 1 hc dX9_doDeed_9 rfl rfl ?_
  refine m_get_98 hc hM (wp_at G a 7 s) dX9_doDeed_10 ?_
  refine pv_bipush (38 : Int32) hc dX9_doDeed_13 rfl ?_
  refine pv_iload 0 hc dX9_doDeed_15 rfl ?_
  refine pv_iadd hc dX9_doDeed_17 ?_
  refine pv_iload_n 2 hc dX9_doDeed_18 rfl rfl ?_
  obtain ⟨i1, hi1, h⟩ := IX_el h
  obtain ⟨s2, hs2, h⟩ := LT_el h
  refine m_ast_14 hc hM hi1 hs2 dX9_doDeed_19 ?_
  refine pv_aload_n 1 hc dX9_doDeed_20 rfl rfl ?_
  refine m_get_98 hc hM (wp_at G a 7 s2) dX9_doDeed_21 ?_
  refine pv_bipush (50 : Int32) hc dX9_doDeed_24 rfl ?_
  refine pv_iload 0 hc dX9_doDeed_26 rfl ?_
  refine pv_iadd hc dX9_doDeed_28 ?_
  refine pv_iload_n 3 hc dX9_doDeed_29 rfl rfl ?_
  obtain ⟨i3, hi3, h⟩ := IX_el h
  obtain ⟨s4, hs4, h⟩ := LT_el h
  refine m_ast_14 hc hM hi3 hs4 dX9_doDeed_30 ?_
  refine pv_aload_n 1 hc dX9_doDeed_31 rfl rfl ?_
  refine m_get_98 hc hM (wp_at G a 7 s4) dX9_doDeed_32 ?_
  refine pv_bipush (62 : Int32) hc dX9_doDeed_35 rfl ?_
  refine pv_iload 0 hc dX9_doDeed_37 rfl ?_
  refine pv_iadd hc dX9_doDeed_39 ?_
  refine pv_iload_n 4 hc dX9_doDeed_40 rfl rfl ?_
  obtain ⟨i5, hi5, h⟩ := IX_el h
  obtain ⟨s6, hs6, h⟩ := LT_el h
  refine m_ast_14 hc hM hi5 hs6 dX9_doDeed_41 ?_
  refine pv_aload_n 1 hc dX9_doDeed_42 rfl rfl ?_
  refine m_get_98 hc hM (wp_at G a 7 s6) dX9_doDeed_43 ?_
  refine pv_bipush (74 : Int32) hc dX9_doDeed_46 rfl ?_
  refine pv_iload 0 hc dX9_doDeed_48 rfl ?_
  refine pv_iadd hc dX9_doDeed_50 ?_
  refine pv_aload_n 1 hc dX9_doDeed_51 rfl rfl ?_
  refine m_get_98 hc hM (wp_at G a 7 s6) dX9_doDeed_52 ?_
  refine pv_bipush (24 : Int32) hc dX9_doDeed_55 rfl ?_
  refine m_ald_14 hc hM (wp_at G a 7 s6) (vp_lit (j := 24) (by decide)) dX9_doDeed_57 ?_
  obtain ⟨i7, hi7, h⟩ := IX_el h
  obtain ⟨s8, hs8, h⟩ := LT_el h
  refine m_ast_14 hc hM hi7 hs8 dX9_doDeed_58 ?_
  refine pv_aload_n 1 hc dX9_doDeed_59 rfl rfl ?_
  refine m_get_98 hc hM (wp_at G a 7 s8) dX9_doDeed_60 ?_
  refine pv_bipush (25 : Int32) hc dX9_doDeed_63 rfl ?_
  refine pv_dup2_11 hc dX9_doDeed_65 rfl rfl ?_
  refine m_ald_14 hc hM (wp_at G a 7 s8) (vp_lit (j := 25) (by decide)) dX9_doDeed_66 ?_
  refine pv_iconst (1 : Int32) hc dX9_doDeed_67 rfl ?_
  refine pv_iadd hc dX9_doDeed_68 ?_
  obtain ⟨s9, hs9, h⟩ := LT_el h
  refine m_ast_14 hc hM (vp_lit (j := 25) (by decide)) hs9 dX9_doDeed_69 ?_
  refine pv_iconst (0 : Int32) hc dX9_doDeed_70 rfl ?_
  refine pv_istore (L' := [(5, .int (0 : Int32)), (4, .int (gA s 14 25)), (0, .ref a), (1, .int x1), (2, .int x2), (3, .int x3)]) hc dX9_doDeed_71 hN (by decide) rfl ?_
  refine pv_sub [2, 5, 1, 0] rfl ?_
  refine LP2_el (P := fun v10 s11 => V X 0 0 (wp G a 7 s11) [(0, .ref a), (3, .int x3), (4, .int (gA s 14 25)), (5, .int v10)] [] 73) ?_ FU _ _ h
  intro rec12 hrec12 v10 s11 h
  refine pv_iload 3 hc dX9_doDeed_73 rfl ?_
  refine pv_aload_n 0 hc dX9_doDeed_75 rfl rfl ?_
  refine m_get_98 hc hM (wp_at G a 7 s11) dX9_doDeed_76 ?_
  refine pv_iconst (1 : Int32) hc dX9_doDeed_79 rfl ?_
  refine m_ald_14 hc hM (wp_at G a 7 s11) (vp_lit (j := 1) (by decide)) dX9_doDeed_80 ?_
  refine pv_icmp_ge (tgt := 151) hc dX9_doDeed_81 (by decide) h (fun h => ?_) (fun h => ?_)
  · exact pv_vret hc hr hQ rfl (e_w1 h) dX9_doDeed_151
  · refine pv_aload_n 0 hc dX9_doDeed_84 rfl rfl ?_
    refine pv_iload 3 hc dX9_doDeed_85 rfl ?_
    refine pv_iconst (0 : Int32) hc dX9_doDeed_87 rfl ?_
    obtain ⟨v14, hf13, h⟩ := BD_el h
    refine m_call_250 hc hM (wp_at G a 7 s11) (m_seesOf_ok hM (wp_at G a 7 s11) hf13) (by decide) (Nat.le_of_ble_eq_true rfl) dX9_doDeed_88 ?_
    refine pv_iload_n 1 hc dX9_doDeed_91 rfl rfl ?_
    obtain ⟨v16, hf15, h⟩ := BD_el h
    refine m_call_181 hc (m_has_ok hf15) (by decide) (Nat.le_of_ble_eq_true rfl) dX9_doDeed_92 ?_
    refine pv_if_ne (tgt := 101) hc dX9_doDeed_95 (by decide) h (fun h => ?_) (fun h => ?_)
    · refine pv_aload_n 0 hc dX9_doDeed_101 rfl rfl ?_
      refine m_get_98 hc hM (wp_at G a 7 s11) dX9_doDeed_102 ?_
      refine pv_sipush (158 : Int32) hc dX9_doDeed_105 rfl ?_
      refine pv_iload 3 hc dX9_doDeed_108 rfl ?_
      refine pv_iadd hc dX9_doDeed_110 ?_
      refine pv_aload_n 0 hc dX9_doDeed_111 rfl rfl ?_
      refine pv_iload 3 hc dX9_doDeed_112 rfl ?_
      obtain ⟨v18, hf17, h⟩ := BD_el h
      refine m_call_268 hc hM (wp_at G a 7 s11) (m_nextLeaf_ok hM (wp_at G a 7 s11) hf17) (by decide) (Nat.le_of_ble_eq_true rfl) dX9_doDeed_114 ?_
      obtain ⟨i19, hi19, h⟩ := IX_el h
      obtain ⟨s20, hs20, h⟩ := LT_el h
      refine m_ast_14 hc hM hi19 hs20 dX9_doDeed_117 ?_
      refine pv_aload_n 0 hc dX9_doDeed_118 rfl rfl ?_
      refine m_get_98 hc hM (wp_at G a 7 s20) dX9_doDeed_119 ?_
      refine pv_bipush (86 : Int32) hc dX9_doDeed_122 rfl ?_
      refine pv_bipush (12 : Int32) hc dX9_doDeed_124 rfl ?_
      refine pv_iload 3 hc dX9_doDeed_126 rfl ?_
      refine pv_imul hc dX9_doDeed_128 ?_
      refine pv_iadd hc dX9_doDeed_129 ?_
      refine pv_iload 2 hc dX9_doDeed_130 rfl ?_
      refine pv_iadd hc dX9_doDeed_132 ?_
      refine pv_aload_n 0 hc dX9_doDeed_133 rfl rfl ?_
      refine m_get_98 hc hM (wp_at G a 7 s20) dX9_doDeed_134 ?_
      refine pv_sipush (158 : Int32) hc dX9_doDeed_137 rfl ?_
      refine pv_iload 3 hc dX9_doDeed_140 rfl ?_
      refine pv_iadd hc dX9_doDeed_142 ?_
      refine m_ald_14 hc hM (wp_at G a 7 s20) hi19 dX9_doDeed_143 ?_
      obtain ⟨i21, hi21, h⟩ := IX_el h
      obtain ⟨s22, hs22, h⟩ := LT_el h
      refine m_ast_14 hc hM hi21 hs22 dX9_doDeed_144 ?_
      refine pv_iinc (L' := [(5, .int (v10 + (1 : Int32))), (0, .ref a), (3, .int x3), (4, .int (gA s 14 25))]) 3 (v10 + (1 : Int32)) hc dX9_doDeed_145 rfl rfl hN (by decide) rfl ?_
      refine pv_goto (tgt := 73) hc dX9_doDeed_148 (by decide) ?_
      refine pv_sub [1, 2, 3, 0] rfl ?_
      exact hrec12 _ _ h
    · refine pv_goto (tgt := 145) hc dX9_doDeed_98 (by decide) ?_
      refine pv_iinc (L' := [(5, .int (v10 + (1 : Int32))), (0, .ref a), (3, .int x3), (4, .int (gA s 14 25))]) 3 (v10 + (1 : Int32)) hc dX9_doDeed_145 rfl rfl hN (by decide) rfl ?_
      refine pv_goto (tgt := 73) hc dX9_doDeed_148 (by decide) ?_
      refine pv_sub [1, 2, 3, 0] rfl ?_
      exact hrec12 _ _ h
def m_live (s : Rec) (x1 : Int32) (x2 : Int32) (x3 : Int32) (x4 : Int32) : Option Rec := (if x1 = (0 : Int32) then BD (m_doDeed s x2 x3 x4) (fun s2 => some s2) else if x1 = (1 : Int32) then IX ((32 : Int32) + x2) 406 (fun i4 => LT (sA s 14 i4 (0 : Int32)) (fun s5 => some s5)) else IX ((26 : Int32) + x2) 406 (fun i7 => LT (sA s 14 i7 x3) (fun s8 => some s8)))
set_option maxHeartbeats 4000000 in
theorem m_live_ok {l : Launch} {g : Gh} {G : Wd} (hM : MOK g) {a : Nat} {s : Rec} (hG : G.2 a = some (7, s)) {x1 : Int32} {x2 : Int32} {x3 : Int32} {x4 : Int32} {s' : Rec} (hf : m_live s x1 x2 x3 x4 = some s') : MT l g yX9_live cX9_live 5 none 5 G [.ref a, .int x1, .int x2, .int x3, .int x4] none (wp G a 7 s') := by
  refine pv_start (by decide) (Nat.le_of_ble_eq_true rfl) ?_
  intro X hl hg hN hc hr _ _ _ hQ
  subst hl; subst hg
  refine pv_G (wp_id hG) ?_
  have h := hf
  unfold m_live at h
  show V X 0 0 _ [(0, .ref a), (1, .int x1), (2, .int x2), (3, .int x3), (4, .int x4)] [] 0
  refine pv_iload_n 1 hc dX9_live_0 rfl rfl ?_
  refine pv_lsw (tgt := 28) (c := 0) (off := 27) hc dX9_live_1 (by decide) (by decide) (by decide) h (fun h => ?_) (fun hx3 h => ?_)
  · refine pv_aload_n 0 hc dX9_live_28 rfl rfl ?_
    refine pv_iload_n 2 hc dX9_live_29 rfl rfl ?_
    refine pv_iload_n 3 hc dX9_live_30 rfl rfl ?_
    refine pv_iload 4 hc dX9_live_31 rfl ?_
    obtain ⟨s2, hf1, h⟩ := BD_el h
    refine m_call_271 hc hM (m_doDeed_ok hM (wp_at G a 7 s) hf1) (by decide) (Nat.le_of_ble_eq_true rfl) dX9_live_33 ?_
    exact pv_vret hc hr hQ rfl (e_w1 h) dX9_live_36
  refine pv_lsw (tgt := 37) (c := 1) (off := 36) hc dX9_live_1 (by decide) (by decide) (by decide) h (fun h => ?_) (fun hx6 h => ?_)
  · refine pv_aload_n 0 hc dX9_live_37 rfl rfl ?_
    refine m_get_98 hc hM (wp_at G a 7 s) dX9_live_38 ?_
    refine pv_bipush (32 : Int32) hc dX9_live_41 rfl ?_
    refine pv_iload_n 2 hc dX9_live_43 rfl rfl ?_
    refine pv_iadd hc dX9_live_44 ?_
    refine pv_iconst (0 : Int32) hc dX9_live_45 rfl ?_
    obtain ⟨i4, hi4, h⟩ := IX_el h
    obtain ⟨s5, hs5, h⟩ := LT_el h
    refine m_ast_14 hc hM hi4 hs5 dX9_live_46 ?_
    exact pv_vret hc hr hQ rfl (e_w1 h) dX9_live_47
  refine pv_lookup (tgt := 48) (off := 47) hc dX9_live_1 (by decide) ((lv_osw hx3 rfl).trans ((lv_osw hx6 rfl).trans rfl)) (by decide) ?_
  refine pv_aload_n 0 hc dX9_live_48 rfl rfl ?_
  refine m_get_98 hc hM (wp_at G a 7 s) dX9_live_49 ?_
  refine pv_bipush (26 : Int32) hc dX9_live_52 rfl ?_
  refine pv_iload_n 2 hc dX9_live_54 rfl rfl ?_
  refine pv_iadd hc dX9_live_55 ?_
  refine pv_iload_n 3 hc dX9_live_56 rfl rfl ?_
  obtain ⟨i7, hi7, h⟩ := IX_el h
  obtain ⟨s8, hs8, h⟩ := LT_el h
  refine m_ast_14 hc hM hi7 hs8 dX9_live_57 ?_
  exact pv_vret hc hr hQ rfl (e_w1 h) dX9_live_58
def m_snap (s : Rec)  : Option Rec := JN1 (fun (s1 : Rec) => LP2 (fun (rec5 : Int32 → Rec → Option Rec) (v3 : Int32) (s4 : Rec) => (if (140 : Int32) ≤ v3 then LT (sI s4 24 ((gI s4 24) + (1 : Int32))) (fun s6 => some s6) else IX ((24 : Int32) + v3) 406 (fun i7 => IX (((140 : Int32) * (gI s4 24)) + v3) 1120 (fun i8 => LT (sA s4 17 i8 (gA s4 14 i7)) (fun s9 => rec5 (v3 + (1 : Int32)) s9))))) FU (0 : Int32) s1) (fun (j2 : Rec → Option Rec) => (if (gI s 24) = (8 : Int32) then LP2 (fun (rec12 : Int32 → Rec → Option Rec) (v10 : Int32) (s11 : Rec) => (if (980 : Int32) ≤ v10 then LT (sI s11 24 ((gI s11 24) - (1 : Int32))) (fun s13 => j2 s13) else IX (v10 + (140 : Int32)) 1120 (fun i14 => IX v10 1120 (fun i15 => LT (sA s11 17 i15 (gA s11 17 i14)) (fun s16 => rec12 (v10 + (1 : Int32)) s16))))) FU (0 : Int32) s else j2 s))
set_option maxHeartbeats 4000000 in
theorem m_snap_ok {l : Launch} {g : Gh} {G : Wd} (hM : MOK g) {a : Nat} {s : Rec} (hG : G.2 a = some (7, s))  {s' : Rec} (hf : m_snap s  = some s') : MT l g yX9_snap cX9_snap 2 none 1 G [.ref a] none (wp G a 7 s') := by
  refine pv_start (by decide) (Nat.le_of_ble_eq_true rfl) ?_
  intro X hl hg hN hc hr _ _ _ hQ
  subst hl; subst hg
  refine pv_G (wp_id hG) ?_
  have h := hf
  unfold m_snap at h
  show V X 0 0 _ [(0, .ref a)] [] 0
  refine pv_aload_n 0 hc dX9_snap_0 rfl rfl ?_
  refine m_get_215 hc hM (wp_at G a 7 s) dX9_snap_1 ?_
  refine pv_bipush (8 : Int32) hc dX9_snap_4 rfl ?_
  obtain ⟨j2, hj2, h⟩ := JN1_el (P := fun s1 => V X 0 0 (wp G a 7 s1) [(0, .ref a)] [] 50) h (by
      intro s1 h
      refine pv_iconst (0 : Int32) hc dX9_snap_50 rfl ?_
      refine pv_istore_n (L' := [(1, .int (0 : Int32)), (0, .ref a)]) hc dX9_snap_51 rfl hN (by decide) rfl ?_
      refine pv_sub [1, 0] rfl ?_
      refine LP2_el (P := fun v3 s4 => V X 0 0 (wp G a 7 s4) [(0, .ref a), (1, .int v3)] [] 52) ?_ FU _ _ h
      intro rec5 hrec5 v3 s4 h
      refine pv_iload_n 1 hc dX9_snap_52 rfl rfl ?_
      refine pv_sipush (140 : Int32) hc dX9_snap_53 rfl ?_
      refine pv_icmp_ge (tgt := 89) hc dX9_snap_56 (by decide) h (fun h => ?_) (fun h => ?_)
      · refine pv_aload_n 0 hc dX9_snap_89 rfl rfl ?_
        refine pv_dup hc dX9_snap_90 rfl ?_
        refine m_get_215 hc hM (wp_at G a 7 s4) dX9_snap_91 ?_
        refine pv_iconst (1 : Int32) hc dX9_snap_94 rfl ?_
        refine pv_iadd hc dX9_snap_95 ?_
        obtain ⟨s6, hs6, h⟩ := LT_el h
        refine m_put_215 hc hM hs6 dX9_snap_96 ?_
        exact pv_vret hc hr hQ rfl (e_w1 h) dX9_snap_99
      · refine pv_aload_n 0 hc dX9_snap_59 rfl rfl ?_
        refine m_get_107 hc hM (wp_at G a 7 s4) dX9_snap_60 ?_
        refine pv_sipush (140 : Int32) hc dX9_snap_63 rfl ?_
        refine pv_aload_n 0 hc dX9_snap_66 rfl rfl ?_
        refine m_get_215 hc hM (wp_at G a 7 s4) dX9_snap_67 ?_
        refine pv_imul hc dX9_snap_70 ?_
        refine pv_iload_n 1 hc dX9_snap_71 rfl rfl ?_
        refine pv_iadd hc dX9_snap_72 ?_
        refine pv_aload_n 0 hc dX9_snap_73 rfl rfl ?_
        refine m_get_98 hc hM (wp_at G a 7 s4) dX9_snap_74 ?_
        refine pv_bipush (24 : Int32) hc dX9_snap_77 rfl ?_
        refine pv_iload_n 1 hc dX9_snap_79 rfl rfl ?_
        refine pv_iadd hc dX9_snap_80 ?_
        obtain ⟨i7, hi7, h⟩ := IX_el h
        refine m_ald_14 hc hM (wp_at G a 7 s4) hi7 dX9_snap_81 ?_
        obtain ⟨i8, hi8, h⟩ := IX_el h
        obtain ⟨s9, hs9, h⟩ := LT_el h
        refine m_ast_17 hc hM hi8 hs9 dX9_snap_82 ?_
        refine pv_iinc (L' := [(1, .int (v3 + (1 : Int32))), (0, .ref a)]) 1 (v3 + (1 : Int32)) hc dX9_snap_83 rfl rfl hN (by decide) rfl ?_
        refine pv_goto (tgt := 52) hc dX9_snap_86 (by decide) ?_
        refine pv_sub [1, 0] rfl ?_
        exact hrec5 _ _ h)
  refine pv_icmp_ne (tgt := 50) hc dX9_snap_6 (by decide) h (fun h => ?_) (fun h => ?_)
  · exact hj2 _ h
  · refine pv_iconst (0 : Int32) hc dX9_snap_9 rfl ?_
    refine pv_istore_n (L' := [(1, .int (0 : Int32)), (0, .ref a)]) hc dX9_snap_10 rfl hN (by decide) rfl ?_
    refine pv_sub [1, 0] rfl ?_
    refine LP2_el (P := fun v10 s11 => V X 0 0 (wp G a 7 s11) [(0, .ref a), (1, .int v10)] [] 11) ?_ FU _ _ h
    intro rec12 hrec12 v10 s11 h
    refine pv_iload_n 1 hc dX9_snap_11 rfl rfl ?_
    refine pv_sipush (980 : Int32) hc dX9_snap_12 rfl ?_
    refine pv_icmp_ge (tgt := 40) hc dX9_snap_15 (by decide) h (fun h => ?_) (fun h => ?_)
    · refine pv_aload_n 0 hc dX9_snap_40 rfl rfl ?_
      refine pv_dup hc dX9_snap_41 rfl ?_
      refine m_get_215 hc hM (wp_at G a 7 s11) dX9_snap_42 ?_
      refine pv_iconst (1 : Int32) hc dX9_snap_45 rfl ?_
      refine pv_isub hc dX9_snap_46 ?_
      obtain ⟨s13, hs13, h⟩ := LT_el h
      refine m_put_215 hc hM hs13 dX9_snap_47 ?_
      refine pv_sub [0] rfl ?_
      exact hj2 _ h
    · refine pv_aload_n 0 hc dX9_snap_18 rfl rfl ?_
      refine m_get_107 hc hM (wp_at G a 7 s11) dX9_snap_19 ?_
      refine pv_iload_n 1 hc dX9_snap_22 rfl rfl ?_
      refine pv_aload_n 0 hc dX9_snap_23 rfl rfl ?_
      refine m_get_107 hc hM (wp_at G a 7 s11) dX9_snap_24 ?_
      refine pv_iload_n 1 hc dX9_snap_27 rfl rfl ?_
      refine pv_sipush (140 : Int32) hc dX9_snap_28 rfl ?_
      refine pv_iadd hc dX9_snap_31 ?_
      obtain ⟨i14, hi14, h⟩ := IX_el h
      refine m_ald_17 hc hM (wp_at G a 7 s11) hi14 dX9_snap_32 ?_
      obtain ⟨i15, hi15, h⟩ := IX_el h
      obtain ⟨s16, hs16, h⟩ := LT_el h
      refine m_ast_17 hc hM hi15 hs16 dX9_snap_33 ?_
      refine pv_iinc (L' := [(1, .int (v10 + (1 : Int32))), (0, .ref a)]) 1 (v10 + (1 : Int32)) hc dX9_snap_34 rfl rfl hN (by decide) rfl ?_
      refine pv_goto (tgt := 11) hc dX9_snap_37 (by decide) ?_
      refine pv_sub [1, 0] rfl ?_
      exact hrec12 _ _ h
def m_why (s : Rec) (x1 : Int32) (x2 : Int32) (x3 : Int32) : Option Int32 := (if x1 = (0 : Int32) then (if (gA s 14 25) = (12 : Int32) then some (1 : Int32) else some (0 : Int32)) else if x1 = (1 : Int32) then IX ((32 : Int32) + x2) 406 (fun i2 => (if (gA s 14 i2) = 0 then some (1 : Int32) else some (0 : Int32))) else IX ((26 : Int32) + x2) 406 (fun i4 => (if (gA s 14 i4) = x3 then some (1 : Int32) else some (0 : Int32))))
set_option maxHeartbeats 4000000 in
theorem m_why_ok {l : Launch} {g : Gh} {G : Wd} (hM : MOK g) {a : Nat} {s : Rec} (hG : G.2 a = some (7, s)) {x1 : Int32} {x2 : Int32} {x3 : Int32} {r : Int32} (hf : m_why s x1 x2 x3 = some r) : MT l g yX9_why cX9_why 4 (some .int) 1 G [.ref a, .int x1, .int x2, .int x3] (some (.int r)) G := by
  refine pv_start (by decide) (Nat.le_of_ble_eq_true rfl) ?_
  intro X hl hg hN hc hr _ _ _ hQ
  subst hl; subst hg
  have h := hf
  unfold m_why at h
  show V X 0 0 _ [(0, .ref a), (1, .int x1), (2, .int x2), (3, .int x3)] [] 0
  refine pv_iload_n 1 hc dX9_why_0 rfl rfl ?_
  refine pv_lsw (tgt := 28) (c := 0) (off := 27) hc dX9_why_1 (by decide) (by decide) (by decide) h (fun h => ?_) (fun hx1 h => ?_)
  · refine pv_aload_n 0 hc dX9_why_28 rfl rfl ?_
    refine m_get_98 hc hM hG dX9_why_29 ?_
    refine pv_bipush (25 : Int32) hc dX9_why_32 rfl ?_
    refine m_ald_14 hc hM hG (vp_lit (j := 25) (by decide)) dX9_why_34 ?_
    refine pv_bipush (12 : Int32) hc dX9_why_35 rfl ?_
    refine pv_icmp_ne (tgt := 44) hc dX9_why_37 (by decide) h (fun h => ?_) (fun h => ?_)
    · refine pv_iconst (0 : Int32) hc dX9_why_44 rfl ?_
      exact pv_iret hc hr hQ (e_i1 h) rfl dX9_why_45
    · refine pv_iconst (1 : Int32) hc dX9_why_40 rfl ?_
      refine pv_goto (tgt := 45) hc dX9_why_41 (by decide) ?_
      exact pv_iret hc hr hQ (e_i1 h) rfl dX9_why_45
  refine pv_lsw (tgt := 46) (c := 1) (off := 45) hc dX9_why_1 (by decide) (by decide) (by decide) h (fun h => ?_) (fun hx3 h => ?_)
  · refine pv_aload_n 0 hc dX9_why_46 rfl rfl ?_
    refine m_get_98 hc hM hG dX9_why_47 ?_
    refine pv_bipush (32 : Int32) hc dX9_why_50 rfl ?_
    refine pv_iload_n 2 hc dX9_why_52 rfl rfl ?_
    refine pv_iadd hc dX9_why_53 ?_
    obtain ⟨i2, hi2, h⟩ := IX_el h
    refine m_ald_14 hc hM hG hi2 dX9_why_54 ?_
    refine pv_if_ne (tgt := 62) hc dX9_why_55 (by decide) h (fun h => ?_) (fun h => ?_)
    · refine pv_iconst (0 : Int32) hc dX9_why_62 rfl ?_
      exact pv_iret hc hr hQ (e_i1 h) rfl dX9_why_63
    · refine pv_iconst (1 : Int32) hc dX9_why_58 rfl ?_
      refine pv_goto (tgt := 63) hc dX9_why_59 (by decide) ?_
      exact pv_iret hc hr hQ (e_i1 h) rfl dX9_why_63
  refine pv_lookup (tgt := 64) (off := 63) hc dX9_why_1 (by decide) ((lv_osw hx1 rfl).trans ((lv_osw hx3 rfl).trans rfl)) (by decide) ?_
  refine pv_aload_n 0 hc dX9_why_64 rfl rfl ?_
  refine m_get_98 hc hM hG dX9_why_65 ?_
  refine pv_bipush (26 : Int32) hc dX9_why_68 rfl ?_
  refine pv_iload_n 2 hc dX9_why_70 rfl rfl ?_
  refine pv_iadd hc dX9_why_71 ?_
  obtain ⟨i4, hi4, h⟩ := IX_el h
  refine m_ald_14 hc hM hG hi4 dX9_why_72 ?_
  refine pv_iload_n 3 hc dX9_why_73 rfl rfl ?_
  refine pv_icmp_ne (tgt := 81) hc dX9_why_74 (by decide) h (fun h => ?_) (fun h => ?_)
  · refine pv_iconst (0 : Int32) hc dX9_why_81 rfl ?_
    exact pv_iret hc hr hQ (e_i1 h) rfl dX9_why_82
  · refine pv_iconst (1 : Int32) hc dX9_why_77 rfl ?_
    refine pv_goto (tgt := 82) hc dX9_why_78 (by decide) ?_
    exact pv_iret hc hr hQ (e_i1 h) rfl dX9_why_82
