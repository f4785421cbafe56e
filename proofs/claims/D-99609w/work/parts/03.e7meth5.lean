/-! ParlourLeavesModel's methods: what each computes, and that it does (written by gen/dec_all.py) -/
set_option maxRecDepth 100000
def m_takeBack (s : Rec)  : Option Rec := LP2 (fun (rec3 : Int32 → Rec → Option Rec) (v1 : Int32) (s2 : Rec) => (if (140 : Int32) ≤ v1 then some s2 else IX v1 140 (fun i4 => IX ((24 : Int32) + v1) 406 (fun i5 => LT (sA s2 14 i5 (gA s2 18 i4)) (fun s6 => rec3 (v1 + (1 : Int32)) s6))))) FU (0 : Int32) s
set_option maxHeartbeats 4000000 in
theorem m_takeBack_ok {l : Launch} {g : Gh} {G : Wd} (hM : MOK g) {a : Nat} {s : Rec} (hG : G.2 a = some (7, s))  {s' : Rec} (hf : m_takeBack s  = some s') : MT l g yX9_takeBack cX9_takeBack 2 none 1 G [.ref a] none (wp G a 7 s') := by
  refine pv_start (by decide) (Nat.le_of_ble_eq_true rfl) ?_
  intro X hl hg hN hc hr _ _ _ hQ
  subst hl; subst hg
  refine pv_G (wp_id hG) ?_
  have h := hf
  unfold m_takeBack at h
  show V X 0 0 _ [(0, .ref a)] [] 0
  refine pv_iconst (0 : Int32) hc dX9_takeBack_0 rfl ?_
  refine pv_istore_n (L' := [(1, .int (0 : Int32)), (0, .ref a)]) hc dX9_takeBack_1 rfl hN (by decide) rfl ?_
  refine pv_sub [1, 0] rfl ?_
  refine LP2_el (P := fun v1 s2 => V X 0 0 (wp G a 7 s2) [(0, .ref a), (1, .int v1)] [] 2) ?_ FU _ _ h
  intro rec3 hrec3 v1 s2 h
  refine pv_iload_n 1 hc dX9_takeBack_2 rfl rfl ?_
  refine pv_sipush (140 : Int32) hc dX9_takeBack_3 rfl ?_
  refine pv_icmp_ge (tgt := 30) hc dX9_takeBack_6 (by decide) h (fun h => ?_) (fun h => ?_)
  · exact pv_vret hc hr hQ rfl (e_w1 h) dX9_takeBack_30
  · refine pv_aload_n 0 hc dX9_takeBack_9 rfl rfl ?_
    refine m_get_98 hc hM (wp_at G a 7 s2) dX9_takeBack_10 ?_
    refine pv_bipush (24 : Int32) hc dX9_takeBack_13 rfl ?_
    refine pv_iload_n 1 hc dX9_takeBack_15 rfl rfl ?_
    refine pv_iadd hc dX9_takeBack_16 ?_
    refine pv_aload_n 0 hc dX9_takeBack_17 rfl rfl ?_
    refine m_get_110 hc hM (wp_at G a 7 s2) dX9_takeBack_18 ?_
    refine pv_iload_n 1 hc dX9_takeBack_21 rfl rfl ?_
    obtain ⟨i4, hi4, h⟩ := IX_el h
    refine m_ald_18 hc hM (wp_at G a 7 s2) hi4 dX9_takeBack_22 ?_
    obtain ⟨i5, hi5, h⟩ := IX_el h
    obtain ⟨s6, hs6, h⟩ := LT_el h
    refine m_ast_14 hc hM hi5 hs6 dX9_takeBack_23 ?_
    refine pv_iinc (L' := [(1, .int (v1 + (1 : Int32))), (0, .ref a)]) 1 (v1 + (1 : Int32)) hc dX9_takeBack_24 rfl rfl hN (by decide) rfl ?_
    refine pv_goto (tgt := 2) hc dX9_takeBack_27 (by decide) ?_
    refine pv_sub [1, 0] rfl ?_
    exact hrec3 _ _ h
def m_odds (s : Rec) (x1 : Int32) (x2 : Int32) (x3 : Int32) : Option (Int32 × Rec) := LT (sI s 0 (0 : Int32)) (fun s1 => BD (m_isPerson s1 x1) (fun v3 => (if v3 = 0 then some ((-1 : Int32), s1) else BD (m_isIn x2 (1 : Int32) (30 : Int32)) (fun v5 => (if v5 = 0 then some ((-1 : Int32), s1) else BD (m_layAside s1) (fun s7 => LP3 (fun (rec11 : Int32 → Int32 → Rec → Option (Int32 × Rec)) (v8 : Int32) (v9 : Int32) (s10 : Rec) => (if x2 ≤ v9 then some (v8, s10) else BD2 (m_drawDays s10 (20 : Int32) (x3 + v9)) (fun v13 s14 => BD (m_isProvedOf s14 x1) (fun v16 => (if v16 = 0 then BD (m_takeBack s14) (fun s18 => rec11 v8 (v9 + (1 : Int32)) s18) else BD (m_takeBack s14) (fun s20 => rec11 (v8 + (1 : Int32)) (v9 + (1 : Int32)) s20)))))) FU (0 : Int32) (0 : Int32) s7))))))
set_option maxHeartbeats 4000000 in
theorem m_odds_ok {l : Launch} {g : Gh} {G : Wd} (hM : MOK g) {a : Nat} {s : Rec} (hG : G.2 a = some (7, s)) {x1 : Int32} {x2 : Int32} {x3 : Int32} {r : Int32} {s' : Rec} (hf : m_odds s x1 x2 x3 = some (r, s')) : MT l g yX9_odds cX9_odds 6 (some .int) 8 G [.ref a, .int x1, .int x2, .int x3] (some (.int r)) (wp G a 7 s') := by
  refine pv_start (by decide) (Nat.le_of_ble_eq_true rfl) ?_
  intro X hl hg hN hc hr _ _ _ hQ
  subst hl; subst hg
  refine pv_G (wp_id hG) ?_
  have h := hf
  unfold m_odds at h
  show V X 0 0 _ [(0, .ref a), (1, .int x1), (2, .int x2), (3, .int x3)] [] 0
  refine pv_aload_n 0 hc dX9_odds_0 rfl rfl ?_
  refine pv_iconst (0 : Int32) hc dX9_odds_1 rfl ?_
  obtain ⟨s1, hs1, h⟩ := LT_el h
  refine m_put_1 hc hM hs1 dX9_odds_2 ?_
  refine pv_aload_n 0 hc dX9_odds_5 rfl rfl ?_
  refine pv_iload_n 1 hc dX9_odds_6 rfl rfl ?_
  obtain ⟨v3, hf2, h⟩ := BD_el h
  refine m_call_286 hc hM (wp_at G a 7 s1) (m_isPerson_ok hM (wp_at G a 7 s1) hf2) (by decide) (Nat.le_of_ble_eq_true rfl) dX9_odds_7 ?_
  refine pv_if_eq (tgt := 23) hc dX9_odds_10 (by decide) h (fun h => ?_) (fun h => ?_)
  · refine pv_iconst (-1 : Int32) hc dX9_odds_23 rfl ?_
    exact pv_iret hc hr hQ (e_i2 h) (e_w2 h) dX9_odds_24
  · refine pv_iload_n 2 hc dX9_odds_13 rfl rfl ?_
    refine pv_iconst (1 : Int32) hc dX9_odds_14 rfl ?_
    refine pv_bipush (30 : Int32) hc dX9_odds_15 rfl ?_
    obtain ⟨v5, hf4, h⟩ := BD_el h
    refine m_call_75 hc (m_isIn_ok hf4) (by decide) (Nat.le_of_ble_eq_true rfl) dX9_odds_17 ?_
    refine pv_if_ne (tgt := 25) hc dX9_odds_20 (by decide) h (fun h => ?_) (fun h => ?_)
    · refine pv_aload_n 0 hc dX9_odds_25 rfl rfl ?_
      obtain ⟨s7, hf6, h⟩ := BD_el h
      refine m_call_363 hc hM (m_layAside_ok hM (wp_at G a 7 s1) hf6) (by decide) (Nat.le_of_ble_eq_true rfl) dX9_odds_26 ?_
      refine pv_iconst (0 : Int32) hc dX9_odds_29 rfl ?_
      refine pv_istore (L' := [(4, .int (0 : Int32)), (0, .ref a), (1, .int x1), (2, .int x2), (3, .int x3)]) hc dX9_odds_30 hN (by decide) rfl ?_
      refine pv_iconst (0 : Int32) hc dX9_odds_32 rfl ?_
      refine pv_istore (L' := [(5, .int (0 : Int32)), (4, .int (0 : Int32)), (0, .ref a), (1, .int x1), (2, .int x2), (3, .int x3)]) hc dX9_odds_33 hN (by decide) rfl ?_
      refine pv_sub [2, 3, 4, 5, 1, 0] rfl ?_
      refine LP3_el (P := fun v8 v9 s10 => V X 0 0 (wp G a 7 s10) [(0, .ref a), (1, .int x1), (2, .int x2), (3, .int x3), (4, .int v8), (5, .int v9)] [] 35) ?_ FU _ _ _ h
      intro rec11 hrec11 v8 v9 s10 h
      refine pv_iload 5 hc dX9_odds_35 rfl ?_
      refine pv_iload_n 2 hc dX9_odds_37 rfl rfl ?_
      refine pv_icmp_ge (tgt := 73) hc dX9_odds_38 (by decide) h (fun h => ?_) (fun h => ?_)
      · refine pv_iload 4 hc dX9_odds_73 rfl ?_
        exact pv_iret hc hr hQ (e_i2 h) (e_w2 h) dX9_odds_75
      · refine pv_aload_n 0 hc dX9_odds_41 rfl rfl ?_
        refine pv_bipush (20 : Int32) hc dX9_odds_42 rfl ?_
        refine pv_iload_n 3 hc dX9_odds_44 rfl rfl ?_
        refine pv_iload 5 hc dX9_odds_45 rfl ?_
        refine pv_iadd hc dX9_odds_47 ?_
        obtain ⟨v13, s14, hf12, h⟩ := BD2_el h
        refine m_call_360 hc hM (m_drawDays_ok hM (wp_at G a 7 s10) hf12) (by decide) (Nat.le_of_ble_eq_true rfl) dX9_odds_48 ?_
        refine pv_pop hc dX9_odds_51 rfl ?_
        refine pv_aload_n 0 hc dX9_odds_52 rfl rfl ?_
        refine pv_iload_n 1 hc dX9_odds_53 rfl rfl ?_
        obtain ⟨v16, hf15, h⟩ := BD_el h
        refine m_call_366 hc hM (wp_at G a 7 s14) (m_isProvedOf_ok hM (wp_at G a 7 s14) hf15) (by decide) (Nat.le_of_ble_eq_true rfl) dX9_odds_54 ?_
        refine pv_if_eq (tgt := 63) hc dX9_odds_57 (by decide) h (fun h => ?_) (fun h => ?_)
        · refine pv_aload_n 0 hc dX9_odds_63 rfl rfl ?_
          obtain ⟨s18, hf17, h⟩ := BD_el h
          refine m_call_369 hc hM (m_takeBack_ok hM (wp_at G a 7 s14) hf17) (by decide) (Nat.le_of_ble_eq_true rfl) dX9_odds_64 ?_
          refine pv_iinc (L' := [(5, .int (v9 + (1 : Int32))), (0, .ref a), (1, .int x1), (2, .int x2), (3, .int x3), (4, .int v8)]) 5 (v9 + (1 : Int32)) hc dX9_odds_67 rfl rfl hN (by decide) rfl ?_
          refine pv_goto (tgt := 35) hc dX9_odds_70 (by decide) ?_
          refine pv_sub [1, 2, 3, 4, 5, 0] rfl ?_
          exact hrec11 _ _ _ h
        · refine pv_iinc (L' := [(4, .int (v8 + (1 : Int32))), (0, .ref a), (1, .int x1), (2, .int x2), (3, .int x3), (5, .int v9)]) 4 (v8 + (1 : Int32)) hc dX9_odds_60 rfl rfl hN (by decide) rfl ?_
          refine pv_aload_n 1 hc dX9_odds_63 rfl rfl ?_
          obtain ⟨s20, hf19, h⟩ := BD_el h
          refine m_call_369 hc hM (m_takeBack_ok hM (wp_at G a 7 s14) hf19) (by decide) (Nat.le_of_ble_eq_true rfl) dX9_odds_64 ?_
          refine pv_iinc (L' := [(5, .int (v9 + (1 : Int32))), (4, .int (v8 + (1 : Int32))), (0, .ref a), (1, .int x1), (2, .int x2), (3, .int x3)]) 5 (v9 + (1 : Int32)) hc dX9_odds_67 rfl rfl hN (by decide) rfl ?_
          refine pv_goto (tgt := 35) hc dX9_odds_70 (by decide) ?_
          refine pv_sub [2, 3, 4, 5, 1, 0] rfl ?_
          exact hrec11 _ _ _ h
    · refine pv_iconst (-1 : Int32) hc dX9_odds_23 rfl ?_
      exact pv_iret hc hr hQ (e_i2 h) (e_w2 h) dX9_odds_24
def m_goBy (s : Rec) (x1 : Int32) : Option (Int32 × Rec) := IX (x1 + (1 : Int32)) 160 (fun i1 => IX x1 160 (fun i2 => (if (gA s 36 i2) = (3 : Int32) then (if ((gA s 14 24) + (gA s 36 i1)) ≤ (400 : Int32) then BD2 (m_passDays s (gA s 36 i1)) (fun v10 s11 => some ((0 : Int32), s11)) else some ((31 : Int32), s)) else IX (x1 + (2 : Int32)) 160 (fun i3 => BD (m_why s (gA s 36 i2) (gA s 36 i1) (gA s 36 i3)) (fun v5 => (if v5 = 0 then IX (x1 + (3 : Int32)) 160 (fun i6 => BD (m_live s (gA s 36 i2) (gA s 36 i1) (gA s 36 i3) (gA s 36 i6)) (fun s8 => some ((0 : Int32), s8))) else some ((((10 : Int32) * (gA s 36 i2)) + v5), s)))))))
set_option maxHeartbeats 4000000 in
theorem m_goBy_ok {l : Launch} {g : Gh} {G : Wd} (hM : MOK g) {a : Nat} {s : Rec} (hG : G.2 a = some (7, s)) {x1 : Int32} {r : Int32} {s' : Rec} (hf : m_goBy s x1 = some (r, s')) : MT l g yX9_goBy cX9_goBy 4 (some .int) 6 G [.ref a, .int x1] (some (.int r)) (wp G a 7 s') := by
  refine pv_start (by decide) (Nat.le_of_ble_eq_true rfl) ?_
  intro X hl hg hN hc hr _ _ _ hQ
  subst hl; subst hg
  refine pv_G (wp_id hG) ?_
  have h := hf
  unfold m_goBy at h
  show V X 0 0 _ [(0, .ref a), (1, .int x1)] [] 0
  refine pv_aload_n 0 hc dX9_goBy_0 rfl rfl ?_
  refine m_get_148 hc hM (wp_at G a 7 s) dX9_goBy_1 ?_
  refine pv_iload_n 1 hc dX9_goBy_4 rfl rfl ?_
  refine pv_iconst (1 : Int32) hc dX9_goBy_5 rfl ?_
  refine pv_iadd hc dX9_goBy_6 ?_
  obtain ⟨i1, hi1, h⟩ := IX_el h
  refine m_ald_36 hc hM (wp_at G a 7 s) hi1 dX9_goBy_7 ?_
  refine pv_istore_n (L' := [(2, .int (gA s 36 i1)), (0, .ref a), (1, .int x1)]) hc dX9_goBy_8 rfl hN (by decide) rfl ?_
  refine pv_aload_n 1 hc dX9_goBy_9 rfl rfl ?_
  refine m_get_148 hc hM (wp_at G a 7 s) dX9_goBy_10 ?_
  refine pv_iload_n 2 hc dX9_goBy_13 rfl rfl ?_
  obtain ⟨i2, hi2, h⟩ := IX_el h
  refine m_ald_36 hc hM (wp_at G a 7 s) hi2 dX9_goBy_14 ?_
  refine pv_iconst (3 : Int32) hc dX9_goBy_15 rfl ?_
  refine pv_icmp_ne (tgt := 45) hc dX9_goBy_16 (by decide) h (fun h => ?_) (fun h => ?_)
  · refine pv_aload_n 1 hc dX9_goBy_45 rfl rfl ?_
    refine pv_aload_n 1 hc dX9_goBy_46 rfl rfl ?_
    refine m_get_148 hc hM (wp_at G a 7 s) dX9_goBy_47 ?_
    refine pv_iload_n 2 hc dX9_goBy_50 rfl rfl ?_
    refine m_ald_36 hc hM (wp_at G a 7 s) hi2 dX9_goBy_51 ?_
    refine pv_iload_n 0 hc dX9_goBy_52 rfl rfl ?_
    refine pv_aload_n 1 hc dX9_goBy_53 rfl rfl ?_
    refine m_get_148 hc hM (wp_at G a 7 s) dX9_goBy_54 ?_
    refine pv_iload_n 2 hc dX9_goBy_57 rfl rfl ?_
    refine pv_iconst (2 : Int32) hc dX9_goBy_58 rfl ?_
    refine pv_iadd hc dX9_goBy_59 ?_
    obtain ⟨i3, hi3, h⟩ := IX_el h
    refine m_ald_36 hc hM (wp_at G a 7 s) hi3 dX9_goBy_60 ?_
    obtain ⟨v5, hf4, h⟩ := BD_el h
    refine m_call_275 hc hM (wp_at G a 7 s) (m_why_ok hM (wp_at G a 7 s) hf4) (by decide) (Nat.le_of_ble_eq_true rfl) dX9_goBy_61 ?_
    refine pv_istore_n (L' := [(3, .int v5), (2, .int (gA s 36 i1)), (0, .ref a), (1, .int x1)]) hc dX9_goBy_64 rfl hN (by decide) rfl ?_
    refine pv_iload_n 0 hc dX9_goBy_65 rfl rfl ?_
    refine pv_if_eq (tgt := 81) hc dX9_goBy_66 (by decide) h (fun h => ?_) (fun h => ?_)
    · refine pv_aload_n 2 hc dX9_goBy_81 rfl rfl ?_
      refine pv_aload_n 2 hc dX9_goBy_82 rfl rfl ?_
      refine m_get_148 hc hM (wp_at G a 7 s) dX9_goBy_83 ?_
      refine pv_iload_n 3 hc dX9_goBy_86 rfl rfl ?_
      refine m_ald_36 hc hM (wp_at G a 7 s) hi2 dX9_goBy_87 ?_
      refine pv_iload_n 1 hc dX9_goBy_88 rfl rfl ?_
      refine pv_aload_n 2 hc dX9_goBy_89 rfl rfl ?_
      refine m_get_148 hc hM (wp_at G a 7 s) dX9_goBy_90 ?_
      refine pv_iload_n 3 hc dX9_goBy_93 rfl rfl ?_
      refine pv_iconst (2 : Int32) hc dX9_goBy_94 rfl ?_
      refine pv_iadd hc dX9_goBy_95 ?_
      refine m_ald_36 hc hM (wp_at G a 7 s) hi3 dX9_goBy_96 ?_
      refine pv_aload_n 2 hc dX9_goBy_97 rfl rfl ?_
      refine m_get_148 hc hM (wp_at G a 7 s) dX9_goBy_98 ?_
      refine pv_iload_n 3 hc dX9_goBy_101 rfl rfl ?_
      refine pv_iconst (3 : Int32) hc dX9_goBy_102 rfl ?_
      refine pv_iadd hc dX9_goBy_103 ?_
      obtain ⟨i6, hi6, h⟩ := IX_el h
      refine m_ald_36 hc hM (wp_at G a 7 s) hi6 dX9_goBy_104 ?_
      obtain ⟨s8, hf7, h⟩ := BD_el h
      refine m_call_282 hc hM (m_live_ok hM (wp_at G a 7 s) hf7) (by decide) (Nat.le_of_ble_eq_true rfl) dX9_goBy_105 ?_
      refine pv_iconst (0 : Int32) hc dX9_goBy_108 rfl ?_
      exact pv_iret hc hr hQ (e_i2 h) (e_w2 h) dX9_goBy_109
    · refine pv_bipush (10 : Int32) hc dX9_goBy_69 rfl ?_
      refine pv_aload_n 2 hc dX9_goBy_71 rfl rfl ?_
      refine m_get_148 hc hM (wp_at G a 7 s) dX9_goBy_72 ?_
      refine pv_iload_n 3 hc dX9_goBy_75 rfl rfl ?_
      refine m_ald_36 hc hM (wp_at G a 7 s) hi2 dX9_goBy_76 ?_
      refine pv_imul hc dX9_goBy_77 ?_
      refine pv_iload_n 0 hc dX9_goBy_78 rfl rfl ?_
      refine pv_iadd hc dX9_goBy_79 ?_
      exact pv_iret hc hr hQ (e_i2 h) (e_w2 h) dX9_goBy_80
  · refine pv_aload_n 1 hc dX9_goBy_19 rfl rfl ?_
    refine m_get_98 hc hM (wp_at G a 7 s) dX9_goBy_20 ?_
    refine pv_bipush (24 : Int32) hc dX9_goBy_23 rfl ?_
    refine m_ald_14 hc hM (wp_at G a 7 s) (vp_lit (j := 24) (by decide)) dX9_goBy_25 ?_
    refine pv_iload_n 0 hc dX9_goBy_26 rfl rfl ?_
    refine pv_iadd hc dX9_goBy_27 ?_
    refine pv_sipush (400 : Int32) hc dX9_goBy_28 rfl ?_
    refine pv_icmp_le (tgt := 37) hc dX9_goBy_31 (by decide) h (fun h => ?_) (fun h => ?_)
    · refine pv_aload_n 1 hc dX9_goBy_37 rfl rfl ?_
      refine pv_iload_n 0 hc dX9_goBy_38 rfl rfl ?_
      obtain ⟨v10, s11, hf9, h⟩ := BD2_el h
      refine m_call_302 hc hM (m_passDays_ok hM (wp_at G a 7 s) hf9) (by decide) (Nat.le_of_ble_eq_true rfl) dX9_goBy_39 ?_
      refine pv_pop hc dX9_goBy_42 rfl ?_
      refine pv_iconst (0 : Int32) hc dX9_goBy_43 rfl ?_
      exact pv_iret hc hr hQ (e_i2 h) (e_w2 h) dX9_goBy_44
    · refine pv_bipush (31 : Int32) hc dX9_goBy_34 rfl ?_
      exact pv_iret hc hr hQ (e_i2 h) (e_w2 h) dX9_goBy_36
def m_keep (s : Rec) (x1 : Int32) (x2 : Int32) : Option (Int32 × Rec) := (if x2 = 0 then BZ x2 (some (x2, s)) else IX x1 160 (fun i2 => LT (sA s 36 i2 (gI s 13)) (fun s3 => BZ x2 (some (x2, s3)))))
set_option maxHeartbeats 4000000 in
theorem m_keep_ok {l : Launch} {g : Gh} {G : Wd} (hM : MOK g) {a : Nat} {s : Rec} (hG : G.2 a = some (7, s)) {x1 : Int32} {x2 : Int32} {r : Int32} {s' : Rec} (hf : m_keep s x1 x2 = some (r, s')) : MT l g yX9_keep cX9_keep 3 (some .boolean) 1 G [.ref a, .int x1, .int x2] (some (.int r)) (wp G a 7 s') := by
  refine pv_start (by decide) (Nat.le_of_ble_eq_true rfl) ?_
  intro X hl hg hN hc hr _ _ _ hQ
  subst hl; subst hg
  refine pv_G (wp_id hG) ?_
  have h := hf
  unfold m_keep at h
  show V X 0 0 _ [(0, .ref a), (1, .int x1), (2, .int x2)] [] 0
  refine pv_iload_n 2 hc dX9_keep_0 rfl rfl ?_
  refine pv_if_eq (tgt := 14) hc dX9_keep_1 (by decide) h (fun h => ?_) (fun h => ?_)
  · refine pv_iload_n 2 hc dX9_keep_14 rfl rfl ?_
    obtain ⟨hb1, h⟩ := BZ_el h
    exact pv_zret hc hr hQ hb1 (e_i2 h) (e_w2 h) dX9_keep_15
  · refine pv_aload_n 0 hc dX9_keep_4 rfl rfl ?_
    refine m_get_148 hc hM (wp_at G a 7 s) dX9_keep_5 ?_
    refine pv_iload_n 1 hc dX9_keep_8 rfl rfl ?_
    refine pv_aload_n 0 hc dX9_keep_9 rfl rfl ?_
    refine m_get_79 hc hM (wp_at G a 7 s) dX9_keep_10 ?_
    obtain ⟨i2, hi2, h⟩ := IX_el h
    obtain ⟨s3, hs3, h⟩ := LT_el h
    refine m_ast_36 hc hM hi2 hs3 dX9_keep_13 ?_
    refine pv_iload_n 2 hc dX9_keep_14 rfl rfl ?_
    obtain ⟨hb4, h⟩ := BZ_el h
    exact pv_zret hc hr hQ hb4 (e_i2 h) (e_w2 h) dX9_keep_15
def m_readNamed (s : Rec) (x1 : Int32) (x2 : Int32) : Option (Int32 × Rec) := BD (m_isName s) (fun v2 => (if v2 = 0 then BD2 (m_bad s (1 : Int32)) (fun v13 s14 => BZ v13 (some (v13, s14))) else BD (m_findIn (gL s 19) 20 x1 x2 (gJ s 12)) (fun v4 => LT (sI s 13 v4) (fun s5 => (if (gI s5 13) = (-1 : Int32) then BD2 (m_bad s5 (3 : Int32)) (fun v9 s10 => BZ v9 (some (v9, s10))) else BD (m_go s5) (fun s7 => some ((1 : Int32), s7)))))))
set_option maxHeartbeats 4000000 in
theorem m_readNamed_ok {l : Launch} {g : Gh} {G : Wd} (hM : MOK g) {a : Nat} {s : Rec} (hG : G.2 a = some (7, s)) {x1 : Int32} {x2 : Int32} {r : Int32} {s' : Rec} (hf : m_readNamed s x1 x2 = some (r, s')) : MT l g yX9_readNamed cX9_readNamed 3 (some .boolean) 4 G [.ref a, .int x1, .int x2] (some (.int r)) (wp G a 7 s') := by
  refine pv_start (by decide) (Nat.le_of_ble_eq_true rfl) ?_
  intro X hl hg hN hc hr _ _ _ hQ
  subst hl; subst hg
  refine pv_G (wp_id hG) ?_
  have h := hf
  unfold m_readNamed at h
  show V X 0 0 _ [(0, .ref a), (1, .int x1), (2, .int x2)] [] 0
  refine pv_aload_n 0 hc dX9_readNamed_0 rfl rfl ?_
  obtain ⟨v2, hf1, h⟩ := BD_el h
  refine m_call_164 hc hM (wp_at G a 7 s) (m_isName_ok hM (wp_at G a 7 s) hf1) (by decide) (Nat.le_of_ble_eq_true rfl) dX9_readNamed_1 ?_
  refine pv_if_ne (tgt := 13) hc dX9_readNamed_4 (by decide) h (fun h => ?_) (fun h => ?_)
  · refine pv_aload_n 0 hc dX9_readNamed_13 rfl rfl ?_
    refine pv_aload_n 0 hc dX9_readNamed_14 rfl rfl ?_
    refine m_get_113 hc hM (wp_at G a 7 s) dX9_readNamed_15 ?_
    refine pv_iload_n 1 hc dX9_readNamed_18 rfl rfl ?_
    refine pv_iload_n 2 hc dX9_readNamed_19 rfl rfl ?_
    refine pv_aload_n 0 hc dX9_readNamed_20 rfl rfl ?_
    refine m_get_43 hc hM (wp_at G a 7 s) dX9_readNamed_21 ?_
    obtain ⟨v4, hf3, h⟩ := BD_el h
    refine m_call_160 hc (m_findIn_ok (wp_at G a 7 s) (m_cell_19 hM) 1 hM.2.2.2.1 hf3) (by decide) (Nat.le_of_ble_eq_true rfl) dX9_readNamed_24 ?_
    obtain ⟨s5, hs5, h⟩ := LT_el h
    refine m_put_79 hc hM hs5 dX9_readNamed_27 ?_
    refine pv_aload_n 0 hc dX9_readNamed_30 rfl rfl ?_
    refine m_get_79 hc hM (wp_at G a 7 s5) dX9_readNamed_31 ?_
    refine pv_iconst (-1 : Int32) hc dX9_readNamed_34 rfl ?_
    refine pv_icmp_ne (tgt := 44) hc dX9_readNamed_35 (by decide) h (fun h => ?_) (fun h => ?_)
    · refine pv_aload_n 0 hc dX9_readNamed_44 rfl rfl ?_
      obtain ⟨s7, hf6, h⟩ := BD_el h
      refine m_call_82 hc hM (m_go_ok hM (wp_at G a 7 s5) hf6) (by decide) (Nat.le_of_ble_eq_true rfl) dX9_readNamed_45 ?_
      refine pv_iconst (1 : Int32) hc dX9_readNamed_48 rfl ?_
      exact pv_zret hc hr hQ (by decide) (e_i2 h) (e_w2 h) dX9_readNamed_49
    · refine pv_aload_n 0 hc dX9_readNamed_38 rfl rfl ?_
      refine pv_iconst (3 : Int32) hc dX9_readNamed_39 rfl ?_
      obtain ⟨v9, s10, hf8, h⟩ := BD2_el h
      refine m_call_72 hc hM (m_bad_ok hM (wp_at G a 7 s5) hf8) (by decide) (Nat.le_of_ble_eq_true rfl) dX9_readNamed_40 ?_
      obtain ⟨hb11, h⟩ := BZ_el h
      exact pv_zret hc hr hQ hb11 (e_i2 h) (e_w2 h) dX9_readNamed_43
  · refine pv_aload_n 0 hc dX9_readNamed_7 rfl rfl ?_
    refine pv_iconst (1 : Int32) hc dX9_readNamed_8 rfl ?_
    obtain ⟨v13, s14, hf12, h⟩ := BD2_el h
    refine m_call_72 hc hM (m_bad_ok hM (wp_at G a 7 s) hf12) (by decide) (Nat.le_of_ble_eq_true rfl) dX9_readNamed_9 ?_
    obtain ⟨hb15, h⟩ := BZ_el h
    exact pv_zret hc hr hQ hb15 (e_i2 h) (e_w2 h) dX9_readNamed_12
def m_readParlourName (s : Rec)  : Option (Int32 × Rec) := BD2 (m_readNamed s (0 : Int32) (gA s 14 0)) (fun v2 s3 => BZ v2 (some (v2, s3)))
set_option maxHeartbeats 4000000 in
theorem m_readParlourName_ok {l : Launch} {g : Gh} {G : Wd} (hM : MOK g) {a : Nat} {s : Rec} (hG : G.2 a = some (7, s))  {r : Int32} {s' : Rec} (hf : m_readParlourName s  = some (r, s')) : MT l g yX9_readParlourName cX9_readParlourName 1 (some .boolean) 5 G [.ref a] (some (.int r)) (wp G a 7 s') := by
  refine pv_start (by decide) (Nat.le_of_ble_eq_true rfl) ?_
  intro X hl hg hN hc hr _ _ _ hQ
  subst hl; subst hg
  refine pv_G (wp_id hG) ?_
  have h := hf
  unfold m_readParlourName at h
  show V X 0 0 _ [(0, .ref a)] [] 0
  refine pv_aload_n 0 hc dX9_readParlourName_0 rfl rfl ?_
  refine pv_iconst (0 : Int32) hc dX9_readParlourName_1 rfl ?_
  refine pv_aload_n 0 hc dX9_readParlourName_2 rfl rfl ?_
  refine m_get_98 hc hM (wp_at G a 7 s) dX9_readParlourName_3 ?_
  refine pv_iconst (0 : Int32) hc dX9_readParlourName_6 rfl ?_
  refine m_ald_14 hc hM (wp_at G a 7 s) (vp_lit (j := 0) (by decide)) dX9_readParlourName_7 ?_
  obtain ⟨v2, s3, hf1, h⟩ := BD2_el h
  refine m_call_372 hc hM (m_readNamed_ok hM (wp_at G a 7 s) hf1) (by decide) (Nat.le_of_ble_eq_true rfl) dX9_readParlourName_8 ?_
  obtain ⟨hb4, h⟩ := BZ_el h
  exact pv_zret hc hr hQ hb4 (e_i2 h) (e_w2 h) dX9_readParlourName_11
def m_readDoes (s : Rec) (x1 : Int32) : Option (Int32 × Rec) := BD (m_isWord s (7 : Int32)) (fun v2 => (if v2 = 0 then BD2 (m_bad s (1 : Int32)) (fun v20 s21 => BZ v20 (some (v20, s21))) else BD (m_go s) (fun s4 => IX x1 160 (fun i5 => LT (sA s4 36 i5 (0 : Int32)) (fun s6 => BD2 (m_readNamed s6 (15 : Int32) (gA s6 14 3)) (fun v8 s9 => BD2 (m_keep s9 (x1 + (2 : Int32)) v8) (fun v11 s12 => (if v11 = 0 then some ((0 : Int32), s12) else BD2 (m_readParlourName s12) (fun v14 s15 => BD2 (m_keep s15 (x1 + (3 : Int32)) v14) (fun v17 s18 => (if v17 = 0 then some ((0 : Int32), s18) else some ((1 : Int32), s18))))))))))))
set_option maxHeartbeats 4000000 in
theorem m_readDoes_ok {l : Launch} {g : Gh} {G : Wd} (hM : MOK g) {a : Nat} {s : Rec} (hG : G.2 a = some (7, s)) {x1 : Int32} {r : Int32} {s' : Rec} (hf : m_readDoes s x1 = some (r, s')) : MT l g yX9_readDoes cX9_readDoes 2 (some .boolean) 6 G [.ref a, .int x1] (some (.int r)) (wp G a 7 s') := by
  refine pv_start (by decide) (Nat.le_of_ble_eq_true rfl) ?_
  intro X hl hg hN hc hr _ _ _ hQ
  subst hl; subst hg
  refine pv_G (wp_id hG) ?_
  have h := hf
  unfold m_readDoes at h
  show V X 0 0 _ [(0, .ref a), (1, .int x1)] [] 0
  refine pv_aload_n 0 hc dX9_readDoes_0 rfl rfl ?_
  refine pv_bipush (7 : Int32) hc dX9_readDoes_1 rfl ?_
  obtain ⟨v2, hf1, h⟩ := BD_el h
  refine m_call_191 hc hM (wp_at G a 7 s) (m_isWord_ok hM (wp_at G a 7 s) hf1) (by decide) (Nat.le_of_ble_eq_true rfl) dX9_readDoes_3 ?_
  refine pv_if_ne (tgt := 15) hc dX9_readDoes_6 (by decide) h (fun h => ?_) (fun h => ?_)
  · refine pv_aload_n 0 hc dX9_readDoes_15 rfl rfl ?_
    obtain ⟨s4, hf3, h⟩ := BD_el h
    refine m_call_82 hc hM (m_go_ok hM (wp_at G a 7 s) hf3) (by decide) (Nat.le_of_ble_eq_true rfl) dX9_readDoes_16 ?_
    refine pv_aload_n 0 hc dX9_readDoes_19 rfl rfl ?_
    refine m_get_148 hc hM (wp_at G a 7 s4) dX9_readDoes_20 ?_
    refine pv_iload_n 1 hc dX9_readDoes_23 rfl rfl ?_
    refine pv_iconst (0 : Int32) hc dX9_readDoes_24 rfl ?_
    obtain ⟨i5, hi5, h⟩ := IX_el h
    obtain ⟨s6, hs6, h⟩ := LT_el h
    refine m_ast_36 hc hM hi5 hs6 dX9_readDoes_25 ?_
    refine pv_aload_n 0 hc dX9_readDoes_26 rfl rfl ?_
    refine pv_iload_n 1 hc dX9_readDoes_27 rfl rfl ?_
    refine pv_iconst (2 : Int32) hc dX9_readDoes_28 rfl ?_
    refine pv_iadd hc dX9_readDoes_29 ?_
    refine pv_aload_n 0 hc dX9_readDoes_30 rfl rfl ?_
    refine pv_bipush (15 : Int32) hc dX9_readDoes_31 rfl ?_
    refine pv_aload_n 0 hc dX9_readDoes_33 rfl rfl ?_
    refine m_get_98 hc hM (wp_at G a 7 s6) dX9_readDoes_34 ?_
    refine pv_iconst (3 : Int32) hc dX9_readDoes_37 rfl ?_
    refine m_ald_14 hc hM (wp_at G a 7 s6) (vp_lit (j := 3) (by decide)) dX9_readDoes_38 ?_
    obtain ⟨v8, s9, hf7, h⟩ := BD2_el h
    refine m_call_372 hc hM (m_readNamed_ok hM (wp_at G a 7 s6) hf7) (by decide) (Nat.le_of_ble_eq_true rfl) dX9_readDoes_39 ?_
    obtain ⟨v11, s12, hf10, h⟩ := BD2_el h
    refine m_call_375 hc hM (m_keep_ok hM (wp_at G a 7 s9) hf10) (by decide) (Nat.le_of_ble_eq_true rfl) dX9_readDoes_42 ?_
    refine pv_if_eq (tgt := 66) hc dX9_readDoes_45 (by decide) h (fun h => ?_) (fun h => ?_)
    · refine pv_iconst (0 : Int32) hc dX9_readDoes_66 rfl ?_
      exact pv_zret hc hr hQ (by decide) (e_i2 h) (e_w2 h) dX9_readDoes_67
    · refine pv_aload_n 0 hc dX9_readDoes_48 rfl rfl ?_
      refine pv_iload_n 1 hc dX9_readDoes_49 rfl rfl ?_
      refine pv_iconst (3 : Int32) hc dX9_readDoes_50 rfl ?_
      refine pv_iadd hc dX9_readDoes_51 ?_
      refine pv_aload_n 0 hc dX9_readDoes_52 rfl rfl ?_
      obtain ⟨v14, s15, hf13, h⟩ := BD2_el h
      refine m_call_378 hc hM (m_readParlourName_ok hM (wp_at G a 7 s12) hf13) (by decide) (Nat.le_of_ble_eq_true rfl) dX9_readDoes_53 ?_
      obtain ⟨v17, s18, hf16, h⟩ := BD2_el h
      refine m_call_375 hc hM (m_keep_ok hM (wp_at G a 7 s15) hf16) (by decide) (Nat.le_of_ble_eq_true rfl) dX9_readDoes_56 ?_
      refine pv_if_eq (tgt := 66) hc dX9_readDoes_59 (by decide) h (fun h => ?_) (fun h => ?_)
      · refine pv_iconst (0 : Int32) hc dX9_readDoes_66 rfl ?_
        exact pv_zret hc hr hQ (by decide) (e_i2 h) (e_w2 h) dX9_readDoes_67
      · refine pv_iconst (1 : Int32) hc dX9_readDoes_62 rfl ?_
        refine pv_goto (tgt := 67) hc dX9_readDoes_63 (by decide) ?_
        exact pv_zret hc hr hQ (by decide) (e_i2 h) (e_w2 h) dX9_readDoes_67
  · refine pv_aload_n 0 hc dX9_readDoes_9 rfl rfl ?_
    refine pv_iconst (1 : Int32) hc dX9_readDoes_10 rfl ?_
    obtain ⟨v20, s21, hf19, h⟩ := BD2_el h
    refine m_call_72 hc hM (m_bad_ok hM (wp_at G a 7 s) hf19) (by decide) (Nat.le_of_ble_eq_true rfl) dX9_readDoes_11 ?_
    obtain ⟨hb22, h⟩ := BZ_el h
    exact pv_zret hc hr hQ hb22 (e_i2 h) (e_w2 h) dX9_readDoes_14
def m_readPlantName (s : Rec)  : Option (Int32 × Rec) := BD2 (m_readNamed s (5 : Int32) (gA s 14 1)) (fun v2 s3 => BZ v2 (some (v2, s3)))
set_option maxHeartbeats 4000000 in
theorem m_readPlantName_ok {l : Launch} {g : Gh} {G : Wd} (hM : MOK g) {a : Nat} {s : Rec} (hG : G.2 a = some (7, s))  {r : Int32} {s' : Rec} (hf : m_readPlantName s  = some (r, s')) : MT l g yX9_readPlantName cX9_readPlantName 1 (some .boolean) 5 G [.ref a] (some (.int r)) (wp G a 7 s') := by
  refine pv_start (by decide) (Nat.le_of_ble_eq_true rfl) ?_
  intro X hl hg hN hc hr _ _ _ hQ
  subst hl; subst hg
  refine pv_G (wp_id hG) ?_
  have h := hf
  unfold m_readPlantName at h
  show V X 0 0 _ [(0, .ref a)] [] 0
  refine pv_aload_n 0 hc dX9_readPlantName_0 rfl rfl ?_
  refine pv_iconst (5 : Int32) hc dX9_readPlantName_1 rfl ?_
  refine pv_aload_n 0 hc dX9_readPlantName_2 rfl rfl ?_
  refine m_get_98 hc hM (wp_at G a 7 s) dX9_readPlantName_3 ?_
  refine pv_iconst (1 : Int32) hc dX9_readPlantName_6 rfl ?_
  refine m_ald_14 hc hM (wp_at G a 7 s) (vp_lit (j := 1) (by decide)) dX9_readPlantName_7 ?_
  obtain ⟨v2, s3, hf1, h⟩ := BD2_el h
  refine m_call_372 hc hM (m_readNamed_ok hM (wp_at G a 7 s) hf1) (by decide) (Nat.le_of_ble_eq_true rfl) dX9_readPlantName_8 ?_
  obtain ⟨hb4, h⟩ := BZ_el h
  exact pv_zret hc hr hQ hb4 (e_i2 h) (e_w2 h) dX9_readPlantName_11
def m_readBookLine (s : Rec)  : Option (Int32 × Rec) := BD (m_isWord s (8 : Int32)) (fun v2 => BD (m_isWord s (9 : Int32)) (fun v4 => BD (m_isWord s (10 : Int32)) (fun v6 => JN1 (fun (v7 : Int32) => JN1 (fun (u9 : Unit) => (if (gI s 38) = (40 : Int32) then BD2 (m_bad s (4 : Int32)) (fun v60 s61 => BZ v60 (some (v60, s61))) else JN1 (fun (v11 : Int32) => IX ((4 : Int32) * (gI s 38)) 160 (fun i13 => LT (sA s 36 i13 v11) (fun s14 => JN1 (fun (v15 : Int32) => IX (((4 : Int32) * (gI s 38)) + (1 : Int32)) 160 (fun i17 => LT (sA s14 36 i17 v15) (fun s18 => IX (((4 : Int32) * (gI s 38)) + (2 : Int32)) 160 (fun i19 => LT (sA s18 36 i19 (0 : Int32)) (fun s20 => IX (((4 : Int32) * (gI s 38)) + (3 : Int32)) 160 (fun i21 => LT (sA s20 36 i21 (0 : Int32)) (fun s22 => BD (m_go s22) (fun s24 => (if v7 = 0 then (if v6 = 0 then BD2 (m_readPlantName s24) (fun v26 s27 => BD2 (m_keep s27 (((4 : Int32) * (gI s 38)) + (1 : Int32)) v26) (fun v29 s30 => (if v29 = 0 then some ((0 : Int32), s30) else JN1 (fun (s31 : Rec) => BD2 (m_readEnd s31) (fun v34 s35 => (if v34 = 0 then some ((0 : Int32), s35) else some ((1 : Int32), s35)))) (fun (j32 : Rec → Option (Int32 × Rec)) => (if v2 = 0 then BD2 (m_readParlourName s30) (fun v37 s38 => BD2 (m_keep s38 (((4 : Int32) * (gI s 38)) + (2 : Int32)) v37) (fun v40 s41 => (if v40 = 0 then some ((0 : Int32), s41) else j32 s41))) else j32 s30))))) else BD2 (m_readNumber s24 (1 : Int32) (60 : Int32)) (fun v43 s44 => BD2 (m_keep s44 (((4 : Int32) * (gI s 38)) + (1 : Int32)) v43) (fun v46 s47 => (if v46 = 0 then some ((0 : Int32), s47) else BD2 (m_readEnd s47) (fun v49 s50 => (if v49 = 0 then some ((0 : Int32), s50) else some ((1 : Int32), s50))))))) else BD2 (m_readDoes s24 ((4 : Int32) * (gI s 38))) (fun v52 s53 => (if v52 = 0 then some ((0 : Int32), s53) else BD2 (m_readEnd s53) (fun v55 s56 => (if v55 = 0 then some ((0 : Int32), s56) else some ((1 : Int32), s56)))))))))))))) (fun (j16 : Int32 → Option (Int32 × Rec)) => (if v7 = 0 then j16 (0 : Int32) else BD (m_findIn (gL s14 19) 20 (11 : Int32) (gA s14 14 2) (gJ s14 12)) (fun v58 => j16 v58)))))) (fun (j12 : Int32 → Option (Int32 × Rec)) => (if v2 = 0 then (if v4 = 0 then j12 (3 : Int32) else j12 (2 : Int32)) else j12 (1 : Int32))))) (fun (j10 : Unit → Option (Int32 × Rec)) => (if v7 = 0 then j10 () else BD (m_isName s) (fun v64 => (if v64 = 0 then BD2 (m_bad s (1 : Int32)) (fun v72 s73 => BZ v72 (some (v72, s73))) else BD (m_findIn (gL s 19) 20 (11 : Int32) (gA s 14 2) (gJ s 12)) (fun v66 => (if v66 = (-1 : Int32) then BD2 (m_bad s (3 : Int32)) (fun v68 s69 => BZ v68 (some (v68, s69))) else j10 ()))))))) (fun (j8 : Int32 → Option (Int32 × Rec)) => (if v2 = 0 then (if v4 = 0 then (if v6 = 0 then j8 (1 : Int32) else j8 (0 : Int32)) else j8 (0 : Int32)) else j8 (0 : Int32))))))
set_option maxHeartbeats 4000000 in
theorem m_readBookLine_ok {l : Launch} {g : Gh} {G : Wd} (hM : MOK g) {a : Nat} {s : Rec} (hG : G.2 a = some (7, s))  {r : Int32} {s' : Rec} (hf : m_readBookLine s  = some (r, s')) : MT l g yX9_readBookLine cX9_readBookLine 6 (some .boolean) 7 G [.ref a] (some (.int r)) (wp G a 7 s') := by
  refine pv_start (by decide) (Nat.le_of_ble_eq_true rfl) ?_
  intro X hl hg hN hc hr _ _ _ hQ
  subst hl; subst hg
  refine pv_G (wp_id hG) ?_
  have h := hf
  unfold m_readBookLine at h
  show V X 0 0 _ [(0, .ref a)] [] 0
  refine pv_aload_n 0 hc dX9_readBookLine_0 rfl rfl ?_
  refine pv_bipush (8 : Int32) hc dX9_readBookLine_1 rfl ?_
  obtain ⟨v2, hf1, h⟩ := BD_el h
  refine m_call_191 hc hM (wp_at G a 7 s) (m_isWord_ok hM (wp_at G a 7 s) hf1) (by decide) (Nat.le_of_ble_eq_true rfl) dX9_readBookLine_3 ?_
  refine pv_istore_n (L' := [(1, .int v2), (0, .ref a)]) hc dX9_readBookLine_6 rfl hN (by decide) rfl ?_
  refine pv_aload_n 1 hc dX9_readBookLine_7 rfl rfl ?_
  refine pv_bipush (9 : Int32) hc dX9_readBookLine_8 rfl ?_
  obtain ⟨v4, hf3, h⟩ := BD_el h
  refine m_call_191 hc hM (wp_at G a 7 s) (m_isWord_ok hM (wp_at G a 7 s) hf3) (by decide) (Nat.le_of_ble_eq_true rfl) dX9_readBookLine_10 ?_
  refine pv_istore_n (L' := [(2, .int v4), (1, .int v2), (0, .ref a)]) hc dX9_readBookLine_13 rfl hN (by decide) rfl ?_
  refine pv_aload_n 2 hc dX9_readBookLine_14 rfl rfl ?_
  refine pv_bipush (10 : Int32) hc dX9_readBookLine_15 rfl ?_
  obtain ⟨v6, hf5, h⟩ := BD_el h
  refine m_call_191 hc hM (wp_at G a 7 s) (m_isWord_ok hM (wp_at G a 7 s) hf5) (by decide) (Nat.le_of_ble_eq_true rfl) dX9_readBookLine_17 ?_
  refine pv_istore_n (L' := [(3, .int v6), (2, .int v4), (1, .int v2), (0, .ref a)]) hc dX9_readBookLine_20 rfl hN (by decide) rfl ?_
  refine pv_iload_n 2 hc dX9_readBookLine_21 rfl rfl ?_
  obtain ⟨j8, hj8, h⟩ := JN1_el (P := fun v7 => V X 0 0 (wp G a 7 s) [(0, .ref a), (1, .int v2), (2, .int v4), (3, .int v6)] [.int v7] 38) h (by
      intro v7 h
      refine pv_istore (L' := [(4, .int v7), (0, .ref a), (1, .int v2), (2, .int v4), (3, .int v6)]) hc dX9_readBookLine_38 hN (by decide) rfl ?_
      refine pv_iload 0 hc dX9_readBookLine_40 rfl ?_
      obtain ⟨j10, hj10, h⟩ := JN1_el (P := fun u9 => V X 0 0 (wp G a 7 s) [(0, .ref a), (1, .int v2), (2, .int v4), (3, .int v6), (4, .int v7)] [] 87) h (by
          intro u9 h
          refine pv_aload_n 0 hc dX9_readBookLine_87 rfl rfl ?_
          refine m_get_381 hc hM (wp_at G a 7 s) dX9_readBookLine_88 ?_
          refine pv_bipush (40 : Int32) hc dX9_readBookLine_91 rfl ?_
          refine pv_icmp_ne (tgt := 102) hc dX9_readBookLine_93 (by decide) h (fun h => ?_) (fun h => ?_)
          · refine pv_iconst (4 : Int32) hc dX9_readBookLine_102 rfl ?_
            refine pv_aload_n 0 hc dX9_readBookLine_103 rfl rfl ?_
            refine m_get_381 hc hM (wp_at G a 7 s) dX9_readBookLine_104 ?_
            refine pv_imul hc dX9_readBookLine_107 ?_
            refine pv_istore (L' := [(5, .int ((4 : Int32) * (gI s 38))), (0, .ref a), (1, .int v2), (2, .int v4), (3, .int v6), (4, .int v7)]) hc dX9_readBookLine_108 hN (by decide) rfl ?_
            refine pv_aload_n 1 hc dX9_readBookLine_110 rfl rfl ?_
            refine m_get_148 hc hM (wp_at G a 7 s) dX9_readBookLine_111 ?_
            refine pv_iload 0 hc dX9_readBookLine_114 rfl ?_
            refine pv_iload_n 2 hc dX9_readBookLine_116 rfl rfl ?_
            obtain ⟨j12, hj12, h⟩ := JN1_el (P := fun v11 => V X 0 0 (wp G a 7 s) [(0, .ref a), (1, .int v2), (3, .int v6), (4, .int v7), (5, .int ((4 : Int32) * (gI s 38)))] [.int v11, .int ((4 : Int32) * (gI s 38)), .ref (a + 16)] 133) h (by
                intro v11 h
                obtain ⟨i13, hi13, h⟩ := IX_el h
                obtain ⟨s14, hs14, h⟩ := LT_el h
                refine m_ast_36 hc hM hi13 hs14 dX9_readBookLine_133 ?_
                refine pv_aload_n 0 hc dX9_readBookLine_134 rfl rfl ?_
                refine m_get_148 hc hM (wp_at G a 7 s14) dX9_readBookLine_135 ?_
                refine pv_iload 4 hc dX9_readBookLine_138 rfl ?_
                refine pv_iconst (1 : Int32) hc dX9_readBookLine_140 rfl ?_
                refine pv_iadd hc dX9_readBookLine_141 ?_
                refine pv_iload 3 hc dX9_readBookLine_142 rfl ?_
                obtain ⟨j16, hj16, h⟩ := JN1_el (P := fun v15 => V X 0 0 (wp G a 7 s14) [(0, .ref a), (1, .int v2), (3, .int v6), (4, .int v7), (5, .int ((4 : Int32) * (gI s 38)))] [.int v15, .int (((4 : Int32) * (gI s 38)) + (1 : Int32)), .ref (a + 16)] 170) h (by
                    intro v15 h
                    obtain ⟨i17, hi17, h⟩ := IX_el h
                    obtain ⟨s18, hs18, h⟩ := LT_el h
                    refine m_ast_36 hc hM hi17 hs18 dX9_readBookLine_170 ?_
                    refine pv_aload_n 0 hc dX9_readBookLine_171 rfl rfl ?_
                    refine m_get_148 hc hM (wp_at G a 7 s18) dX9_readBookLine_172 ?_
                    refine pv_iload 4 hc dX9_readBookLine_175 rfl ?_
                    refine pv_iconst (2 : Int32) hc dX9_readBookLine_177 rfl ?_
                    refine pv_iadd hc dX9_readBookLine_178 ?_
                    refine pv_iconst (0 : Int32) hc dX9_readBookLine_179 rfl ?_
                    obtain ⟨i19, hi19, h⟩ := IX_el h
                    obtain ⟨s20, hs20, h⟩ := LT_el h
                    refine m_ast_36 hc hM hi19 hs20 dX9_readBookLine_180 ?_
                    refine pv_aload_n 0 hc dX9_readBookLine_181 rfl rfl ?_
                    refine m_get_148 hc hM (wp_at G a 7 s20) dX9_readBookLine_182 ?_
                    refine pv_iload 4 hc dX9_readBookLine_185 rfl ?_
                    refine pv_iconst (3 : Int32) hc dX9_readBookLine_187 rfl ?_
                    refine pv_iadd hc dX9_readBookLine_188 ?_
                    refine pv_iconst (0 : Int32) hc dX9_readBookLine_189 rfl ?_
                    obtain ⟨i21, hi21, h⟩ := IX_el h
                    obtain ⟨s22, hs22, h⟩ := LT_el h
                    refine m_ast_36 hc hM hi21 hs22 dX9_readBookLine_190 ?_
                    refine pv_aload_n 0 hc dX9_readBookLine_191 rfl rfl ?_
                    obtain ⟨s24, hf23, h⟩ := BD_el h
                    refine m_call_82 hc hM (m_go_ok hM (wp_at G a 7 s22) hf23) (by decide) (Nat.le_of_ble_eq_true rfl) dX9_readBookLine_192 ?_
                    refine pv_iload 3 hc dX9_readBookLine_195 rfl ?_
                    refine pv_if_eq (tgt := 222) hc dX9_readBookLine_197 (by decide) h (fun h => ?_) (fun h => ?_)
                    · refine pv_iload_n 2 hc dX9_readBookLine_222 rfl rfl ?_
                      refine pv_if_eq (tgt := 257) hc dX9_readBookLine_223 (by decide) h (fun h => ?_) (fun h => ?_)
                      · refine pv_aload_n 0 hc dX9_readBookLine_257 rfl rfl ?_
                        refine pv_iload 4 hc dX9_readBookLine_258 rfl ?_
                        refine pv_iconst (1 : Int32) hc dX9_readBookLine_260 rfl ?_
                        refine pv_iadd hc dX9_readBookLine_261 ?_
                        refine pv_aload_n 0 hc dX9_readBookLine_262 rfl rfl ?_
                        obtain ⟨v26, s27, hf25, h⟩ := BD2_el h
                        refine m_call_387 hc hM (m_readPlantName_ok hM (wp_at G a 7 s24) hf25) (by decide) (Nat.le_of_ble_eq_true rfl) dX9_readBookLine_263 ?_
                        obtain ⟨v29, s30, hf28, h⟩ := BD2_el h
                        refine m_call_375 hc hM (m_keep_ok hM (wp_at G a 7 s27) hf28) (by decide) (Nat.le_of_ble_eq_true rfl) dX9_readBookLine_266 ?_
                        refine pv_if_ne (tgt := 274) hc dX9_readBookLine_269 (by decide) h (fun h => ?_) (fun h => ?_)
                        · refine pv_iload_n 1 hc dX9_readBookLine_274 rfl rfl ?_
                          obtain ⟨j32, hj32, h⟩ := JN1_el (P := fun s31 => V X 0 0 (wp G a 7 s31) [(0, .ref a)] [] 293) h (by
                              intro s31 h
                              refine pv_aload_n 0 hc dX9_readBookLine_293 rfl rfl ?_
                              obtain ⟨v34, s35, hf33, h⟩ := BD2_el h
                              refine m_call_212 hc hM (m_readEnd_ok hM (wp_at G a 7 s31) hf33) (by decide) (Nat.le_of_ble_eq_true rfl) dX9_readBookLine_294 ?_
                              refine pv_if_eq (tgt := 304) hc dX9_readBookLine_297 (by decide) h (fun h => ?_) (fun h => ?_)
                              · refine pv_iconst (0 : Int32) hc dX9_readBookLine_304 rfl ?_
                                exact pv_zret hc hr hQ (by decide) (e_i2 h) (e_w2 h) dX9_readBookLine_305
                              · refine pv_iconst (1 : Int32) hc dX9_readBookLine_300 rfl ?_
                                refine pv_goto (tgt := 305) hc dX9_readBookLine_301 (by decide) ?_
                                exact pv_zret hc hr hQ (by decide) (e_i2 h) (e_w2 h) dX9_readBookLine_305)
                          refine pv_if_ne (tgt := 293) hc dX9_readBookLine_275 (by decide) h (fun h => ?_) (fun h => ?_)
                          · refine pv_sub [0] rfl ?_
                            exact hj32 _ h
                          · refine pv_aload_n 0 hc dX9_readBookLine_278 rfl rfl ?_
                            refine pv_iload 4 hc dX9_readBookLine_279 rfl ?_
                            refine pv_iconst (2 : Int32) hc dX9_readBookLine_281 rfl ?_
                            refine pv_iadd hc dX9_readBookLine_282 ?_
                            refine pv_aload_n 0 hc dX9_readBookLine_283 rfl rfl ?_
                            obtain ⟨v37, s38, hf36, h⟩ := BD2_el h
                            refine m_call_378 hc hM (m_readParlourName_ok hM (wp_at G a 7 s30) hf36) (by decide) (Nat.le_of_ble_eq_true rfl) dX9_readBookLine_284 ?_
                            obtain ⟨v40, s41, hf39, h⟩ := BD2_el h
                            refine m_call_375 hc hM (m_keep_ok hM (wp_at G a 7 s38) hf39) (by decide) (Nat.le_of_ble_eq_true rfl) dX9_readBookLine_287 ?_
                            refine pv_if_eq (tgt := 304) hc dX9_readBookLine_290 (by decide) h (fun h => ?_) (fun h => ?_)
                            · refine pv_iconst (0 : Int32) hc dX9_readBookLine_304 rfl ?_
                              exact pv_zret hc hr hQ (by decide) (e_i2 h) (e_w2 h) dX9_readBookLine_305
                            · refine pv_sub [0] rfl ?_
                              exact hj32 _ h
                        · refine pv_iconst (0 : Int32) hc dX9_readBookLine_272 rfl ?_
                          exact pv_zret hc hr hQ (by decide) (e_i2 h) (e_w2 h) dX9_readBookLine_273
                      · refine pv_aload_n 0 hc dX9_readBookLine_226 rfl rfl ?_
                        refine pv_iload 4 hc dX9_readBookLine_227 rfl ?_
                        refine pv_iconst (1 : Int32) hc dX9_readBookLine_229 rfl ?_
                        refine pv_iadd hc dX9_readBookLine_230 ?_
                        refine pv_aload_n 0 hc dX9_readBookLine_231 rfl rfl ?_
                        refine pv_iconst (1 : Int32) hc dX9_readBookLine_232 rfl ?_
                        refine pv_bipush (60 : Int32) hc dX9_readBookLine_233 rfl ?_
                        obtain ⟨v43, s44, hf42, h⟩ := BD2_el h
                        refine m_call_188 hc hM (m_readNumber_ok hM (wp_at G a 7 s24) hf42) (by decide) (Nat.le_of_ble_eq_true rfl) dX9_readBookLine_235 ?_
                        obtain ⟨v46, s47, hf45, h⟩ := BD2_el h
                        refine m_call_375 hc hM (m_keep_ok hM (wp_at G a 7 s44) hf45) (by decide) (Nat.le_of_ble_eq_true rfl) dX9_readBookLine_238 ?_
                        refine pv_if_eq (tgt := 255) hc dX9_readBookLine_241 (by decide) h (fun h => ?_) (fun h => ?_)
                        · refine pv_iconst (0 : Int32) hc dX9_readBookLine_255 rfl ?_
                          exact pv_zret hc hr hQ (by decide) (e_i2 h) (e_w2 h) dX9_readBookLine_256
                        · refine pv_aload_n 0 hc dX9_readBookLine_244 rfl rfl ?_
                          obtain ⟨v49, s50, hf48, h⟩ := BD2_el h
                          refine m_call_212 hc hM (m_readEnd_ok hM (wp_at G a 7 s47) hf48) (by decide) (Nat.le_of_ble_eq_true rfl) dX9_readBookLine_245 ?_
                          refine pv_if_eq (tgt := 255) hc dX9_readBookLine_248 (by decide) h (fun h => ?_) (fun h => ?_)
                          · refine pv_iconst (0 : Int32) hc dX9_readBookLine_255 rfl ?_
                            exact pv_zret hc hr hQ (by decide) (e_i2 h) (e_w2 h) dX9_readBookLine_256
                          · refine pv_iconst (1 : Int32) hc dX9_readBookLine_251 rfl ?_
                            refine pv_goto (tgt := 256) hc dX9_readBookLine_252 (by decide) ?_
                            exact pv_zret hc hr hQ (by decide) (e_i2 h) (e_w2 h) dX9_readBookLine_256
                    · refine pv_aload_n 0 hc dX9_readBookLine_200 rfl rfl ?_
                      refine pv_iload 4 hc dX9_readBookLine_201 rfl ?_
                      obtain ⟨v52, s53, hf51, h⟩ := BD2_el h
                      refine m_call_384 hc hM (m_readDoes_ok hM (wp_at G a 7 s24) hf51) (by decide) (Nat.le_of_ble_eq_true rfl) dX9_readBookLine_203 ?_
                      refine pv_if_eq (tgt := 220) hc dX9_readBookLine_206 (by decide) h (fun h => ?_) (fun h => ?_)
                      · refine pv_iconst (0 : Int32) hc dX9_readBookLine_220 rfl ?_
                        exact pv_zret hc hr hQ (by decide) (e_i2 h) (e_w2 h) dX9_readBookLine_221
                      · refine pv_aload_n 0 hc dX9_readBookLine_209 rfl rfl ?_
                        obtain ⟨v55, s56, hf54, h⟩ := BD2_el h
                        refine m_call_212 hc hM (m_readEnd_ok hM (wp_at G a 7 s53) hf54) (by decide) (Nat.le_of_ble_eq_true rfl) dX9_readBookLine_210 ?_
                        refine pv_if_eq (tgt := 220) hc dX9_readBookLine_213 (by decide) h (fun h => ?_) (fun h => ?_)
                        · refine pv_iconst (0 : Int32) hc dX9_readBookLine_220 rfl ?_
                          exact pv_zret hc hr hQ (by decide) (e_i2 h) (e_w2 h) dX9_readBookLine_221
                        · refine pv_iconst (1 : Int32) hc dX9_readBookLine_216 rfl ?_
                          refine pv_goto (tgt := 221) hc dX9_readBookLine_217 (by decide) ?_
                          exact pv_zret hc hr hQ (by decide) (e_i2 h) (e_w2 h) dX9_readBookLine_221)
                refine pv_if_eq (tgt := 169) hc dX9_readBookLine_144 (by decide) h (fun h => ?_) (fun h => ?_)
                · refine pv_iconst (0 : Int32) hc dX9_readBookLine_169 rfl ?_
                  exact hj16 _ h
                · refine pv_aload_n 0 hc dX9_readBookLine_147 rfl rfl ?_
                  refine m_get_113 hc hM (wp_at G a 7 s14) dX9_readBookLine_148 ?_
                  refine pv_bipush (11 : Int32) hc dX9_readBookLine_151 rfl ?_
                  refine pv_aload_n 0 hc dX9_readBookLine_153 rfl rfl ?_
                  refine m_get_98 hc hM (wp_at G a 7 s14) dX9_readBookLine_154 ?_
                  refine pv_iconst (2 : Int32) hc dX9_readBookLine_157 rfl ?_
                  refine m_ald_14 hc hM (wp_at G a 7 s14) (vp_lit (j := 2) (by decide)) dX9_readBookLine_158 ?_
                  refine pv_aload_n 0 hc dX9_readBookLine_159 rfl rfl ?_
                  refine m_get_43 hc hM (wp_at G a 7 s14) dX9_readBookLine_160 ?_
                  obtain ⟨v58, hf57, h⟩ := BD_el h
                  refine m_call_160 hc (m_findIn_ok (wp_at G a 7 s14) (m_cell_19 hM) 1 hM.2.2.2.1 hf57) (by decide) (Nat.le_of_ble_eq_true rfl) dX9_readBookLine_163 ?_
                  refine pv_goto (tgt := 170) hc dX9_readBookLine_166 (by decide) ?_
                  exact hj16 _ h)
            refine pv_if_eq (tgt := 124) hc dX9_readBookLine_117 (by decide) h (fun h => ?_) (fun h => ?_)
            · refine pv_iload_n 3 hc dX9_readBookLine_124 rfl rfl ?_
              refine pv_if_eq (tgt := 132) hc dX9_readBookLine_125 (by decide) h (fun h => ?_) (fun h => ?_)
              · refine pv_iconst (3 : Int32) hc dX9_readBookLine_132 rfl ?_
                refine pv_sub [1, 2, 4, 5, 0] rfl ?_
                exact hj12 _ h
              · refine pv_iconst (2 : Int32) hc dX9_readBookLine_128 rfl ?_
                refine pv_goto (tgt := 133) hc dX9_readBookLine_129 (by decide) ?_
                refine pv_sub [1, 2, 4, 5, 0] rfl ?_
                exact hj12 _ h
            · refine pv_iconst (1 : Int32) hc dX9_readBookLine_120 rfl ?_
              refine pv_goto (tgt := 133) hc dX9_readBookLine_121 (by decide) ?_
              refine pv_sub [1, 2, 4, 5, 0] rfl ?_
              exact hj12 _ h
          · refine pv_aload_n 0 hc dX9_readBookLine_96 rfl rfl ?_
            refine pv_iconst (4 : Int32) hc dX9_readBookLine_97 rfl ?_
            obtain ⟨v60, s61, hf59, h⟩ := BD2_el h
            refine m_call_72 hc hM (m_bad_ok hM (wp_at G a 7 s) hf59) (by decide) (Nat.le_of_ble_eq_true rfl) dX9_readBookLine_98 ?_
            obtain ⟨hb62, h⟩ := BZ_el h
            exact pv_zret hc hr hQ hb62 (e_i2 h) (e_w2 h) dX9_readBookLine_101)
      refine pv_if_eq (tgt := 87) hc dX9_readBookLine_42 (by decide) h (fun h => ?_) (fun h => ?_)
      · refine pv_sub [1, 2, 3, 4, 0] rfl ?_
        exact hj10 _ h
      · refine pv_aload_n 1 hc dX9_readBookLine_45 rfl rfl ?_
        obtain ⟨v64, hf63, h⟩ := BD_el h
        refine m_call_164 hc hM (wp_at G a 7 s) (m_isName_ok hM (wp_at G a 7 s) hf63) (by decide) (Nat.le_of_ble_eq_true rfl) dX9_readBookLine_46 ?_
        refine pv_if_ne (tgt := 58) hc dX9_readBookLine_49 (by decide) h (fun h => ?_) (fun h => ?_)
        · refine pv_aload_n 1 hc dX9_readBookLine_58 rfl rfl ?_
          refine m_get_113 hc hM (wp_at G a 7 s) dX9_readBookLine_59 ?_
          refine pv_bipush (11 : Int32) hc dX9_readBookLine_62 rfl ?_
          refine pv_aload_n 1 hc dX9_readBookLine_64 rfl rfl ?_
          refine m_get_98 hc hM (wp_at G a 7 s) dX9_readBookLine_65 ?_
          refine pv_iconst (2 : Int32) hc dX9_readBookLine_68 rfl ?_
          refine m_ald_14 hc hM (wp_at G a 7 s) (vp_lit (j := 2) (by decide)) dX9_readBookLine_69 ?_
          refine pv_aload_n 1 hc dX9_readBookLine_70 rfl rfl ?_
          refine m_get_43 hc hM (wp_at G a 7 s) dX9_readBookLine_71 ?_
          obtain ⟨v66, hf65, h⟩ := BD_el h
          refine m_call_160 hc (m_findIn_ok (wp_at G a 7 s) (m_cell_19 hM) 1 hM.2.2.2.1 hf65) (by decide) (Nat.le_of_ble_eq_true rfl) dX9_readBookLine_74 ?_
          refine pv_iconst (-1 : Int32) hc dX9_readBookLine_77 rfl ?_
          refine pv_icmp_ne (tgt := 87) hc dX9_readBookLine_78 (by decide) h (fun h => ?_) (fun h => ?_)
          · refine pv_sub [1, 2, 3, 4, 0] rfl ?_
            exact hj10 _ h
          · refine pv_aload_n 1 hc dX9_readBookLine_81 rfl rfl ?_
            refine pv_iconst (3 : Int32) hc dX9_readBookLine_82 rfl ?_
            obtain ⟨v68, s69, hf67, h⟩ := BD2_el h
            refine m_call_72 hc hM (m_bad_ok hM (wp_at G a 7 s) hf67) (by decide) (Nat.le_of_ble_eq_true rfl) dX9_readBookLine_83 ?_
            obtain ⟨hb70, h⟩ := BZ_el h
            exact pv_zret hc hr hQ hb70 (e_i2 h) (e_w2 h) dX9_readBookLine_86
        · refine pv_aload_n 1 hc dX9_readBookLine_52 rfl rfl ?_
          refine pv_iconst (1 : Int32) hc dX9_readBookLine_53 rfl ?_
          obtain ⟨v72, s73, hf71, h⟩ := BD2_el h
          refine m_call_72 hc hM (m_bad_ok hM (wp_at G a 7 s) hf71) (by decide) (Nat.le_of_ble_eq_true rfl) dX9_readBookLine_54 ?_
          obtain ⟨hb74, h⟩ := BZ_el h
          exact pv_zret hc hr hQ hb74 (e_i2 h) (e_w2 h) dX9_readBookLine_57)
  refine pv_if_ne (tgt := 37) hc dX9_readBookLine_22 (by decide) h (fun h => ?_) (fun h => ?_)
  · refine pv_iconst (0 : Int32) hc dX9_readBookLine_37 rfl ?_
    refine pv_sub [3, 2, 1, 0] rfl ?_
    exact hj8 _ h
  · refine pv_iload_n 1 hc dX9_readBookLine_25 rfl rfl ?_
    refine pv_if_ne (tgt := 37) hc dX9_readBookLine_26 (by decide) h (fun h => ?_) (fun h => ?_)
    · refine pv_iconst (0 : Int32) hc dX9_readBookLine_37 rfl ?_
      refine pv_sub [3, 2, 1, 0] rfl ?_
      exact hj8 _ h
    · refine pv_iload_n 0 hc dX9_readBookLine_29 rfl rfl ?_
      refine pv_if_ne (tgt := 37) hc dX9_readBookLine_30 (by decide) h (fun h => ?_) (fun h => ?_)
      · refine pv_iconst (0 : Int32) hc dX9_readBookLine_37 rfl ?_
        refine pv_sub [3, 2, 1, 0] rfl ?_
        exact hj8 _ h
      · refine pv_iconst (1 : Int32) hc dX9_readBookLine_33 rfl ?_
        refine pv_goto (tgt := 38) hc dX9_readBookLine_34 (by decide) ?_
        refine pv_sub [3, 2, 1, 0] rfl ?_
        exact hj8 _ h
def m_stay (s : Rec) (x1 : Int32) : Option Rec := LP2 (fun (rec3 : Int32 → Rec → Option Rec) (v1 : Int32) (s2 : Rec) => (if (140 : Int32) ≤ v1 then (if x1 = 0 then some s2 else BD (m_snap s2) (fun s5 => BD (m_takeBack s5) (fun s7 => some s7))) else IX ((24 : Int32) + v1) 406 (fun i8 => IX v1 140 (fun i9 => LT (sA s2 14 i8 (gA s2 18 i9)) (fun s10 => LT (sA s10 18 i9 (gA s2 14 i8)) (fun s11 => rec3 (v1 + (1 : Int32)) s11)))))) FU (0 : Int32) s
set_option maxHeartbeats 4000000 in
theorem m_stay_ok {l : Launch} {g : Gh} {G : Wd} (hM : MOK g) {a : Nat} {s : Rec} (hG : G.2 a = some (7, s)) {x1 : Int32} {s' : Rec} (hf : m_stay s x1 = some s') : MT l g yX9_stay cX9_stay 4 none 2 G [.ref a, .int x1] none (wp G a 7 s') := by
  refine pv_start (by decide) (Nat.le_of_ble_eq_true rfl) ?_
  intro X hl hg hN hc hr _ _ _ hQ
  subst hl; subst hg
  refine pv_G (wp_id hG) ?_
  have h := hf
  unfold m_stay at h
  show V X 0 0 _ [(0, .ref a), (1, .int x1)] [] 0
  refine pv_iconst (0 : Int32) hc dX9_stay_0 rfl ?_
  refine pv_istore_n (L' := [(2, .int (0 : Int32)), (0, .ref a), (1, .int x1)]) hc dX9_stay_1 rfl hN (by decide) rfl ?_
  refine pv_sub [1, 2, 0] rfl ?_
  refine LP2_el (P := fun v1 s2 => V X 0 0 (wp G a 7 s2) [(0, .ref a), (1, .int x1), (2, .int v1)] [] 2) ?_ FU _ _ h
  intro rec3 hrec3 v1 s2 h
  refine pv_iload_n 2 hc dX9_stay_2 rfl rfl ?_
  refine pv_sipush (140 : Int32) hc dX9_stay_3 rfl ?_
  refine pv_icmp_ge (tgt := 47) hc dX9_stay_6 (by decide) h (fun h => ?_) (fun h => ?_)
  · refine pv_iload_n 1 hc dX9_stay_47 rfl rfl ?_
    refine pv_if_ne (tgt := 52) hc dX9_stay_48 (by decide) h (fun h => ?_) (fun h => ?_)
    · refine pv_aload_n 0 hc dX9_stay_52 rfl rfl ?_
      obtain ⟨s5, hf4, h⟩ := BD_el h
      refine m_call_279 hc hM (m_snap_ok hM (wp_at G a 7 s2) hf4) (by decide) (Nat.le_of_ble_eq_true rfl) dX9_stay_53 ?_
      refine pv_aload_n 0 hc dX9_stay_56 rfl rfl ?_
      obtain ⟨s7, hf6, h⟩ := BD_el h
      refine m_call_369 hc hM (m_takeBack_ok hM (wp_at G a 7 s5) hf6) (by decide) (Nat.le_of_ble_eq_true rfl) dX9_stay_57 ?_
      exact pv_vret hc hr hQ rfl (e_w1 h) dX9_stay_60
    · exact pv_vret hc hr hQ rfl (e_w1 h) dX9_stay_51
  · refine pv_aload_n 0 hc dX9_stay_9 rfl rfl ?_
    refine m_get_98 hc hM (wp_at G a 7 s2) dX9_stay_10 ?_
    refine pv_bipush (24 : Int32) hc dX9_stay_13 rfl ?_
    refine pv_iload_n 2 hc dX9_stay_15 rfl rfl ?_
    refine pv_iadd hc dX9_stay_16 ?_
    obtain ⟨i8, hi8, h⟩ := IX_el h
    refine m_ald_14 hc hM (wp_at G a 7 s2) hi8 dX9_stay_17 ?_
    refine pv_istore_n (L' := [(3, .int (gA s2 14 i8)), (0, .ref a), (1, .int x1), (2, .int v1)]) hc dX9_stay_18 rfl hN (by decide) rfl ?_
    refine pv_aload_n 1 hc dX9_stay_19 rfl rfl ?_
    refine m_get_98 hc hM (wp_at G a 7 s2) dX9_stay_20 ?_
    refine pv_bipush (24 : Int32) hc dX9_stay_23 rfl ?_
    refine pv_iload_n 3 hc dX9_stay_25 rfl rfl ?_
    refine pv_iadd hc dX9_stay_26 ?_
    refine pv_aload_n 1 hc dX9_stay_27 rfl rfl ?_
    refine m_get_110 hc hM (wp_at G a 7 s2) dX9_stay_28 ?_
    refine pv_iload_n 3 hc dX9_stay_31 rfl rfl ?_
    obtain ⟨i9, hi9, h⟩ := IX_el h
    refine m_ald_18 hc hM (wp_at G a 7 s2) hi9 dX9_stay_32 ?_
    obtain ⟨s10, hs10, h⟩ := LT_el h
    refine m_ast_14 hc hM hi8 hs10 dX9_stay_33 ?_
    refine pv_aload_n 1 hc dX9_stay_34 rfl rfl ?_
    refine m_get_110 hc hM (wp_at G a 7 s10) dX9_stay_35 ?_
    refine pv_iload_n 3 hc dX9_stay_38 rfl rfl ?_
    refine pv_iload_n 0 hc dX9_stay_39 rfl rfl ?_
    obtain ⟨s11, hs11, h⟩ := LT_el h
    refine m_ast_18 hc hM hi9 hs11 dX9_stay_40 ?_
    refine pv_iinc (L' := [(2, .int (v1 + (1 : Int32))), (3, .int (gA s2 14 i8)), (0, .ref a), (1, .int x1)]) 3 (v1 + (1 : Int32)) hc dX9_stay_41 rfl rfl hN (by decide) rfl ?_
    refine pv_goto (tgt := 2) hc dX9_stay_44 (by decide) ?_
    refine pv_sub [2, 3, 0] rfl ?_
    exact hrec3 _ _ h
def m_book (s : Rec) (x1 : Int32) : Option (Int32 × Rec) := LT (sI s 0 (0 : Int32)) (fun s1 => BD (m_isIn x1 (0 : Int32) (1 : Int32)) (fun v3 => (if v3 = 0 then some ((-1000 : Int32), s1) else BD (m_begin s1 (400 : Int32)) (fun s5 => LT (sI s5 38 (0 : Int32)) (fun s6 => LP1 (fun (rec8 : Rec → Option (Int32 × Rec)) (s7 : Rec) => (if (gI s7 7) = 0 then BD (m_layAside s7) (fun s10 => LP3 (fun (rec14 : Int32 → Int32 → Rec → Option (Int32 × Rec)) (v11 : Int32) (v12 : Int32) (s13 : Rec) => JN1 (fun (u15 : Unit) => LT (sA s13 37 0 v12) (fun s17 => LT (sA s17 37 1 v11) (fun s18 => LT (sA s18 37 2 (gA s18 14 24)) (fun s19 => BD (m_proved s19) (fun v21 => LT (sA s19 37 3 v21) (fun s22 => LT (sI s22 39 (1 : Int32)) (fun s23 => JN1 (fun (v24 : Int32) => BD (m_stay s23 v24) (fun s27 => (if v12 = 0 then some ((-1 : Int32), s27) else some (v11, s27)))) (fun (j25 : Int32 → Option (Int32 × Rec)) => (if x1 = (1 : Int32) then (if v11 ≤ 0 then j25 (0 : Int32) else j25 (1 : Int32)) else j25 (0 : Int32)))))))))) (fun (j16 : Unit → Option (Int32 × Rec)) => (if (gI s13 38) ≤ v11 then j16 () else (if v12 = 0 then BD2 (m_goBy s13 ((4 : Int32) * v11)) (fun v29 s30 => (if v29 = 0 then rec14 (v11 + (1 : Int32)) v29 s30 else rec14 v11 v29 s30)) else j16 ())))) FU (0 : Int32) (0 : Int32) s10) else BD2 (m_readBookLine s7) (fun v32 s33 => (if v32 = 0 then some (((-2 : Int32) - (gI s33 11)), s33) else LT (sI s33 38 ((gI s33 38) + (1 : Int32))) (fun s34 => rec8 s34))))) FU s6)))))
set_option maxHeartbeats 4000000 in
theorem m_book_ok {l : Launch} {g : Gh} {G : Wd} (hM : MOK g) {a : Nat} {s : Rec} (hG : G.2 a = some (7, s)) {x1 : Int32} {r : Int32} {s' : Rec} (hf : m_book s x1 = some (r, s')) : MT l g yX9_book cX9_book 4 (some .int) 8 G [.ref a, .int x1] (some (.int r)) (wp G a 7 s') := by
  refine pv_start (by decide) (Nat.le_of_ble_eq_true rfl) ?_
  intro X hl hg hN hc hr _ _ _ hQ
  subst hl; subst hg
  refine pv_G (wp_id hG) ?_
  have h := hf
  unfold m_book at h
  show V X 0 0 _ [(0, .ref a), (1, .int x1)] [] 0
  refine pv_aload_n 0 hc dX9_book_0 rfl rfl ?_
  refine pv_iconst (0 : Int32) hc dX9_book_1 rfl ?_
  obtain ⟨s1, hs1, h⟩ := LT_el h
  refine m_put_1 hc hM hs1 dX9_book_2 ?_
  refine pv_iload_n 1 hc dX9_book_5 rfl rfl ?_
  refine pv_iconst (0 : Int32) hc dX9_book_6 rfl ?_
  refine pv_iconst (1 : Int32) hc dX9_book_7 rfl ?_
  obtain ⟨v3, hf2, h⟩ := BD_el h
  refine m_call_75 hc (m_isIn_ok hf2) (by decide) (Nat.le_of_ble_eq_true rfl) dX9_book_8 ?_
  refine pv_if_ne (tgt := 18) hc dX9_book_11 (by decide) h (fun h => ?_) (fun h => ?_)
  · refine pv_aload_n 0 hc dX9_book_18 rfl rfl ?_
    refine pv_sipush (400 : Int32) hc dX9_book_19 rfl ?_
    obtain ⟨s5, hf4, h⟩ := BD_el h
    refine m_call_206 hc hM (m_begin_ok hM (wp_at G a 7 s1) hf4) (by decide) (Nat.le_of_ble_eq_true rfl) dX9_book_22 ?_
    refine pv_aload_n 0 hc dX9_book_25 rfl rfl ?_
    refine pv_iconst (0 : Int32) hc dX9_book_26 rfl ?_
    obtain ⟨s6, hs6, h⟩ := LT_el h
    refine m_put_381 hc hM hs6 dX9_book_27 ?_
    refine LP1_el (P := fun s7 => V X 0 0 (wp G a 7 s7) [(0, .ref a), (1, .int x1)] [] 30) ?_ FU _ h
    intro rec8 hrec8 s7 h
    refine pv_aload_n 0 hc dX9_book_30 rfl rfl ?_
    refine m_get_30 hc hM (wp_at G a 7 s7) dX9_book_31 ?_
    refine pv_if_eq (tgt := 65) hc dX9_book_34 (by decide) h (fun h => ?_) (fun h => ?_)
    · refine pv_aload_n 0 hc dX9_book_65 rfl rfl ?_
      obtain ⟨s10, hf9, h⟩ := BD_el h
      refine m_call_363 hc hM (m_layAside_ok hM (wp_at G a 7 s7) hf9) (by decide) (Nat.le_of_ble_eq_true rfl) dX9_book_66 ?_
      refine pv_iconst (0 : Int32) hc dX9_book_69 rfl ?_
      refine pv_istore_n (L' := [(2, .int (0 : Int32)), (0, .ref a), (1, .int x1)]) hc dX9_book_70 rfl hN (by decide) rfl ?_
      refine pv_iconst (0 : Int32) hc dX9_book_71 rfl ?_
      refine pv_istore_n (L' := [(3, .int (0 : Int32)), (2, .int (0 : Int32)), (0, .ref a), (1, .int x1)]) hc dX9_book_72 rfl hN (by decide) rfl ?_
      refine pv_sub [2, 3, 1, 0] rfl ?_
      refine LP3_el (P := fun v11 v12 s13 => V X 0 0 (wp G a 7 s13) [(0, .ref a), (1, .int x1), (2, .int v11), (3, .int v12)] [] 73) ?_ FU _ _ _ h
      intro rec14 hrec14 v11 v12 s13 h
      refine pv_iload_n 2 hc dX9_book_73 rfl rfl ?_
      refine pv_aload_n 0 hc dX9_book_74 rfl rfl ?_
      refine m_get_381 hc hM (wp_at G a 7 s13) dX9_book_75 ?_
      obtain ⟨j16, hj16, h⟩ := JN1_el (P := fun u15 => V X 0 0 (wp G a 7 s13) [(0, .ref a), (1, .int x1), (2, .int v11), (3, .int v12)] [] 103) h (by
          intro u15 h
          refine pv_aload_n 0 hc dX9_book_103 rfl rfl ?_
          refine m_get_151 hc hM (wp_at G a 7 s13) dX9_book_104 ?_
          refine pv_iconst (0 : Int32) hc dX9_book_107 rfl ?_
          refine pv_iload_n 3 hc dX9_book_108 rfl rfl ?_
          obtain ⟨s17, hs17, h⟩ := LT_el h
          refine m_ast_37 hc hM (vp_lit (j := 0) (by decide)) hs17 dX9_book_109 ?_
          refine pv_aload_n 0 hc dX9_book_110 rfl rfl ?_
          refine m_get_151 hc hM (wp_at G a 7 s17) dX9_book_111 ?_
          refine pv_iconst (1 : Int32) hc dX9_book_114 rfl ?_
          refine pv_iload_n 2 hc dX9_book_115 rfl rfl ?_
          obtain ⟨s18, hs18, h⟩ := LT_el h
          refine m_ast_37 hc hM (vp_lit (j := 1) (by decide)) hs18 dX9_book_116 ?_
          refine pv_aload_n 0 hc dX9_book_117 rfl rfl ?_
          refine m_get_151 hc hM (wp_at G a 7 s18) dX9_book_118 ?_
          refine pv_iconst (2 : Int32) hc dX9_book_121 rfl ?_
          refine pv_aload_n 0 hc dX9_book_122 rfl rfl ?_
          refine m_get_98 hc hM (wp_at G a 7 s18) dX9_book_123 ?_
          refine pv_bipush (24 : Int32) hc dX9_book_126 rfl ?_
          refine m_ald_14 hc hM (wp_at G a 7 s18) (vp_lit (j := 24) (by decide)) dX9_book_128 ?_
          obtain ⟨s19, hs19, h⟩ := LT_el h
          refine m_ast_37 hc hM (vp_lit (j := 2) (by decide)) hs19 dX9_book_129 ?_
          refine pv_aload_n 0 hc dX9_book_130 rfl rfl ?_
          refine m_get_151 hc hM (wp_at G a 7 s19) dX9_book_131 ?_
          refine pv_iconst (3 : Int32) hc dX9_book_134 rfl ?_
          refine pv_aload_n 0 hc dX9_book_135 rfl rfl ?_
          obtain ⟨v21, hf20, h⟩ := BD_el h
          refine m_call_262 hc hM (wp_at G a 7 s19) (m_proved_ok hM (wp_at G a 7 s19) hf20) (by decide) (Nat.le_of_ble_eq_true rfl) dX9_book_136 ?_
          obtain ⟨s22, hs22, h⟩ := LT_el h
          refine m_ast_37 hc hM (vp_lit (j := 3) (by decide)) hs22 dX9_book_139 ?_
          refine pv_aload_n 0 hc dX9_book_140 rfl rfl ?_
          refine pv_iconst (1 : Int32) hc dX9_book_141 rfl ?_
          obtain ⟨s23, hs23, h⟩ := LT_el h
          refine m_put_396 hc hM (by decide) hs23 dX9_book_142 ?_
          refine pv_aload_n 0 hc dX9_book_145 rfl rfl ?_
          refine pv_iload_n 1 hc dX9_book_146 rfl rfl ?_
          refine pv_iconst (1 : Int32) hc dX9_book_147 rfl ?_
          obtain ⟨j25, hj25, h⟩ := JN1_el (P := fun v24 => V X 0 0 (wp G a 7 s23) [(2, .int v11), (3, .int v12)] [.int v24, .ref a] 160) h (by
              intro v24 h
              obtain ⟨s27, hf26, h⟩ := BD_el h
              refine m_call_399 hc hM (m_stay_ok hM (wp_at G a 7 s23) hf26) (by decide) (Nat.le_of_ble_eq_true rfl) dX9_book_160 ?_
              refine pv_iload_n 1 hc dX9_book_163 rfl rfl ?_
              refine pv_if_ne (tgt := 171) hc dX9_book_164 (by decide) h (fun h => ?_) (fun h => ?_)
              · refine pv_iload_n 0 hc dX9_book_171 rfl rfl ?_
                exact pv_iret hc hr hQ (e_i2 h) (e_w2 h) dX9_book_172
              · refine pv_iconst (-1 : Int32) hc dX9_book_167 rfl ?_
                refine pv_goto (tgt := 172) hc dX9_book_168 (by decide) ?_
                exact pv_iret hc hr hQ (e_i2 h) (e_w2 h) dX9_book_172)
          refine pv_icmp_ne (tgt := 159) hc dX9_book_148 (by decide) h (fun h => ?_) (fun h => ?_)
          · refine pv_iconst (0 : Int32) hc dX9_book_159 rfl ?_
            refine pv_sub [2, 3] rfl ?_
            exact hj25 _ h
          · refine pv_iload_n 2 hc dX9_book_151 rfl rfl ?_
            refine pv_if_le (tgt := 159) hc dX9_book_152 (by decide) h (fun h => ?_) (fun h => ?_)
            · refine pv_iconst (0 : Int32) hc dX9_book_159 rfl ?_
              refine pv_sub [2, 3] rfl ?_
              exact hj25 _ h
            · refine pv_iconst (1 : Int32) hc dX9_book_155 rfl ?_
              refine pv_goto (tgt := 160) hc dX9_book_156 (by decide) ?_
              refine pv_sub [2, 3] rfl ?_
              exact hj25 _ h)
      refine pv_icmp_ge (tgt := 103) hc dX9_book_78 (by decide) h (fun h => ?_) (fun h => ?_)
      · exact hj16 _ h
      · refine pv_iload_n 3 hc dX9_book_81 rfl rfl ?_
        refine pv_if_ne (tgt := 103) hc dX9_book_82 (by decide) h (fun h => ?_) (fun h => ?_)
        · exact hj16 _ h
        · refine pv_aload_n 0 hc dX9_book_85 rfl rfl ?_
          refine pv_iconst (4 : Int32) hc dX9_book_86 rfl ?_
          refine pv_iload_n 2 hc dX9_book_87 rfl rfl ?_
          refine pv_imul hc dX9_book_88 ?_
          obtain ⟨v29, s30, hf28, h⟩ := BD2_el h
          refine m_call_393 hc hM (m_goBy_ok hM (wp_at G a 7 s13) hf28) (by decide) (Nat.le_of_ble_eq_true rfl) dX9_book_89 ?_
          refine pv_istore_n (L' := [(3, .int v29), (0, .ref a), (1, .int x1), (2, .int v11)]) hc dX9_book_92 rfl hN (by decide) rfl ?_
          refine pv_iload_n 0 hc dX9_book_93 rfl rfl ?_
          refine pv_if_ne (tgt := 73) hc dX9_book_94 (by decide) h (fun h => ?_) (fun h => ?_)
          · refine pv_sub [1, 2, 3, 0] rfl ?_
            exact hrec14 _ _ _ h
          · refine pv_iinc (L' := [(2, .int (v11 + (1 : Int32))), (3, .int v29), (0, .ref a), (1, .int x1)]) 3 (v11 + (1 : Int32)) hc dX9_book_97 rfl rfl hN (by decide) rfl ?_
            refine pv_goto (tgt := 73) hc dX9_book_100 (by decide) ?_
            refine pv_sub [2, 3, 0, 1] rfl ?_
            exact hrec14 _ _ _ h
    · refine pv_aload_n 0 hc dX9_book_37 rfl rfl ?_
      obtain ⟨v32, s33, hf31, h⟩ := BD2_el h
      refine m_call_390 hc hM (m_readBookLine_ok hM (wp_at G a 7 s7) hf31) (by decide) (Nat.le_of_ble_eq_true rfl) dX9_book_38 ?_
      refine pv_if_ne (tgt := 52) hc dX9_book_41 (by decide) h (fun h => ?_) (fun h => ?_)
      · refine pv_aload_n 0 hc dX9_book_52 rfl rfl ?_
        refine pv_dup hc dX9_book_53 rfl ?_
        refine m_get_381 hc hM (wp_at G a 7 s33) dX9_book_54 ?_
        refine pv_iconst (1 : Int32) hc dX9_book_57 rfl ?_
        refine pv_iadd hc dX9_book_58 ?_
        obtain ⟨s34, hs34, h⟩ := LT_el h
        refine m_put_381 hc hM hs34 dX9_book_59 ?_
        refine pv_goto (tgt := 30) hc dX9_book_62 (by decide) ?_
        exact hrec8 _ h
      · refine pv_bipush (-2 : Int32) hc dX9_book_44 rfl ?_
        refine pv_aload_n 0 hc dX9_book_46 rfl rfl ?_
        refine m_get_69 hc hM (wp_at G a 7 s33) dX9_book_47 ?_
        refine pv_isub hc dX9_book_50 ?_
        exact pv_iret hc hr hQ (e_i2 h) (e_w2 h) dX9_book_51
  · refine pv_sipush (-1000 : Int32) hc dX9_book_14 rfl ?_
    exact pv_iret hc hr hQ (e_i2 h) (e_w2 h) dX9_book_17
def m_told (s : Rec) (x1 : Int32) : Option (Int32 × Rec) := LT (sI s 0 (0 : Int32)) (fun s1 => (if (gI s1 39) = 0 then some ((-1 : Int32), s1) else BD (m_isIn x1 (0 : Int32) (3 : Int32)) (fun v3 => (if v3 = 0 then some ((-1 : Int32), s1) else IX x1 4 (fun i4 => some ((gA s1 37 i4), s1))))))
set_option maxHeartbeats 4000000 in
theorem m_told_ok {l : Launch} {g : Gh} {G : Wd} (hM : MOK g) {a : Nat} {s : Rec} (hG : G.2 a = some (7, s)) {x1 : Int32} {r : Int32} {s' : Rec} (hf : m_told s x1 = some (r, s')) : MT l g yX9_told cX9_told 2 (some .int) 2 G [.ref a, .int x1] (some (.int r)) (wp G a 7 s') := by
  refine pv_start (by decide) (Nat.le_of_ble_eq_true rfl) ?_
  intro X hl hg hN hc hr _ _ _ hQ
  subst hl; subst hg
  refine pv_G (wp_id hG) ?_
  have h := hf
  unfold m_told at h
  show V X 0 0 _ [(0, .ref a), (1, .int x1)] [] 0
  refine pv_aload_n 0 hc dX9_told_0 rfl rfl ?_
  refine pv_iconst (0 : Int32) hc dX9_told_1 rfl ?_
  obtain ⟨s1, hs1, h⟩ := LT_el h
  refine m_put_1 hc hM hs1 dX9_told_2 ?_
  refine pv_aload_n 0 hc dX9_told_5 rfl rfl ?_
  refine m_get_396 hc hM (wp_at G a 7 s1) dX9_told_6 ?_
  refine pv_if_eq (tgt := 30) hc dX9_told_9 (by decide) h (fun h => ?_) (fun h => ?_)
  · refine pv_iconst (-1 : Int32) hc dX9_told_30 rfl ?_
    exact pv_iret hc hr hQ (e_i2 h) (e_w2 h) dX9_told_31
  · refine pv_iload_n 1 hc dX9_told_12 rfl rfl ?_
    refine pv_iconst (0 : Int32) hc dX9_told_13 rfl ?_
    refine pv_iconst (3 : Int32) hc dX9_told_14 rfl ?_
    obtain ⟨v3, hf2, h⟩ := BD_el h
    refine m_call_75 hc (m_isIn_ok hf2) (by decide) (Nat.le_of_ble_eq_true rfl) dX9_told_15 ?_
    refine pv_if_eq (tgt := 30) hc dX9_told_18 (by decide) h (fun h => ?_) (fun h => ?_)
    · refine pv_iconst (-1 : Int32) hc dX9_told_30 rfl ?_
      exact pv_iret hc hr hQ (e_i2 h) (e_w2 h) dX9_told_31
    · refine pv_aload_n 0 hc dX9_told_21 rfl rfl ?_
      refine m_get_151 hc hM (wp_at G a 7 s1) dX9_told_22 ?_
      refine pv_iload_n 1 hc dX9_told_25 rfl rfl ?_
      obtain ⟨i4, hi4, h⟩ := IX_el h
      refine m_ald_37 hc hM (wp_at G a 7 s1) hi4 dX9_told_26 ?_
      refine pv_goto (tgt := 31) hc dX9_told_27 (by decide) ?_
      exact pv_iret hc hr hQ (e_i2 h) (e_w2 h) dX9_told_31
def m_saysOne (s : Rec) (x1 : Int32) (x2 : Int32) (x3 : Int32) (x4 : Int32) : Option (Int32 × Rec) := IX ((4 : Int32) * (gI s 41)) 240 (fun i1 => LT (sA s 40 i1 x1) (fun s2 => IX (((4 : Int32) * (gI s 41)) + (1 : Int32)) 240 (fun i3 => LT (sA s2 40 i3 x2) (fun s4 => IX (((4 : Int32) * (gI s 41)) + (2 : Int32)) 240 (fun i5 => LT (sA s4 40 i5 x3) (fun s6 => IX (((4 : Int32) * (gI s 41)) + (3 : Int32)) 240 (fun i7 => LT (sA s6 40 i7 x4) (fun s8 => LT (sI s8 41 ((gI s8 41) + (1 : Int32))) (fun s9 => some (((gI s9 41) - (1 : Int32)), s9))))))))))
set_option maxHeartbeats 4000000 in
theorem m_saysOne_ok {l : Launch} {g : Gh} {G : Wd} (hM : MOK g) {a : Nat} {s : Rec} (hG : G.2 a = some (7, s)) {x1 : Int32} {x2 : Int32} {x3 : Int32} {x4 : Int32} {r : Int32} {s' : Rec} (hf : m_saysOne s x1 x2 x3 x4 = some (r, s')) : MT l g yX9_saysOne cX9_saysOne 6 (some .int) 1 G [.ref a, .int x1, .int x2, .int x3, .int x4] (some (.int r)) (wp G a 7 s') := by
  refine pv_start (by decide) (Nat.le_of_ble_eq_true rfl) ?_
  intro X hl hg hN hc hr _ _ _ hQ
  subst hl; subst hg
  refine pv_G (wp_id hG) ?_
  have h := hf
  unfold m_saysOne at h
  show V X 0 0 _ [(0, .ref a), (1, .int x1), (2, .int x2), (3, .int x3), (4, .int x4)] [] 0
  refine pv_iconst (4 : Int32) hc dX9_saysOne_0 rfl ?_
  refine pv_aload_n 0 hc dX9_saysOne_1 rfl rfl ?_
  refine m_get_403 hc hM (wp_at G a 7 s) dX9_saysOne_2 ?_
  refine pv_imul hc dX9_saysOne_5 ?_
  refine pv_istore (L' := [(5, .int ((4 : Int32) * (gI s 41))), (0, .ref a), (1, .int x1), (2, .int x2), (3, .int x3), (4, .int x4)]) hc dX9_saysOne_6 hN (by decide) rfl ?_
  refine pv_aload_n 1 hc dX9_saysOne_8 rfl rfl ?_
  refine m_get_154 hc hM (wp_at G a 7 s) dX9_saysOne_9 ?_
  refine pv_iload 0 hc dX9_saysOne_12 rfl ?_
  refine pv_iload_n 2 hc dX9_saysOne_14 rfl rfl ?_
  obtain ⟨i1, hi1, h⟩ := IX_el h
  obtain ⟨s2, hs2, h⟩ := LT_el h
  refine m_ast_40 hc hM hi1 hs2 dX9_saysOne_15 ?_
  refine pv_aload_n 1 hc dX9_saysOne_16 rfl rfl ?_
  refine m_get_154 hc hM (wp_at G a 7 s2) dX9_saysOne_17 ?_
  refine pv_iload 0 hc dX9_saysOne_20 rfl ?_
  refine pv_iconst (1 : Int32) hc dX9_saysOne_22 rfl ?_
  refine pv_iadd hc dX9_saysOne_23 ?_
  refine pv_iload_n 3 hc dX9_saysOne_24 rfl rfl ?_
  obtain ⟨i3, hi3, h⟩ := IX_el h
  obtain ⟨s4, hs4, h⟩ := LT_el h
  refine m_ast_40 hc hM hi3 hs4 dX9_saysOne_25 ?_
  refine pv_aload_n 1 hc dX9_saysOne_26 rfl rfl ?_
  refine m_get_154 hc hM (wp_at G a 7 s4) dX9_saysOne_27 ?_
  refine pv_iload 0 hc dX9_saysOne_30 rfl ?_
  refine pv_iconst (2 : Int32) hc dX9_saysOne_32 rfl ?_
  refine pv_iadd hc dX9_saysOne_33 ?_
  refine pv_iload_n 4 hc dX9_saysOne_34 rfl rfl ?_
  obtain ⟨i5, hi5, h⟩ := IX_el h
  obtain ⟨s6, hs6, h⟩ := LT_el h
  refine m_ast_40 hc hM hi5 hs6 dX9_saysOne_35 ?_
  refine pv_aload_n 1 hc dX9_saysOne_36 rfl rfl ?_
  refine m_get_154 hc hM (wp_at G a 7 s6) dX9_saysOne_37 ?_
  refine pv_iload 0 hc dX9_saysOne_40 rfl ?_
  refine pv_iconst (3 : Int32) hc dX9_saysOne_42 rfl ?_
  refine pv_iadd hc dX9_saysOne_43 ?_
  refine pv_iload 5 hc dX9_saysOne_44 rfl ?_
  obtain ⟨i7, hi7, h⟩ := IX_el h
  obtain ⟨s8, hs8, h⟩ := LT_el h
  refine m_ast_40 hc hM hi7 hs8 dX9_saysOne_46 ?_
  refine pv_aload_n 1 hc dX9_saysOne_47 rfl rfl ?_
  refine pv_dup hc dX9_saysOne_48 rfl ?_
  refine m_get_403 hc hM (wp_at G a 7 s8) dX9_saysOne_49 ?_
  refine pv_iconst (1 : Int32) hc dX9_saysOne_52 rfl ?_
  refine pv_iadd hc dX9_saysOne_53 ?_
  obtain ⟨s9, hs9, h⟩ := LT_el h
  refine m_put_403 hc hM hs9 dX9_saysOne_54 ?_
  refine pv_aload_n 1 hc dX9_saysOne_57 rfl rfl ?_
  refine m_get_403 hc hM (wp_at G a 7 s9) dX9_saysOne_58 ?_
  refine pv_iconst (1 : Int32) hc dX9_saysOne_61 rfl ?_
  refine pv_isub hc dX9_saysOne_62 ?_
  exact pv_iret hc hr hQ (e_i2 h) (e_w2 h) dX9_saysOne_63
def m_readCompare (s : Rec) (x1 : Int32) : Option (Int32 × Rec) := BD (m_isSign s (60 : Int32)) (fun v2 => JN1 (fun (u3 : Unit) => BD (m_go s) (fun s6 => BD2 (m_readNumber s6 (0 : Int32) (999 : Int32)) (fun v8 s9 => (if v8 = 0 then some ((0 : Int32), s9) else BD2 (m_saysOne s9 ((50 : Int32) + x1) (0 : Int32) (gI s9 13) (gI s 9)) (fun v11 s12 => LT (sI s12 44 v11) (fun s13 => some ((1 : Int32), s13))))))) (fun (j4 : Unit → Option (Int32 × Rec)) => (if v2 = 0 then BD (m_isSign s (61 : Int32)) (fun v15 => (if v15 = 0 then BD (m_isSign s (62 : Int32)) (fun v17 => (if v17 = 0 then BD2 (m_bad s (1 : Int32)) (fun v19 s20 => BZ v19 (some (v19, s20))) else j4 ())) else j4 ())) else j4 ())))
set_option maxHeartbeats 4000000 in
theorem m_readCompare_ok {l : Launch} {g : Gh} {G : Wd} (hM : MOK g) {a : Nat} {s : Rec} (hG : G.2 a = some (7, s)) {x1 : Int32} {r : Int32} {s' : Rec} (hf : m_readCompare s x1 = some (r, s')) : MT l g yX9_readCompare cX9_readCompare 3 (some .boolean) 4 G [.ref a, .int x1] (some (.int r)) (wp G a 7 s') := by
  refine pv_start (by decide) (Nat.le_of_ble_eq_true rfl) ?_
  intro X hl hg hN hc hr _ _ _ hQ
  subst hl; subst hg
  refine pv_G (wp_id hG) ?_
  have h := hf
  unfold m_readCompare at h
  show V X 0 0 _ [(0, .ref a), (1, .int x1)] [] 0
  refine pv_aload_n 0 hc dX9_readCompare_0 rfl rfl ?_
  refine pv_bipush (60 : Int32) hc dX9_readCompare_1 rfl ?_
  obtain ⟨v2, hf1, h⟩ := BD_el h
  refine m_call_86 hc hM (wp_at G a 7 s) (m_isSign_ok hM (wp_at G a 7 s) hf1) (by decide) (Nat.le_of_ble_eq_true rfl) dX9_readCompare_3 ?_
  obtain ⟨j4, hj4, h⟩ := JN1_el (P := fun u3 => V X 0 0 (wp G a 7 s) [(0, .ref a), (1, .int x1)] [] 33) h (by
      intro u3 h
      refine pv_aload_n 0 hc dX9_readCompare_33 rfl rfl ?_
      refine m_get_40 hc hM (wp_at G a 7 s) dX9_readCompare_34 ?_
      refine pv_istore_n (L' := [(2, .int (gI s 9)), (0, .ref a), (1, .int x1)]) hc dX9_readCompare_37 rfl hN (by decide) rfl ?_
      refine pv_aload_n 1 hc dX9_readCompare_38 rfl rfl ?_
      obtain ⟨s6, hf5, h⟩ := BD_el h
      refine m_call_82 hc hM (m_go_ok hM (wp_at G a 7 s) hf5) (by decide) (Nat.le_of_ble_eq_true rfl) dX9_readCompare_39 ?_
      refine pv_aload_n 1 hc dX9_readCompare_42 rfl rfl ?_
      refine pv_iconst (0 : Int32) hc dX9_readCompare_43 rfl ?_
      refine pv_sipush (999 : Int32) hc dX9_readCompare_44 rfl ?_
      obtain ⟨v8, s9, hf7, h⟩ := BD2_el h
      refine m_call_188 hc hM (m_readNumber_ok hM (wp_at G a 7 s6) hf7) (by decide) (Nat.le_of_ble_eq_true rfl) dX9_readCompare_47 ?_
      refine pv_if_ne (tgt := 55) hc dX9_readCompare_50 (by decide) h (fun h => ?_) (fun h => ?_)
      · refine pv_aload_n 1 hc dX9_readCompare_55 rfl rfl ?_
        refine pv_aload_n 1 hc dX9_readCompare_56 rfl rfl ?_
        refine pv_bipush (50 : Int32) hc dX9_readCompare_57 rfl ?_
        refine pv_iload_n 2 hc dX9_readCompare_59 rfl rfl ?_
        refine pv_iadd hc dX9_readCompare_60 ?_
        refine pv_iconst (0 : Int32) hc dX9_readCompare_61 rfl ?_
        refine pv_aload_n 1 hc dX9_readCompare_62 rfl rfl ?_
        refine m_get_79 hc hM (wp_at G a 7 s9) dX9_readCompare_63 ?_
        refine pv_iload_n 0 hc dX9_readCompare_66 rfl rfl ?_
        obtain ⟨v11, s12, hf10, h⟩ := BD2_el h
        refine m_call_412 hc hM (m_saysOne_ok hM (wp_at G a 7 s9) hf10) (by decide) (Nat.le_of_ble_eq_true rfl) dX9_readCompare_67 ?_
        obtain ⟨s13, hs13, h⟩ := LT_el h
        refine m_put_409 hc hM hs13 dX9_readCompare_70 ?_
        refine pv_iconst (1 : Int32) hc dX9_readCompare_73 rfl ?_
        exact pv_zret hc hr hQ (by decide) (e_i2 h) (e_w2 h) dX9_readCompare_74
      · refine pv_iconst (0 : Int32) hc dX9_readCompare_53 rfl ?_
        exact pv_zret hc hr hQ (by decide) (e_i2 h) (e_w2 h) dX9_readCompare_54)
  refine pv_if_ne (tgt := 33) hc dX9_readCompare_6 (by decide) h (fun h => ?_) (fun h => ?_)
  · exact hj4 _ h
  · refine pv_aload_n 0 hc dX9_readCompare_9 rfl rfl ?_
    refine pv_bipush (61 : Int32) hc dX9_readCompare_10 rfl ?_
    obtain ⟨v15, hf14, h⟩ := BD_el h
    refine m_call_86 hc hM (wp_at G a 7 s) (m_isSign_ok hM (wp_at G a 7 s) hf14) (by decide) (Nat.le_of_ble_eq_true rfl) dX9_readCompare_12 ?_
    refine pv_if_ne (tgt := 33) hc dX9_readCompare_15 (by decide) h (fun h => ?_) (fun h => ?_)
    · exact hj4 _ h
    · refine pv_aload_n 0 hc dX9_readCompare_18 rfl rfl ?_
      refine pv_bipush (62 : Int32) hc dX9_readCompare_19 rfl ?_
      obtain ⟨v17, hf16, h⟩ := BD_el h
      refine m_call_86 hc hM (wp_at G a 7 s) (m_isSign_ok hM (wp_at G a 7 s) hf16) (by decide) (Nat.le_of_ble_eq_true rfl) dX9_readCompare_21 ?_
      refine pv_if_ne (tgt := 33) hc dX9_readCompare_24 (by decide) h (fun h => ?_) (fun h => ?_)
      · exact hj4 _ h
      · refine pv_aload_n 0 hc dX9_readCompare_27 rfl rfl ?_
        refine pv_iconst (1 : Int32) hc dX9_readCompare_28 rfl ?_
        obtain ⟨v19, s20, hf18, h⟩ := BD2_el h
        refine m_call_72 hc hM (m_bad_ok hM (wp_at G a 7 s) hf18) (by decide) (Nat.le_of_ble_eq_true rfl) dX9_readCompare_29 ?_
        obtain ⟨hb21, h⟩ := BZ_el h
        exact pv_zret hc hr hQ hb21 (e_i2 h) (e_w2 h) dX9_readCompare_32
def m_readOf (s : Rec) (x1 : Int32) : Option (Int32 × Rec) := JN1 (fun (v1 : Int32) => JN1 (fun (v3 : Int32) => IX v3 406 (fun i5 => BD2 (m_readNamed s v1 (gA s 14 i5)) (fun v7 s8 => (if v7 = 0 then some ((0 : Int32), s8) else BD2 (m_saysOne s8 ((50 : Int32) + x1) (gI s8 13) (0 : Int32) (0 : Int32)) (fun v10 s11 => LT (sI s11 44 v10) (fun s12 => some ((1 : Int32), s12))))))) (fun (j4 : Int32 → Option (Int32 × Rec)) => (if x1 = (18 : Int32) then j4 (2 : Int32) else j4 (0 : Int32)))) (fun (j2 : Int32 → Option (Int32 × Rec)) => (if x1 = (18 : Int32) then j2 (11 : Int32) else j2 (0 : Int32)))
set_option maxHeartbeats 4000000 in
theorem m_readOf_ok {l : Launch} {g : Gh} {G : Wd} (hM : MOK g) {a : Nat} {s : Rec} (hG : G.2 a = some (7, s)) {x1 : Int32} {r : Int32} {s' : Rec} (hf : m_readOf s x1 = some (r, s')) : MT l g yX9_readOf cX9_readOf 2 (some .boolean) 5 G [.ref a, .int x1] (some (.int r)) (wp G a 7 s') := by
  refine pv_start (by decide) (Nat.le_of_ble_eq_true rfl) ?_
  intro X hl hg hN hc hr _ _ _ hQ
  subst hl; subst hg
  refine pv_G (wp_id hG) ?_
  have h := hf
  unfold m_readOf at h
  show V X 0 0 _ [(0, .ref a), (1, .int x1)] [] 0
  refine pv_aload_n 0 hc dX9_readOf_0 rfl rfl ?_
  refine pv_iload_n 1 hc dX9_readOf_1 rfl rfl ?_
  refine pv_bipush (18 : Int32) hc dX9_readOf_2 rfl ?_
  obtain ⟨j2, hj2, h⟩ := JN1_el (P := fun v1 => V X 0 0 (wp G a 7 s) [(0, .ref a), (1, .int x1)] [.int v1, .ref a] 13) h (by
      intro v1 h
      refine pv_aload_n 0 hc dX9_readOf_13 rfl rfl ?_
      refine m_get_98 hc hM (wp_at G a 7 s) dX9_readOf_14 ?_
      refine pv_iload_n 1 hc dX9_readOf_17 rfl rfl ?_
      refine pv_bipush (18 : Int32) hc dX9_readOf_18 rfl ?_
      obtain ⟨j4, hj4, h⟩ := JN1_el (P := fun v3 => V X 0 0 (wp G a 7 s) [(0, .ref a), (1, .int x1)] [.int v3, .ref (a + 2), .int v1, .ref a] 28) h (by
          intro v3 h
          obtain ⟨i5, hi5, h⟩ := IX_el h
          refine m_ald_14 hc hM (wp_at G a 7 s) hi5 dX9_readOf_28 ?_
          obtain ⟨v7, s8, hf6, h⟩ := BD2_el h
          refine m_call_372 hc hM (m_readNamed_ok hM (wp_at G a 7 s) hf6) (by decide) (Nat.le_of_ble_eq_true rfl) dX9_readOf_29 ?_
          refine pv_if_ne (tgt := 37) hc dX9_readOf_32 (by decide) h (fun h => ?_) (fun h => ?_)
          · refine pv_aload_n 0 hc dX9_readOf_37 rfl rfl ?_
            refine pv_aload_n 0 hc dX9_readOf_38 rfl rfl ?_
            refine pv_bipush (50 : Int32) hc dX9_readOf_39 rfl ?_
            refine pv_iload_n 1 hc dX9_readOf_41 rfl rfl ?_
            refine pv_iadd hc dX9_readOf_42 ?_
            refine pv_aload_n 0 hc dX9_readOf_43 rfl rfl ?_
            refine m_get_79 hc hM (wp_at G a 7 s8) dX9_readOf_44 ?_
            refine pv_iconst (0 : Int32) hc dX9_readOf_47 rfl ?_
            refine pv_iconst (0 : Int32) hc dX9_readOf_48 rfl ?_
            obtain ⟨v10, s11, hf9, h⟩ := BD2_el h
            refine m_call_412 hc hM (m_saysOne_ok hM (wp_at G a 7 s8) hf9) (by decide) (Nat.le_of_ble_eq_true rfl) dX9_readOf_49 ?_
            obtain ⟨s12, hs12, h⟩ := LT_el h
            refine m_put_409 hc hM hs12 dX9_readOf_52 ?_
            refine pv_iconst (1 : Int32) hc dX9_readOf_55 rfl ?_
            exact pv_zret hc hr hQ (by decide) (e_i2 h) (e_w2 h) dX9_readOf_56
          · refine pv_iconst (0 : Int32) hc dX9_readOf_35 rfl ?_
            exact pv_zret hc hr hQ (by decide) (e_i2 h) (e_w2 h) dX9_readOf_36)
      refine pv_icmp_ne (tgt := 27) hc dX9_readOf_20 (by decide) h (fun h => ?_) (fun h => ?_)
      · refine pv_iconst (0 : Int32) hc dX9_readOf_27 rfl ?_
        exact hj4 _ h
      · refine pv_iconst (2 : Int32) hc dX9_readOf_23 rfl ?_
        refine pv_goto (tgt := 28) hc dX9_readOf_24 (by decide) ?_
        exact hj4 _ h)
  refine pv_icmp_ne (tgt := 12) hc dX9_readOf_4 (by decide) h (fun h => ?_) (fun h => ?_)
  · refine pv_iconst (0 : Int32) hc dX9_readOf_12 rfl ?_
    exact hj2 _ h
  · refine pv_bipush (11 : Int32) hc dX9_readOf_7 rfl ?_
    refine pv_goto (tgt := 13) hc dX9_readOf_9 (by decide) ?_
    exact hj2 _ h
def b_readAnd (rc : Nat → Rec → Option (Int32 × Rec)) (s : Rec)  : Option (Int32 × Rec) := BD2 (rc 4 s) (fun v2 s3 => (if v2 = 0 then some ((0 : Int32), s3) else LP2 (fun (rec6 : Int32 → Rec → Option (Int32 × Rec)) (v4 : Int32) (s5 : Rec) => BD (m_isWord s5 (12 : Int32)) (fun v8 => (if v8 = 0 then LT (sI s5 44 v4) (fun s9 => some ((1 : Int32), s9)) else BD (m_go s5) (fun s11 => BD2 (rc 4 s11) (fun v13 s14 => (if v13 = 0 then some ((0 : Int32), s14) else BD2 (m_saysOne s14 (2 : Int32) v4 (gI s14 44) (0 : Int32)) (fun v16 s17 => rec6 v16 s17))))))) FU (gI s3 44) s3))
set_option maxHeartbeats 4000000 in
theorem b_readAnd_ok {l : Launch} {g : Gh} {G : Wd} {N : Nat} {rc : Nat → Rec → Option (Int32 × Rec)} (hM : MOK g) (hrc_readSaid : ∀ {G : Wd} {a : Nat} {s : Rec}, G.2 a = some (7, s) → ∀  {r : Int32} {s' : Rec}, rc 4 s  = some (r, s') → MT l g yX9_readSaid cX9_readSaid 4 (some .boolean) (6 + N) G [.ref a] (some (.int r)) (wp G a 7 s')) {a : Nat} {s : Rec} (hG : G.2 a = some (7, s))  {r : Int32} {s' : Rec} (hf : b_readAnd rc s  = some (r, s')) : MT l g yX9_readAnd cX9_readAnd 2 (some .boolean) (6 + N + 1) G [.ref a] (some (.int r)) (wp G a 7 s') := by
  refine pv_start (by decide) (Nat.le_of_ble_eq_true rfl) ?_
  intro X hl hg hN hc hr _ _ _ hQ
  subst hl; subst hg
  refine pv_G (wp_id hG) ?_
  have h := hf
  unfold b_readAnd at h
  show V X 0 0 _ [(0, .ref a)] [] 0
  refine pv_aload_n 0 hc dX9_readAnd_0 rfl rfl ?_
  obtain ⟨v2, s3, hf1, h⟩ := BD2_el h
  refine m_call_416 hc hM (hrc_readSaid (wp_at G a 7 s) hf1) (by omega) (Nat.le_of_ble_eq_true rfl) dX9_readAnd_1 ?_
  refine pv_if_ne (tgt := 9) hc dX9_readAnd_4 (by decide) h (fun h => ?_) (fun h => ?_)
  · refine pv_aload_n 0 hc dX9_readAnd_9 rfl rfl ?_
    refine m_get_409 hc hM (wp_at G a 7 s3) dX9_readAnd_10 ?_
    refine pv_istore_n (L' := [(1, .int (gI s3 44)), (0, .ref a)]) hc dX9_readAnd_13 rfl hN (by decide) rfl ?_
    refine pv_sub [1, 0] rfl ?_
    refine LP2_el (P := fun v4 s5 => V X 0 0 (wp G a 7 s5) [(0, .ref a), (1, .int v4)] [] 14) ?_ FU _ _ h
    intro rec6 hrec6 v4 s5 h
    refine pv_aload_n 0 hc dX9_readAnd_14 rfl rfl ?_
    refine pv_bipush (12 : Int32) hc dX9_readAnd_15 rfl ?_
    obtain ⟨v8, hf7, h⟩ := BD_el h
    refine m_call_191 hc hM (wp_at G a 7 s5) (m_isWord_ok hM (wp_at G a 7 s5) hf7) (by omega) (Nat.le_of_ble_eq_true rfl) dX9_readAnd_17 ?_
    refine pv_if_eq (tgt := 51) hc dX9_readAnd_20 (by decide) h (fun h => ?_) (fun h => ?_)
    · refine pv_aload_n 0 hc dX9_readAnd_51 rfl rfl ?_
      refine pv_iload_n 1 hc dX9_readAnd_52 rfl rfl ?_
      obtain ⟨s9, hs9, h⟩ := LT_el h
      refine m_put_409 hc hM hs9 dX9_readAnd_53 ?_
      refine pv_iconst (1 : Int32) hc dX9_readAnd_56 rfl ?_
      exact pv_zret hc hr hQ (by decide) (e_i2 h) (e_w2 h) dX9_readAnd_57
    · refine pv_aload_n 0 hc dX9_readAnd_23 rfl rfl ?_
      obtain ⟨s11, hf10, h⟩ := BD_el h
      refine m_call_82 hc hM (m_go_ok hM (wp_at G a 7 s5) hf10) (by omega) (Nat.le_of_ble_eq_true rfl) dX9_readAnd_24 ?_
      refine pv_aload_n 0 hc dX9_readAnd_27 rfl rfl ?_
      obtain ⟨v13, s14, hf12, h⟩ := BD2_el h
      refine m_call_416 hc hM (hrc_readSaid (wp_at G a 7 s11) hf12) (by omega) (Nat.le_of_ble_eq_true rfl) dX9_readAnd_28 ?_
      refine pv_if_ne (tgt := 36) hc dX9_readAnd_31 (by decide) h (fun h => ?_) (fun h => ?_)
      · refine pv_aload_n 0 hc dX9_readAnd_36 rfl rfl ?_
        refine pv_iconst (2 : Int32) hc dX9_readAnd_37 rfl ?_
        refine pv_iload_n 1 hc dX9_readAnd_38 rfl rfl ?_
        refine pv_aload_n 0 hc dX9_readAnd_39 rfl rfl ?_
        refine m_get_409 hc hM (wp_at G a 7 s14) dX9_readAnd_40 ?_
        refine pv_iconst (0 : Int32) hc dX9_readAnd_43 rfl ?_
        obtain ⟨v16, s17, hf15, h⟩ := BD2_el h
        refine m_call_412 hc hM (m_saysOne_ok hM (wp_at G a 7 s14) hf15) (by omega) (Nat.le_of_ble_eq_true rfl) dX9_readAnd_44 ?_
        refine pv_istore_n (L' := [(1, .int v16), (0, .ref a)]) hc dX9_readAnd_47 rfl hN (by decide) rfl ?_
        refine pv_goto (tgt := 14) hc dX9_readAnd_48 (by decide) ?_
        refine pv_sub [1, 0] rfl ?_
        exact hrec6 _ _ h
      · refine pv_iconst (0 : Int32) hc dX9_readAnd_34 rfl ?_
        exact pv_zret hc hr hQ (by decide) (e_i2 h) (e_w2 h) dX9_readAnd_35
  · refine pv_iconst (0 : Int32) hc dX9_readAnd_7 rfl ?_
    exact pv_zret hc hr hQ (by decide) (e_i2 h) (e_w2 h) dX9_readAnd_8
def b_readBracket (rc : Nat → Rec → Option (Int32 × Rec)) (s : Rec)  : Option (Int32 × Rec) := BD2 (rc 3 s) (fun v2 s3 => (if v2 = 0 then some ((0 : Int32), s3) else BD (m_isSign s3 (41 : Int32)) (fun v5 => (if v5 = 0 then BD2 (m_bad s3 (1 : Int32)) (fun v9 s10 => BZ v9 (some (v9, s10))) else BD (m_go s3) (fun s7 => some ((1 : Int32), s7))))))
set_option maxHeartbeats 4000000 in
theorem b_readBracket_ok {l : Launch} {g : Gh} {G : Wd} {N : Nat} {rc : Nat → Rec → Option (Int32 × Rec)} (hM : MOK g) (hrc_readOr : ∀ {G : Wd} {a : Nat} {s : Rec}, G.2 a = some (7, s) → ∀  {r : Int32} {s' : Rec}, rc 3 s  = some (r, s') → MT l g yX9_readOr cX9_readOr 2 (some .boolean) (6 + N) G [.ref a] (some (.int r)) (wp G a 7 s')) {a : Nat} {s : Rec} (hG : G.2 a = some (7, s))  {r : Int32} {s' : Rec} (hf : b_readBracket rc s  = some (r, s')) : MT l g yX9_readBracket cX9_readBracket 1 (some .boolean) (6 + N + 1) G [.ref a] (some (.int r)) (wp G a 7 s') := by
  refine pv_start (by decide) (Nat.le_of_ble_eq_true rfl) ?_
  intro X hl hg hN hc hr _ _ _ hQ
  subst hl; subst hg
  refine pv_G (wp_id hG) ?_
  have h := hf
  unfold b_readBracket at h
  show V X 0 0 _ [(0, .ref a)] [] 0
  refine pv_aload_n 0 hc dX9_readBracket_0 rfl rfl ?_
  obtain ⟨v2, s3, hf1, h⟩ := BD2_el h
  refine m_call_437 hc hM (hrc_readOr (wp_at G a 7 s) hf1) (by omega) (Nat.le_of_ble_eq_true rfl) dX9_readBracket_1 ?_
  refine pv_if_ne (tgt := 9) hc dX9_readBracket_4 (by decide) h (fun h => ?_) (fun h => ?_)
  · refine pv_aload_n 0 hc dX9_readBracket_9 rfl rfl ?_
    refine pv_bipush (41 : Int32) hc dX9_readBracket_10 rfl ?_
    obtain ⟨v5, hf4, h⟩ := BD_el h
    refine m_call_86 hc hM (wp_at G a 7 s3) (m_isSign_ok hM (wp_at G a 7 s3) hf4) (by omega) (Nat.le_of_ble_eq_true rfl) dX9_readBracket_12 ?_
    refine pv_if_ne (tgt := 24) hc dX9_readBracket_15 (by decide) h (fun h => ?_) (fun h => ?_)
    · refine pv_aload_n 0 hc dX9_readBracket_24 rfl rfl ?_
      obtain ⟨s7, hf6, h⟩ := BD_el h
      refine m_call_82 hc hM (m_go_ok hM (wp_at G a 7 s3) hf6) (by omega) (Nat.le_of_ble_eq_true rfl) dX9_readBracket_25 ?_
      refine pv_iconst (1 : Int32) hc dX9_readBracket_28 rfl ?_
      exact pv_zret hc hr hQ (by decide) (e_i2 h) (e_w2 h) dX9_readBracket_29
    · refine pv_aload_n 0 hc dX9_readBracket_18 rfl rfl ?_
      refine pv_iconst (1 : Int32) hc dX9_readBracket_19 rfl ?_
      obtain ⟨v9, s10, hf8, h⟩ := BD2_el h
      refine m_call_72 hc hM (m_bad_ok hM (wp_at G a 7 s3) hf8) (by omega) (Nat.le_of_ble_eq_true rfl) dX9_readBracket_20 ?_
      obtain ⟨hb11, h⟩ := BZ_el h
      exact pv_zret hc hr hQ hb11 (e_i2 h) (e_w2 h) dX9_readBracket_23
  · refine pv_iconst (0 : Int32) hc dX9_readBracket_7 rfl ?_
    exact pv_zret hc hr hQ (by decide) (e_i2 h) (e_w2 h) dX9_readBracket_8
def b_readNot (rc : Nat → Rec → Option (Int32 × Rec)) (s : Rec)  : Option (Int32 × Rec) := BD2 (rc 4 s) (fun v2 s3 => (if v2 = 0 then some ((0 : Int32), s3) else BD2 (m_saysOne s3 (1 : Int32) (gI s3 44) (0 : Int32) (0 : Int32)) (fun v5 s6 => LT (sI s6 44 v5) (fun s7 => some ((1 : Int32), s7)))))
set_option maxHeartbeats 4000000 in
theorem b_readNot_ok {l : Launch} {g : Gh} {G : Wd} {N : Nat} {rc : Nat → Rec → Option (Int32 × Rec)} (hM : MOK g) (hrc_readSaid : ∀ {G : Wd} {a : Nat} {s : Rec}, G.2 a = some (7, s) → ∀  {r : Int32} {s' : Rec}, rc 4 s  = some (r, s') → MT l g yX9_readSaid cX9_readSaid 4 (some .boolean) (6 + N) G [.ref a] (some (.int r)) (wp G a 7 s')) {a : Nat} {s : Rec} (hG : G.2 a = some (7, s))  {r : Int32} {s' : Rec} (hf : b_readNot rc s  = some (r, s')) : MT l g yX9_readNot cX9_readNot 1 (some .boolean) (6 + N + 1) G [.ref a] (some (.int r)) (wp G a 7 s') := by
  refine pv_start (by decide) (Nat.le_of_ble_eq_true rfl) ?_
  intro X hl hg hN hc hr _ _ _ hQ
  subst hl; subst hg
  refine pv_G (wp_id hG) ?_
  have h := hf
  unfold b_readNot at h
  show V X 0 0 _ [(0, .ref a)] [] 0
  refine pv_aload_n 0 hc dX9_readNot_0 rfl rfl ?_
  obtain ⟨v2, s3, hf1, h⟩ := BD2_el h
  refine m_call_416 hc hM (hrc_readSaid (wp_at G a 7 s) hf1) (by omega) (Nat.le_of_ble_eq_true rfl) dX9_readNot_1 ?_
  refine pv_if_ne (tgt := 9) hc dX9_readNot_4 (by decide) h (fun h => ?_) (fun h => ?_)
  · refine pv_aload_n 0 hc dX9_readNot_9 rfl rfl ?_
    refine pv_aload_n 0 hc dX9_readNot_10 rfl rfl ?_
    refine pv_iconst (1 : Int32) hc dX9_readNot_11 rfl ?_
    refine pv_aload_n 0 hc dX9_readNot_12 rfl rfl ?_
    refine m_get_409 hc hM (wp_at G a 7 s3) dX9_readNot_13 ?_
    refine pv_iconst (0 : Int32) hc dX9_readNot_16 rfl ?_
    refine pv_iconst (0 : Int32) hc dX9_readNot_17 rfl ?_
    obtain ⟨v5, s6, hf4, h⟩ := BD2_el h
    refine m_call_412 hc hM (m_saysOne_ok hM (wp_at G a 7 s3) hf4) (by omega) (Nat.le_of_ble_eq_true rfl) dX9_readNot_18 ?_
    obtain ⟨s7, hs7, h⟩ := LT_el h
    refine m_put_409 hc hM hs7 dX9_readNot_21 ?_
    refine pv_iconst (1 : Int32) hc dX9_readNot_24 rfl ?_
    exact pv_zret hc hr hQ (by decide) (e_i2 h) (e_w2 h) dX9_readNot_25
  · refine pv_iconst (0 : Int32) hc dX9_readNot_7 rfl ?_
    exact pv_zret hc hr hQ (by decide) (e_i2 h) (e_w2 h) dX9_readNot_8
def b_readOr (rc : Nat → Rec → Option (Int32 × Rec)) (s : Rec)  : Option (Int32 × Rec) := BD2 (rc 0 s) (fun v2 s3 => (if v2 = 0 then some ((0 : Int32), s3) else LP2 (fun (rec6 : Int32 → Rec → Option (Int32 × Rec)) (v4 : Int32) (s5 : Rec) => BD (m_isWord s5 (11 : Int32)) (fun v8 => (if v8 = 0 then LT (sI s5 44 v4) (fun s9 => some ((1 : Int32), s9)) else BD (m_go s5) (fun s11 => BD2 (rc 0 s11) (fun v13 s14 => (if v13 = 0 then some ((0 : Int32), s14) else BD2 (m_saysOne s14 (3 : Int32) v4 (gI s14 44) (0 : Int32)) (fun v16 s17 => rec6 v16 s17))))))) FU (gI s3 44) s3))
set_option maxHeartbeats 4000000 in
theorem b_readOr_ok {l : Launch} {g : Gh} {G : Wd} {N : Nat} {rc : Nat → Rec → Option (Int32 × Rec)} (hM : MOK g) (hrc_readAnd : ∀ {G : Wd} {a : Nat} {s : Rec}, G.2 a = some (7, s) → ∀  {r : Int32} {s' : Rec}, rc 0 s  = some (r, s') → MT l g yX9_readAnd cX9_readAnd 2 (some .boolean) (6 + N) G [.ref a] (some (.int r)) (wp G a 7 s')) {a : Nat} {s : Rec} (hG : G.2 a = some (7, s))  {r : Int32} {s' : Rec} (hf : b_readOr rc s  = some (r, s')) : MT l g yX9_readOr cX9_readOr 2 (some .boolean) (6 + N + 1) G [.ref a] (some (.int r)) (wp G a 7 s') := by
  refine pv_start (by decide) (Nat.le_of_ble_eq_true rfl) ?_
  intro X hl hg hN hc hr _ _ _ hQ
  subst hl; subst hg
  refine pv_G (wp_id hG) ?_
  have h := hf
  unfold b_readOr at h
  show V X 0 0 _ [(0, .ref a)] [] 0
  refine pv_aload_n 0 hc dX9_readOr_0 rfl rfl ?_
  obtain ⟨v2, s3, hf1, h⟩ := BD2_el h
  refine m_call_406 hc hM (hrc_readAnd (wp_at G a 7 s) hf1) (by omega) (Nat.le_of_ble_eq_true rfl) dX9_readOr_1 ?_
  refine pv_if_ne (tgt := 9) hc dX9_readOr_4 (by decide) h (fun h => ?_) (fun h => ?_)
  · refine pv_aload_n 0 hc dX9_readOr_9 rfl rfl ?_
    refine m_get_409 hc hM (wp_at G a 7 s3) dX9_readOr_10 ?_
    refine pv_istore_n (L' := [(1, .int (gI s3 44)), (0, .ref a)]) hc dX9_readOr_13 rfl hN (by decide) rfl ?_
    refine pv_sub [1, 0] rfl ?_
    refine LP2_el (P := fun v4 s5 => V X 0 0 (wp G a 7 s5) [(0, .ref a), (1, .int v4)] [] 14) ?_ FU _ _ h
    intro rec6 hrec6 v4 s5 h
    refine pv_aload_n 0 hc dX9_readOr_14 rfl rfl ?_
    refine pv_bipush (11 : Int32) hc dX9_readOr_15 rfl ?_
    obtain ⟨v8, hf7, h⟩ := BD_el h
    refine m_call_191 hc hM (wp_at G a 7 s5) (m_isWord_ok hM (wp_at G a 7 s5) hf7) (by omega) (Nat.le_of_ble_eq_true rfl) dX9_readOr_17 ?_
    refine pv_if_eq (tgt := 51) hc dX9_readOr_20 (by decide) h (fun h => ?_) (fun h => ?_)
    · refine pv_aload_n 0 hc dX9_readOr_51 rfl rfl ?_
      refine pv_iload_n 1 hc dX9_readOr_52 rfl rfl ?_
      obtain ⟨s9, hs9, h⟩ := LT_el h
      refine m_put_409 hc hM hs9 dX9_readOr_53 ?_
      refine pv_iconst (1 : Int32) hc dX9_readOr_56 rfl ?_
      exact pv_zret hc hr hQ (by decide) (e_i2 h) (e_w2 h) dX9_readOr_57
    · refine pv_aload_n 0 hc dX9_readOr_23 rfl rfl ?_
      obtain ⟨s11, hf10, h⟩ := BD_el h
      refine m_call_82 hc hM (m_go_ok hM (wp_at G a 7 s5) hf10) (by omega) (Nat.le_of_ble_eq_true rfl) dX9_readOr_24 ?_
      refine pv_aload_n 0 hc dX9_readOr_27 rfl rfl ?_
      obtain ⟨v13, s14, hf12, h⟩ := BD2_el h
      refine m_call_406 hc hM (hrc_readAnd (wp_at G a 7 s11) hf12) (by omega) (Nat.le_of_ble_eq_true rfl) dX9_readOr_28 ?_
      refine pv_if_ne (tgt := 36) hc dX9_readOr_31 (by decide) h (fun h => ?_) (fun h => ?_)
      · refine pv_aload_n 0 hc dX9_readOr_36 rfl rfl ?_
        refine pv_iconst (3 : Int32) hc dX9_readOr_37 rfl ?_
        refine pv_iload_n 1 hc dX9_readOr_38 rfl rfl ?_
        refine pv_aload_n 0 hc dX9_readOr_39 rfl rfl ?_
        refine m_get_409 hc hM (wp_at G a 7 s14) dX9_readOr_40 ?_
        refine pv_iconst (0 : Int32) hc dX9_readOr_43 rfl ?_
        obtain ⟨v16, s17, hf15, h⟩ := BD2_el h
        refine m_call_412 hc hM (m_saysOne_ok hM (wp_at G a 7 s14) hf15) (by omega) (Nat.le_of_ble_eq_true rfl) dX9_readOr_44 ?_
        refine pv_istore_n (L' := [(1, .int v16), (0, .ref a)]) hc dX9_readOr_47 rfl hN (by decide) rfl ?_
        refine pv_goto (tgt := 14) hc dX9_readOr_48 (by decide) ?_
        refine pv_sub [1, 0] rfl ?_
        exact hrec6 _ _ h
      · refine pv_iconst (0 : Int32) hc dX9_readOr_34 rfl ?_
        exact pv_zret hc hr hQ (by decide) (e_i2 h) (e_w2 h) dX9_readOr_35
  · refine pv_iconst (0 : Int32) hc dX9_readOr_7 rfl ?_
    exact pv_zret hc hr hQ (by decide) (e_i2 h) (e_w2 h) dX9_readOr_8
def b_readSaid (rc : Nat → Rec → Option (Int32 × Rec)) (s : Rec)  : Option (Int32 × Rec) := BD (m_isSign s (40 : Int32)) (fun v2 => LP1 (fun (rec4 : Int32 → Option (Int32 × Rec)) (v3 : Int32) => JN1 (fun (u5 : Unit) => JN1 (fun (u7 : Unit) => (if (gI s 42) = (20 : Int32) then BD2 (m_bad s (4 : Int32)) (fun v10 s11 => BZ v10 (some (v10, s11))) else (if (gI s 43) = (8 : Int32) then BD2 (m_bad s (4 : Int32)) (fun v39 s40 => BZ v39 (some (v39, s40))) else LT (sI s 42 ((gI s 42) + (1 : Int32))) (fun s13 => LT (sI s13 43 ((gI s13 43) + (1 : Int32))) (fun s14 => BD (m_go s14) (fun s16 => JN2 (fun (v17 : Int32) (s18 : Rec) => LT (sI s18 43 ((gI s18 43) - (1 : Int32))) (fun s20 => BZ v17 (some (v17, s20)))) (fun (j19 : Int32 → Rec → Option (Int32 × Rec)) => (if v2 = 0 then (if v3 = (13 : Int32) then BD2 (rc 2 s16) (fun v33 s34 => j19 v33 s34) else (if (16 : Int32) ≤ v3 then (if (19 : Int32) ≤ v3 then BD2 (m_readCompare s16 v3) (fun v23 s24 => j19 v23 s24) else BD2 (m_readOf s16 v3) (fun v26 s27 => j19 v26 s27)) else BD2 (m_saysOne s16 ((50 : Int32) + v3) (0 : Int32) (0 : Int32) (0 : Int32)) (fun v29 s30 => LT (sI s30 44 v29) (fun s31 => j19 (1 : Int32) s31)))) else BD2 (rc 1 s16) (fun v36 s37 => j19 v36 s37))))))))) (fun (j8 : Unit → Option (Int32 × Rec)) => (if v2 = 0 then (if v3 ≤ (21 : Int32) then j8 () else BD2 (m_bad s (1 : Int32)) (fun v43 s44 => BZ v43 (some (v43, s44)))) else j8 ()))) (fun (j6 : Unit → Option (Int32 × Rec)) => (if (21 : Int32) < v3 then j6 () else BD (m_isWord s v3) (fun v47 => (if v47 = 0 then rec4 (v3 + (1 : Int32)) else j6 ()))))) FU (13 : Int32))
set_option maxHeartbeats 4000000 in
theorem b_readSaid_ok {l : Launch} {g : Gh} {G : Wd} {N : Nat} {rc : Nat → Rec → Option (Int32 × Rec)} (hM : MOK g) (hrc_readBracket : ∀ {G : Wd} {a : Nat} {s : Rec}, G.2 a = some (7, s) → ∀  {r : Int32} {s' : Rec}, rc 1 s  = some (r, s') → MT l g yX9_readBracket cX9_readBracket 1 (some .boolean) (6 + N) G [.ref a] (some (.int r)) (wp G a 7 s')) (hrc_readNot : ∀ {G : Wd} {a : Nat} {s : Rec}, G.2 a = some (7, s) → ∀  {r : Int32} {s' : Rec}, rc 2 s  = some (r, s') → MT l g yX9_readNot cX9_readNot 1 (some .boolean) (6 + N) G [.ref a] (some (.int r)) (wp G a 7 s')) {a : Nat} {s : Rec} (hG : G.2 a = some (7, s))  {r : Int32} {s' : Rec} (hf : b_readSaid rc s  = some (r, s')) : MT l g yX9_readSaid cX9_readSaid 4 (some .boolean) (6 + N + 1) G [.ref a] (some (.int r)) (wp G a 7 s') := by
  refine pv_start (by decide) (Nat.le_of_ble_eq_true rfl) ?_
  intro X hl hg hN hc hr _ _ _ hQ
  subst hl; subst hg
  refine pv_G (wp_id hG) ?_
  have h := hf
  unfold b_readSaid at h
  show V X 0 0 _ [(0, .ref a)] [] 0
  refine pv_aload_n 0 hc dX9_readSaid_0 rfl rfl ?_
  refine pv_bipush (40 : Int32) hc dX9_readSaid_1 rfl ?_
  obtain ⟨v2, hf1, h⟩ := BD_el h
  refine m_call_86 hc hM (wp_at G a 7 s) (m_isSign_ok hM (wp_at G a 7 s) hf1) (by omega) (Nat.le_of_ble_eq_true rfl) dX9_readSaid_3 ?_
  refine pv_istore_n (L' := [(1, .int v2), (0, .ref a)]) hc dX9_readSaid_6 rfl hN (by decide) rfl ?_
  refine pv_bipush (13 : Int32) hc dX9_readSaid_7 rfl ?_
  refine pv_istore_n (L' := [(2, .int (13 : Int32)), (1, .int v2), (0, .ref a)]) hc dX9_readSaid_9 rfl hN (by decide) rfl ?_
  refine pv_sub [2, 1, 0] rfl ?_
  refine LP1_el (P := fun v3 => V X 0 0 (wp G a 7 s) [(0, .ref a), (1, .int v2), (2, .int v3)] [] 10) ?_ FU _ h
  intro rec4 hrec4 v3 h
  refine pv_iload_n 2 hc dX9_readSaid_10 rfl rfl ?_
  refine pv_bipush (21 : Int32) hc dX9_readSaid_11 rfl ?_
  obtain ⟨j6, hj6, h⟩ := JN1_el (P := fun u5 => V X 0 0 (wp G a 7 s) [(0, .ref a), (1, .int v2), (2, .int v3)] [] 30) h (by
      intro u5 h
      refine pv_iload_n 1 hc dX9_readSaid_30 rfl rfl ?_
      obtain ⟨j8, hj8, h⟩ := JN1_el (P := fun u7 => V X 0 0 (wp G a 7 s) [(0, .ref a), (1, .int v2), (2, .int v3)] [] 46) h (by
          intro u7 h
          refine pv_aload_n 0 hc dX9_readSaid_46 rfl rfl ?_
          refine m_get_419 hc hM (wp_at G a 7 s) dX9_readSaid_47 ?_
          refine pv_bipush (20 : Int32) hc dX9_readSaid_50 rfl ?_
          refine pv_icmp_eq (tgt := 64) hc dX9_readSaid_52 (by decide) h (fun h => ?_) (fun h => ?_)
          · refine pv_aload_n 0 hc dX9_readSaid_64 rfl rfl ?_
            refine pv_iconst (4 : Int32) hc dX9_readSaid_65 rfl ?_
            obtain ⟨v10, s11, hf9, h⟩ := BD2_el h
            refine m_call_72 hc hM (m_bad_ok hM (wp_at G a 7 s) hf9) (by omega) (Nat.le_of_ble_eq_true rfl) dX9_readSaid_66 ?_
            obtain ⟨hb12, h⟩ := BZ_el h
            exact pv_zret hc hr hQ hb12 (e_i2 h) (e_w2 h) dX9_readSaid_69
          · refine pv_aload_n 0 hc dX9_readSaid_55 rfl rfl ?_
            refine m_get_422 hc hM (wp_at G a 7 s) dX9_readSaid_56 ?_
            refine pv_bipush (8 : Int32) hc dX9_readSaid_59 rfl ?_
            refine pv_icmp_ne (tgt := 70) hc dX9_readSaid_61 (by decide) h (fun h => ?_) (fun h => ?_)
            · refine pv_aload_n 0 hc dX9_readSaid_70 rfl rfl ?_
              refine pv_dup hc dX9_readSaid_71 rfl ?_
              refine m_get_419 hc hM (wp_at G a 7 s) dX9_readSaid_72 ?_
              refine pv_iconst (1 : Int32) hc dX9_readSaid_75 rfl ?_
              refine pv_iadd hc dX9_readSaid_76 ?_
              obtain ⟨s13, hs13, h⟩ := LT_el h
              refine m_put_419 hc hM hs13 dX9_readSaid_77 ?_
              refine pv_aload_n 0 hc dX9_readSaid_80 rfl rfl ?_
              refine pv_dup hc dX9_readSaid_81 rfl ?_
              refine m_get_422 hc hM (wp_at G a 7 s13) dX9_readSaid_82 ?_
              refine pv_iconst (1 : Int32) hc dX9_readSaid_85 rfl ?_
              refine pv_iadd hc dX9_readSaid_86 ?_
              obtain ⟨s14, hs14, h⟩ := LT_el h
              refine m_put_422 hc hM hs14 dX9_readSaid_87 ?_
              refine pv_aload_n 0 hc dX9_readSaid_90 rfl rfl ?_
              obtain ⟨s16, hf15, h⟩ := BD_el h
              refine m_call_82 hc hM (m_go_ok hM (wp_at G a 7 s14) hf15) (by omega) (Nat.le_of_ble_eq_true rfl) dX9_readSaid_91 ?_
              refine pv_iconst (1 : Int32) hc dX9_readSaid_94 rfl ?_
              refine pv_istore_n (L' := [(3, .int (1 : Int32)), (0, .ref a), (1, .int v2), (2, .int v3)]) hc dX9_readSaid_95 rfl hN (by decide) rfl ?_
              refine pv_iload_n 2 hc dX9_readSaid_96 rfl rfl ?_
              obtain ⟨j19, hj19, h⟩ := JN2_el (P := fun v17 s18 => V X 0 0 (wp G a 7 s18) [(0, .ref a), (3, .int v17)] [] 166) h (by
                  intro v17 s18 h
                  refine pv_aload_n 0 hc dX9_readSaid_166 rfl rfl ?_
                  refine pv_dup hc dX9_readSaid_167 rfl ?_
                  refine m_get_422 hc hM (wp_at G a 7 s18) dX9_readSaid_168 ?_
                  refine pv_iconst (1 : Int32) hc dX9_readSaid_171 rfl ?_
                  refine pv_isub hc dX9_readSaid_172 ?_
                  obtain ⟨s20, hs20, h⟩ := LT_el h
                  refine m_put_422 hc hM hs20 dX9_readSaid_173 ?_
                  refine pv_iload_n 1 hc dX9_readSaid_176 rfl rfl ?_
                  obtain ⟨hb21, h⟩ := BZ_el h
                  exact pv_zret hc hr hQ hb21 (e_i2 h) (e_w2 h) dX9_readSaid_177)
              refine pv_if_eq (tgt := 108) hc dX9_readSaid_97 (by decide) h (fun h => ?_) (fun h => ?_)
              · refine pv_iload_n 3 hc dX9_readSaid_108 rfl rfl ?_
                refine pv_bipush (13 : Int32) hc dX9_readSaid_109 rfl ?_
                refine pv_icmp_ne (tgt := 122) hc dX9_readSaid_111 (by decide) h (fun h => ?_) (fun h => ?_)
                · refine pv_iload_n 3 hc dX9_readSaid_122 rfl rfl ?_
                  refine pv_bipush (16 : Int32) hc dX9_readSaid_123 rfl ?_
                  refine pv_icmp_ge (tgt := 146) hc dX9_readSaid_125 (by decide) h (fun h => ?_) (fun h => ?_)
                  · refine pv_iload_n 3 hc dX9_readSaid_146 rfl rfl ?_
                    refine pv_bipush (19 : Int32) hc dX9_readSaid_147 rfl ?_
                    refine pv_icmp_ge (tgt := 160) hc dX9_readSaid_149 (by decide) h (fun h => ?_) (fun h => ?_)
                    · refine pv_aload_n 1 hc dX9_readSaid_160 rfl rfl ?_
                      refine pv_iload_n 3 hc dX9_readSaid_161 rfl rfl ?_
                      obtain ⟨v23, s24, hf22, h⟩ := BD2_el h
                      refine m_call_434 hc hM (m_readCompare_ok hM (wp_at G a 7 s16) hf22) (by omega) (Nat.le_of_ble_eq_true rfl) dX9_readSaid_162 ?_
                      refine pv_istore_n (L' := [(3, .int v23), (0, .ref a), (1, .int v2), (2, .int v3)]) hc dX9_readSaid_165 rfl hN (by decide) rfl ?_
                      refine pv_sub [1, 0] rfl ?_
                      exact hj19 _ _ h
                    · refine pv_aload_n 1 hc dX9_readSaid_152 rfl rfl ?_
                      refine pv_iload_n 3 hc dX9_readSaid_153 rfl rfl ?_
                      obtain ⟨v26, s27, hf25, h⟩ := BD2_el h
                      refine m_call_431 hc hM (m_readOf_ok hM (wp_at G a 7 s16) hf25) (by omega) (Nat.le_of_ble_eq_true rfl) dX9_readSaid_154 ?_
                      refine pv_goto (tgt := 165) hc dX9_readSaid_157 (by decide) ?_
                      refine pv_istore_n (L' := [(3, .int v26), (0, .ref a), (1, .int v2), (2, .int v3)]) hc dX9_readSaid_165 rfl hN (by decide) rfl ?_
                      refine pv_sub [1, 0] rfl ?_
                      exact hj19 _ _ h
                  · refine pv_aload_n 1 hc dX9_readSaid_128 rfl rfl ?_
                    refine pv_aload_n 1 hc dX9_readSaid_129 rfl rfl ?_
                    refine pv_bipush (50 : Int32) hc dX9_readSaid_130 rfl ?_
                    refine pv_iload_n 3 hc dX9_readSaid_132 rfl rfl ?_
                    refine pv_iadd hc dX9_readSaid_133 ?_
                    refine pv_iconst (0 : Int32) hc dX9_readSaid_134 rfl ?_
                    refine pv_iconst (0 : Int32) hc dX9_readSaid_135 rfl ?_
                    refine pv_iconst (0 : Int32) hc dX9_readSaid_136 rfl ?_
                    obtain ⟨v29, s30, hf28, h⟩ := BD2_el h
                    refine m_call_412 hc hM (m_saysOne_ok hM (wp_at G a 7 s16) hf28) (by omega) (Nat.le_of_ble_eq_true rfl) dX9_readSaid_137 ?_
                    obtain ⟨s31, hs31, h⟩ := LT_el h
                    refine m_put_409 hc hM hs31 dX9_readSaid_140 ?_
                    refine pv_goto (tgt := 166) hc dX9_readSaid_143 (by decide) ?_
                    refine pv_sub [1, 0] rfl ?_
                    exact hj19 _ _ h
                · refine pv_aload_n 1 hc dX9_readSaid_114 rfl rfl ?_
                  obtain ⟨v33, s34, hf32, h⟩ := BD2_el h
                  refine m_call_428 hc hM (hrc_readNot (wp_at G a 7 s16) hf32) (by omega) (Nat.le_of_ble_eq_true rfl) dX9_readSaid_115 ?_
                  refine pv_istore_n (L' := [(3, .int v33), (0, .ref a), (1, .int v2), (2, .int v3)]) hc dX9_readSaid_118 rfl hN (by decide) rfl ?_
                  refine pv_goto (tgt := 166) hc dX9_readSaid_119 (by decide) ?_
                  refine pv_sub [1, 0] rfl ?_
                  exact hj19 _ _ h
              · refine pv_aload_n 1 hc dX9_readSaid_100 rfl rfl ?_
                obtain ⟨v36, s37, hf35, h⟩ := BD2_el h
                refine m_call_425 hc hM (hrc_readBracket (wp_at G a 7 s16) hf35) (by omega) (Nat.le_of_ble_eq_true rfl) dX9_readSaid_101 ?_
                refine pv_istore_n (L' := [(3, .int v36), (0, .ref a), (1, .int v2), (2, .int v3)]) hc dX9_readSaid_104 rfl hN (by decide) rfl ?_
                refine pv_goto (tgt := 166) hc dX9_readSaid_105 (by decide) ?_
                refine pv_sub [1, 0] rfl ?_
                exact hj19 _ _ h
            · refine pv_aload_n 0 hc dX9_readSaid_64 rfl rfl ?_
              refine pv_iconst (4 : Int32) hc dX9_readSaid_65 rfl ?_
              obtain ⟨v39, s40, hf38, h⟩ := BD2_el h
              refine m_call_72 hc hM (m_bad_ok hM (wp_at G a 7 s) hf38) (by omega) (Nat.le_of_ble_eq_true rfl) dX9_readSaid_66 ?_
              obtain ⟨hb41, h⟩ := BZ_el h
              exact pv_zret hc hr hQ hb41 (e_i2 h) (e_w2 h) dX9_readSaid_69)
      refine pv_if_ne (tgt := 46) hc dX9_readSaid_31 (by decide) h (fun h => ?_) (fun h => ?_)
      · exact hj8 _ h
      · refine pv_iload_n 2 hc dX9_readSaid_34 rfl rfl ?_
        refine pv_bipush (21 : Int32) hc dX9_readSaid_35 rfl ?_
        refine pv_icmp_le (tgt := 46) hc dX9_readSaid_37 (by decide) h (fun h => ?_) (fun h => ?_)
        · exact hj8 _ h
        · refine pv_aload_n 0 hc dX9_readSaid_40 rfl rfl ?_
          refine pv_iconst (1 : Int32) hc dX9_readSaid_41 rfl ?_
          obtain ⟨v43, s44, hf42, h⟩ := BD2_el h
          refine m_call_72 hc hM (m_bad_ok hM (wp_at G a 7 s) hf42) (by omega) (Nat.le_of_ble_eq_true rfl) dX9_readSaid_42 ?_
          obtain ⟨hb45, h⟩ := BZ_el h
          exact pv_zret hc hr hQ hb45 (e_i2 h) (e_w2 h) dX9_readSaid_45)
  refine pv_icmp_gt (tgt := 30) hc dX9_readSaid_13 (by decide) h (fun h => ?_) (fun h => ?_)
  · exact hj6 _ h
  · refine pv_aload_n 0 hc dX9_readSaid_16 rfl rfl ?_
    refine pv_iload_n 2 hc dX9_readSaid_17 rfl rfl ?_
    obtain ⟨v47, hf46, h⟩ := BD_el h
    refine m_call_191 hc hM (wp_at G a 7 s) (m_isWord_ok hM (wp_at G a 7 s) hf46) (by omega) (Nat.le_of_ble_eq_true rfl) dX9_readSaid_18 ?_
    refine pv_if_ne (tgt := 30) hc dX9_readSaid_21 (by decide) h (fun h => ?_) (fun h => ?_)
    · exact hj6 _ h
    · refine pv_iinc (L' := [(2, .int (v3 + (1 : Int32))), (0, .ref a), (1, .int v2)]) 2 (v3 + (1 : Int32)) hc dX9_readSaid_24 rfl rfl hN (by decide) rfl ?_
      refine pv_goto (tgt := 10) hc dX9_readSaid_27 (by decide) ?_
      refine pv_sub [1, 2, 0] rfl ?_
      exact hrec4 _ h
def m_rd : Nat → Nat → Rec → Option (Int32 × Rec)
  | 0, _, _ => none
  | n + 1, 0, s => b_readAnd (m_rd n) s
  | n + 1, 1, s => b_readBracket (m_rd n) s
  | n + 1, 2, s => b_readNot (m_rd n) s
  | n + 1, 3, s => b_readOr (m_rd n) s
  | n + 1, _, s => b_readSaid (m_rd n) s
theorem m_rd_ok {l : Launch} {g : Gh} (hM : MOK g) (n : Nat) : (∀ {G : Wd} {a : Nat} {s : Rec}, G.2 a = some (7, s) → ∀ {r : Int32} {s' : Rec}, m_rd n 0 s = some (r, s') → MT l g yX9_readAnd cX9_readAnd 2 (some .boolean) (6 + n) G [.ref a] (some (.int r)) (wp G a 7 s')) ∧ (∀ {G : Wd} {a : Nat} {s : Rec}, G.2 a = some (7, s) → ∀ {r : Int32} {s' : Rec}, m_rd n 1 s = some (r, s') → MT l g yX9_readBracket cX9_readBracket 1 (some .boolean) (6 + n) G [.ref a] (some (.int r)) (wp G a 7 s')) ∧ (∀ {G : Wd} {a : Nat} {s : Rec}, G.2 a = some (7, s) → ∀ {r : Int32} {s' : Rec}, m_rd n 2 s = some (r, s') → MT l g yX9_readNot cX9_readNot 1 (some .boolean) (6 + n) G [.ref a] (some (.int r)) (wp G a 7 s')) ∧ (∀ {G : Wd} {a : Nat} {s : Rec}, G.2 a = some (7, s) → ∀ {r : Int32} {s' : Rec}, m_rd n 3 s = some (r, s') → MT l g yX9_readOr cX9_readOr 2 (some .boolean) (6 + n) G [.ref a] (some (.int r)) (wp G a 7 s')) ∧ (∀ {G : Wd} {a : Nat} {s : Rec}, G.2 a = some (7, s) → ∀ {r : Int32} {s' : Rec}, m_rd n 4 s = some (r, s') → MT l g yX9_readSaid cX9_readSaid 4 (some .boolean) (6 + n) G [.ref a] (some (.int r)) (wp G a 7 s')) := by
  induction n with
  | zero => exact ⟨(fun _ _ _ h => by cases h), (fun _ _ _ h => by cases h), (fun _ _ _ h => by cases h), (fun _ _ _ h => by cases h), (fun _ _ _ h => by cases h)⟩
  | succ n ih =>
    refine ⟨?_, ?_, ?_, ?_, ?_⟩
    · intro _ _ _ hG _ _ h; exact b_readAnd_ok hM ih.2.2.2.2 hG h
    · intro _ _ _ hG _ _ h; exact b_readBracket_ok hM ih.2.2.2.1 hG h
    · intro _ _ _ hG _ _ h; exact b_readNot_ok hM ih.2.2.2.2 hG h
    · intro _ _ _ hG _ _ h; exact b_readOr_ok hM ih.1 hG h
    · intro _ _ _ hG _ _ h; exact b_readSaid_ok hM ih.2.1 ih.2.2.1 hG h
def m_readAnd (n : Nat) (s : Rec) : Option (Int32 × Rec) := m_rd n 0 s
theorem m_readAnd_ok {l : Launch} {g : Gh} (hM : MOK g) {n : Nat} {G : Wd} {a : Nat} {s : Rec} (hG : G.2 a = some (7, s)) {r : Int32} {s' : Rec} (hf : m_readAnd n s = some (r, s')) : MT l g yX9_readAnd cX9_readAnd 2 (some .boolean) (6 + n) G [.ref a] (some (.int r)) (wp G a 7 s') := (m_rd_ok hM n).1 hG hf
def m_readBracket (n : Nat) (s : Rec) : Option (Int32 × Rec) := m_rd n 1 s
theorem m_readBracket_ok {l : Launch} {g : Gh} (hM : MOK g) {n : Nat} {G : Wd} {a : Nat} {s : Rec} (hG : G.2 a = some (7, s)) {r : Int32} {s' : Rec} (hf : m_readBracket n s = some (r, s')) : MT l g yX9_readBracket cX9_readBracket 1 (some .boolean) (6 + n) G [.ref a] (some (.int r)) (wp G a 7 s') := (m_rd_ok hM n).2.1 hG hf
def m_readNot (n : Nat) (s : Rec) : Option (Int32 × Rec) := m_rd n 2 s
theorem m_readNot_ok {l : Launch} {g : Gh} (hM : MOK g) {n : Nat} {G : Wd} {a : Nat} {s : Rec} (hG : G.2 a = some (7, s)) {r : Int32} {s' : Rec} (hf : m_readNot n s = some (r, s')) : MT l g yX9_readNot cX9_readNot 1 (some .boolean) (6 + n) G [.ref a] (some (.int r)) (wp G a 7 s') := (m_rd_ok hM n).2.2.1 hG hf
def m_readOr (n : Nat) (s : Rec) : Option (Int32 × Rec) := m_rd n 3 s
theorem m_readOr_ok {l : Launch} {g : Gh} (hM : MOK g) {n : Nat} {G : Wd} {a : Nat} {s : Rec} (hG : G.2 a = some (7, s)) {r : Int32} {s' : Rec} (hf : m_readOr n s = some (r, s')) : MT l g yX9_readOr cX9_readOr 2 (some .boolean) (6 + n) G [.ref a] (some (.int r)) (wp G a 7 s') := (m_rd_ok hM n).2.2.2.1 hG hf
def m_readSaid (n : Nat) (s : Rec) : Option (Int32 × Rec) := m_rd n 4 s
theorem m_readSaid_ok {l : Launch} {g : Gh} (hM : MOK g) {n : Nat} {G : Wd} {a : Nat} {s : Rec} (hG : G.2 a = some (7, s)) {r : Int32} {s' : Rec} (hf : m_readSaid n s = some (r, s')) : MT l g yX9_readSaid cX9_readSaid 4 (some .boolean) (6 + n) G [.ref a] (some (.int r)) (wp G a 7 s') := (m_rd_ok hM n).2.2.2.2 hG hf
