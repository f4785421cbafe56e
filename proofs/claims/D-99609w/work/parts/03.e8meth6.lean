/-! ParlourLeavesModel's methods: what each computes, and that it does (written by gen/dec_all.py) -/
set_option maxRecDepth 100000
def m_sentence (s : Rec)  : Option (Int32 × Rec) := BD (m_begin s (200 : Int32)) (fun s2 => LT (sI s2 41 (0 : Int32)) (fun s3 => LT (sI s3 42 (0 : Int32)) (fun s4 => LT (sI s4 43 (0 : Int32)) (fun s5 => BD2 (m_readOr 59 s5) (fun v7 s8 => (if v7 = 0 then some (((-1 : Int32) - (gI s8 11)), s8) else (if (gI s8 7) = 0 then LT (sA s8 14 164 (1 : Int32)) (fun s9 => LT (sA s9 14 165 (gI s9 44)) (fun s10 => LP2 (fun (rec13 : Int32 → Rec → Option (Int32 × Rec)) (v11 : Int32) (s12 : Rec) => (if (240 : Int32) ≤ v11 then some ((gI s12 42), s12) else IX v11 240 (fun i14 => IX ((166 : Int32) + v11) 406 (fun i15 => LT (sA s12 14 i15 (gA s12 40 i14)) (fun s16 => rec13 (v11 + (1 : Int32)) s16))))) FU (0 : Int32) s10)) else BD2 (m_bad s8 (1 : Int32)) (fun v18 s19 => some (((-1 : Int32) - (gI s19 11)), s19)))))))))
set_option maxHeartbeats 4000000 in
theorem m_sentence_ok {l : Launch} {g : Gh} {G : Wd} (hM : MOK g) {a : Nat} {s : Rec} (hG : G.2 a = some (7, s))  {r : Int32} {s' : Rec} (hf : m_sentence s  = some (r, s')) : MT l g yX9_sentence cX9_sentence 2 (some .int) 67 G [.ref a] (some (.int r)) (wp G a 7 s') := by
  refine pv_start (by decide) (Nat.le_of_ble_eq_true rfl) ?_
  intro X hl hg hN hc hr _ _ _ hQ
  subst hl; subst hg
  refine pv_G (wp_id hG) ?_
  have h := hf
  unfold m_sentence at h
  show V X 0 0 _ [(0, .ref a)] [] 0
  refine pv_aload_n 0 hc dX9_sentence_0 rfl rfl ?_
  refine pv_sipush (200 : Int32) hc dX9_sentence_1 rfl ?_
  obtain ⟨s2, hf1, h⟩ := BD_el h
  refine m_call_206 hc hM (m_begin_ok hM (wp_at G a 7 s) hf1) (by decide) (Nat.le_of_ble_eq_true rfl) dX9_sentence_4 ?_
  refine pv_aload_n 0 hc dX9_sentence_7 rfl rfl ?_
  refine pv_iconst (0 : Int32) hc dX9_sentence_8 rfl ?_
  obtain ⟨s3, hs3, h⟩ := LT_el h
  refine m_put_403 hc hM hs3 dX9_sentence_9 ?_
  refine pv_aload_n 0 hc dX9_sentence_12 rfl rfl ?_
  refine pv_iconst (0 : Int32) hc dX9_sentence_13 rfl ?_
  obtain ⟨s4, hs4, h⟩ := LT_el h
  refine m_put_419 hc hM hs4 dX9_sentence_14 ?_
  refine pv_aload_n 0 hc dX9_sentence_17 rfl rfl ?_
  refine pv_iconst (0 : Int32) hc dX9_sentence_18 rfl ?_
  obtain ⟨s5, hs5, h⟩ := LT_el h
  refine m_put_422 hc hM hs5 dX9_sentence_19 ?_
  refine pv_aload_n 0 hc dX9_sentence_22 rfl rfl ?_
  obtain ⟨v7, s8, hf6, h⟩ := BD2_el h
  refine m_call_437 hc hM (m_readOr_ok hM (wp_at G a 7 s5) hf6) (by decide) (Nat.le_of_ble_eq_true rfl) dX9_sentence_23 ?_
  refine pv_if_ne (tgt := 36) hc dX9_sentence_26 (by decide) h (fun h => ?_) (fun h => ?_)
  · refine pv_aload_n 0 hc dX9_sentence_36 rfl rfl ?_
    refine m_get_30 hc hM (wp_at G a 7 s8) dX9_sentence_37 ?_
    refine pv_if_eq (tgt := 56) hc dX9_sentence_40 (by decide) h (fun h => ?_) (fun h => ?_)
    · refine pv_aload_n 0 hc dX9_sentence_56 rfl rfl ?_
      refine m_get_98 hc hM (wp_at G a 7 s8) dX9_sentence_57 ?_
      refine pv_sipush (164 : Int32) hc dX9_sentence_60 rfl ?_
      refine pv_iconst (1 : Int32) hc dX9_sentence_63 rfl ?_
      obtain ⟨s9, hs9, h⟩ := LT_el h
      refine m_ast_14 hc hM (vp_lit (j := 164) (by decide)) hs9 dX9_sentence_64 ?_
      refine pv_aload_n 0 hc dX9_sentence_65 rfl rfl ?_
      refine m_get_98 hc hM (wp_at G a 7 s9) dX9_sentence_66 ?_
      refine pv_sipush (165 : Int32) hc dX9_sentence_69 rfl ?_
      refine pv_aload_n 0 hc dX9_sentence_72 rfl rfl ?_
      refine m_get_409 hc hM (wp_at G a 7 s9) dX9_sentence_73 ?_
      obtain ⟨s10, hs10, h⟩ := LT_el h
      refine m_ast_14 hc hM (vp_lit (j := 165) (by decide)) hs10 dX9_sentence_76 ?_
      refine pv_iconst (0 : Int32) hc dX9_sentence_77 rfl ?_
      refine pv_istore_n (L' := [(1, .int (0 : Int32)), (0, .ref a)]) hc dX9_sentence_78 rfl hN (by decide) rfl ?_
      refine pv_sub [1, 0] rfl ?_
      refine LP2_el (P := fun v11 s12 => V X 0 0 (wp G a 7 s12) [(0, .ref a), (1, .int v11)] [] 79) ?_ FU _ _ h
      intro rec13 hrec13 v11 s12 h
      refine pv_iload_n 1 hc dX9_sentence_79 rfl rfl ?_
      refine pv_sipush (240 : Int32) hc dX9_sentence_80 rfl ?_
      refine pv_icmp_ge (tgt := 108) hc dX9_sentence_83 (by decide) h (fun h => ?_) (fun h => ?_)
      · refine pv_aload_n 0 hc dX9_sentence_108 rfl rfl ?_
        refine m_get_419 hc hM (wp_at G a 7 s12) dX9_sentence_109 ?_
        exact pv_iret hc hr hQ (e_i2 h) (e_w2 h) dX9_sentence_112
      · refine pv_aload_n 0 hc dX9_sentence_86 rfl rfl ?_
        refine m_get_98 hc hM (wp_at G a 7 s12) dX9_sentence_87 ?_
        refine pv_sipush (166 : Int32) hc dX9_sentence_90 rfl ?_
        refine pv_iload_n 1 hc dX9_sentence_93 rfl rfl ?_
        refine pv_iadd hc dX9_sentence_94 ?_
        refine pv_aload_n 0 hc dX9_sentence_95 rfl rfl ?_
        refine m_get_154 hc hM (wp_at G a 7 s12) dX9_sentence_96 ?_
        refine pv_iload_n 1 hc dX9_sentence_99 rfl rfl ?_
        obtain ⟨i14, hi14, h⟩ := IX_el h
        refine m_ald_40 hc hM (wp_at G a 7 s12) hi14 dX9_sentence_100 ?_
        obtain ⟨i15, hi15, h⟩ := IX_el h
        obtain ⟨s16, hs16, h⟩ := LT_el h
        refine m_ast_14 hc hM hi15 hs16 dX9_sentence_101 ?_
        refine pv_iinc (L' := [(1, .int (v11 + (1 : Int32))), (0, .ref a)]) 1 (v11 + (1 : Int32)) hc dX9_sentence_102 rfl rfl hN (by decide) rfl ?_
        refine pv_goto (tgt := 79) hc dX9_sentence_105 (by decide) ?_
        refine pv_sub [1, 0] rfl ?_
        exact hrec13 _ _ h
    · refine pv_aload_n 0 hc dX9_sentence_43 rfl rfl ?_
      refine pv_iconst (1 : Int32) hc dX9_sentence_44 rfl ?_
      obtain ⟨v18, s19, hf17, h⟩ := BD2_el h
      refine m_call_72 hc hM (m_bad_ok hM (wp_at G a 7 s8) hf17) (by decide) (Nat.le_of_ble_eq_true rfl) dX9_sentence_45 ?_
      refine pv_pop hc dX9_sentence_48 rfl ?_
      refine pv_iconst (-1 : Int32) hc dX9_sentence_49 rfl ?_
      refine pv_aload_n 0 hc dX9_sentence_50 rfl rfl ?_
      refine m_get_69 hc hM (wp_at G a 7 s19) dX9_sentence_51 ?_
      refine pv_isub hc dX9_sentence_54 ?_
      exact pv_iret hc hr hQ (e_i2 h) (e_w2 h) dX9_sentence_55
  · refine pv_iconst (-1 : Int32) hc dX9_sentence_29 rfl ?_
    refine pv_aload_n 0 hc dX9_sentence_30 rfl rfl ?_
    refine m_get_69 hc hM (wp_at G a 7 s8) dX9_sentence_31 ?_
    refine pv_isub hc dX9_sentence_34 ?_
    exact pv_iret hc hr hQ (e_i2 h) (e_w2 h) dX9_sentence_35
def m_tellsOf (s : Rec) (x1 : Int32) (x2 : Int32) : Option Int32 := LP1 (fun (rec2 : Int32 → Option Int32) (v1 : Int32) => (if (gA s 14 25) ≤ v1 then some (0 : Int32) else IX ((38 : Int32) + v1) 406 (fun i3 => (if (gA s 14 i3) = x2 then BD (m_hasCome s x1 v1) (fun v5 => (if v5 = 0 then rec2 (v1 + (1 : Int32)) else some (1 : Int32))) else rec2 (v1 + (1 : Int32)))))) FU (0 : Int32)
set_option maxHeartbeats 4000000 in
theorem m_tellsOf_ok {l : Launch} {g : Gh} {G : Wd} (hM : MOK g) {a : Nat} {s : Rec} (hG : G.2 a = some (7, s)) {x1 : Int32} {x2 : Int32} {r : Int32} (hf : m_tellsOf s x1 x2 = some r) : MT l g yX9_tellsOf cX9_tellsOf 4 (some .boolean) 3 G [.ref a, .int x1, .int x2] (some (.int r)) G := by
  refine pv_start (by decide) (Nat.le_of_ble_eq_true rfl) ?_
  intro X hl hg hN hc hr _ _ _ hQ
  subst hl; subst hg
  have h := hf
  unfold m_tellsOf at h
  show V X 0 0 _ [(0, .ref a), (1, .int x1), (2, .int x2)] [] 0
  refine pv_iconst (0 : Int32) hc dX9_tellsOf_0 rfl ?_
  refine pv_istore_n (L' := [(3, .int (0 : Int32)), (0, .ref a), (1, .int x1), (2, .int x2)]) hc dX9_tellsOf_1 rfl hN (by decide) rfl ?_
  refine pv_sub [1, 2, 3, 0] rfl ?_
  refine LP1_el (P := fun v1 => V X 0 0 G [(0, .ref a), (1, .int x1), (2, .int x2), (3, .int v1)] [] 2) ?_ FU _ h
  intro rec2 hrec2 v1 h
  refine pv_iload_n 3 hc dX9_tellsOf_2 rfl rfl ?_
  refine pv_aload_n 0 hc dX9_tellsOf_3 rfl rfl ?_
  refine m_get_98 hc hM hG dX9_tellsOf_4 ?_
  refine pv_bipush (25 : Int32) hc dX9_tellsOf_7 rfl ?_
  refine m_ald_14 hc hM hG (vp_lit (j := 25) (by decide)) dX9_tellsOf_9 ?_
  refine pv_icmp_ge (tgt := 43) hc dX9_tellsOf_10 (by decide) h (fun h => ?_) (fun h => ?_)
  · refine pv_iconst (0 : Int32) hc dX9_tellsOf_43 rfl ?_
    exact pv_zret hc hr hQ (by decide) (e_i1 h) rfl dX9_tellsOf_44
  · refine pv_aload_n 0 hc dX9_tellsOf_13 rfl rfl ?_
    refine m_get_98 hc hM hG dX9_tellsOf_14 ?_
    refine pv_bipush (38 : Int32) hc dX9_tellsOf_17 rfl ?_
    refine pv_iload_n 3 hc dX9_tellsOf_19 rfl rfl ?_
    refine pv_iadd hc dX9_tellsOf_20 ?_
    obtain ⟨i3, hi3, h⟩ := IX_el h
    refine m_ald_14 hc hM hG hi3 dX9_tellsOf_21 ?_
    refine pv_iload_n 2 hc dX9_tellsOf_22 rfl rfl ?_
    refine pv_icmp_ne (tgt := 37) hc dX9_tellsOf_23 (by decide) h (fun h => ?_) (fun h => ?_)
    · refine pv_iinc (L' := [(3, .int (v1 + (1 : Int32))), (0, .ref a), (1, .int x1), (2, .int x2)]) 3 (v1 + (1 : Int32)) hc dX9_tellsOf_37 rfl rfl hN (by decide) rfl ?_
      refine pv_goto (tgt := 2) hc dX9_tellsOf_40 (by decide) ?_
      refine pv_sub [1, 2, 3, 0] rfl ?_
      exact hrec2 _ h
    · refine pv_aload_n 0 hc dX9_tellsOf_26 rfl rfl ?_
      refine pv_iload_n 1 hc dX9_tellsOf_27 rfl rfl ?_
      refine pv_iload_n 3 hc dX9_tellsOf_28 rfl rfl ?_
      obtain ⟨v5, hf4, h⟩ := BD_el h
      refine m_call_228 hc hM hG (m_hasCome_ok hM hG hf4) (by decide) (Nat.le_of_ble_eq_true rfl) dX9_tellsOf_29 ?_
      refine pv_if_eq (tgt := 37) hc dX9_tellsOf_32 (by decide) h (fun h => ?_) (fun h => ?_)
      · refine pv_iinc (L' := [(3, .int (v1 + (1 : Int32))), (0, .ref a), (1, .int x1), (2, .int x2)]) 3 (v1 + (1 : Int32)) hc dX9_tellsOf_37 rfl rfl hN (by decide) rfl ?_
        refine pv_goto (tgt := 2) hc dX9_tellsOf_40 (by decide) ?_
        refine pv_sub [1, 2, 3, 0] rfl ?_
        exact hrec2 _ h
      · refine pv_iconst (1 : Int32) hc dX9_tellsOf_35 rfl ?_
        exact pv_zret hc hr hQ (by decide) (e_i1 h) rfl dX9_tellsOf_36
def b_holds (rc : Rec → Int32 → Int32 → Option Int32) (s : Rec) (x1 : Int32) (x2 : Int32) : Option Int32 := IX (((166 : Int32) + ((4 : Int32) * x1)) + (1 : Int32)) 406 (fun i1 => IX (((166 : Int32) + ((4 : Int32) * x1)) + (2 : Int32)) 406 (fun i2 => IX ((166 : Int32) + ((4 : Int32) * x1)) 406 (fun i3 => (if (gA s 14 i3) = (1 : Int32) then BD (rc s (gA s 14 i1) x2) (fun v5 => (if v5 = 0 then some (1 : Int32) else some (0 : Int32))) else if (gA s 14 i3) = (2 : Int32) then BD (rc s (gA s 14 i1) x2) (fun v8 => (if v8 = 0 then some (0 : Int32) else BD (rc s (gA s 14 i2) x2) (fun v10 => (if v10 = 0 then some (0 : Int32) else some (1 : Int32))))) else if (gA s 14 i3) = (3 : Int32) then BD (rc s (gA s 14 i1) x2) (fun v13 => (if v13 = 0 then BD (rc s (gA s 14 i2) x2) (fun v15 => (if v15 = 0 then some (0 : Int32) else some (1 : Int32))) else some (1 : Int32))) else if (gA s 14 i3) = (64 : Int32) then BD (m_seesOf s x2 (0 : Int32)) (fun v18 => (if v18 = 0 then some (1 : Int32) else some (0 : Int32))) else if (gA s 14 i3) = (65 : Int32) then BD (m_isFern s x2) (fun v21 => BZ v21 (some v21)) else if (gA s 14 i3) = (66 : Int32) then IX ((26 : Int32) + x2) 406 (fun i24 => (if (gA s 14 i24) = (gA s 14 i1) then some (1 : Int32) else some (0 : Int32))) else if (gA s 14 i3) = (67 : Int32) then BD (m_seesOf s x2 (0 : Int32)) (fun v27 => BD (m_has v27 (gA s 14 i1)) (fun v29 => BZ v29 (some v29))) else if (gA s 14 i3) = (68 : Int32) then BD (m_tellsOf s x2 (gA s 14 i1)) (fun v33 => BZ v33 (some v33)) else JN1 (fun (v36 : Int32) => IX (((166 : Int32) + ((4 : Int32) * x1)) + (3 : Int32)) 406 (fun i38 => (if (gA s 14 i38) = (60 : Int32) then (if (gA s 14 i2) ≤ v36 then some (0 : Int32) else some (1 : Int32)) else (if (gA s 14 i38) = (61 : Int32) then (if v36 = (gA s 14 i2) then some (1 : Int32) else some (0 : Int32)) else (if v36 ≤ (gA s 14 i2) then some (0 : Int32) else some (1 : Int32)))))) (fun (j37 : Int32 → Option Int32) => (if ((gA s 14 i3) - (50 : Int32)) = (19 : Int32) then BD (m_shownBy s x2 (1 : Int32)) (fun v41 => BD (m_bits v41) (fun v43 => j37 v43)) else (if ((gA s 14 i3) - (50 : Int32)) = (20 : Int32) then IX ((32 : Int32) + x2) 406 (fun i39 => j37 (gA s 14 i39)) else j37 x2)))))))
set_option maxHeartbeats 4000000 in
theorem b_holds_ok {l : Launch} {g : Gh} {G : Wd} {N : Nat} {rc : Rec → Int32 → Int32 → Option Int32} (hM : MOK g) (hrc_holds : ∀ {G : Wd} {a : Nat} {s : Rec}, G.2 a = some (7, s) → ∀ {y0 : Int32} {y1 : Int32} {r : Int32} , rc s y0 y1 = some r → MT l g yX9_holds cX9_holds 8 (some .boolean) (4 + N) G [.ref a, .int y0, .int y1] (some (.int r)) G) {a : Nat} {s : Rec} (hG : G.2 a = some (7, s)) {x1 : Int32} {x2 : Int32} {r : Int32} (hf : b_holds rc s x1 x2 = some r) : MT l g yX9_holds cX9_holds 8 (some .boolean) (4 + N + 1) G [.ref a, .int x1, .int x2] (some (.int r)) G := by
  refine pv_start (by decide) (Nat.le_of_ble_eq_true rfl) ?_
  intro X hl hg hN hc hr _ _ _ hQ
  subst hl; subst hg
  have h := hf
  unfold b_holds at h
  show V X 0 0 _ [(0, .ref a), (1, .int x1), (2, .int x2)] [] 0
  refine pv_sipush (166 : Int32) hc dX9_holds_0 rfl ?_
  refine pv_iconst (4 : Int32) hc dX9_holds_3 rfl ?_
  refine pv_iload_n 1 hc dX9_holds_4 rfl rfl ?_
  refine pv_imul hc dX9_holds_5 ?_
  refine pv_iadd hc dX9_holds_6 ?_
  refine pv_istore_n (L' := [(3, .int ((166 : Int32) + ((4 : Int32) * x1))), (0, .ref a), (1, .int x1), (2, .int x2)]) hc dX9_holds_7 rfl hN (by decide) rfl ?_
  refine pv_aload_n 1 hc dX9_holds_8 rfl rfl ?_
  refine m_get_98 hc hM hG dX9_holds_9 ?_
  refine pv_iload_n 0 hc dX9_holds_12 rfl rfl ?_
  refine pv_iconst (1 : Int32) hc dX9_holds_13 rfl ?_
  refine pv_iadd hc dX9_holds_14 ?_
  obtain ⟨i1, hi1, h⟩ := IX_el h
  refine m_ald_14 hc hM hG hi1 dX9_holds_15 ?_
  refine pv_istore (L' := [(4, .int (gA s 14 i1)), (3, .int ((166 : Int32) + ((4 : Int32) * x1))), (0, .ref a), (1, .int x1), (2, .int x2)]) hc dX9_holds_16 hN (by decide) rfl ?_
  refine pv_aload_n 2 hc dX9_holds_18 rfl rfl ?_
  refine m_get_98 hc hM hG dX9_holds_19 ?_
  refine pv_iload_n 1 hc dX9_holds_22 rfl rfl ?_
  refine pv_iconst (2 : Int32) hc dX9_holds_23 rfl ?_
  refine pv_iadd hc dX9_holds_24 ?_
  obtain ⟨i2, hi2, h⟩ := IX_el h
  refine m_ald_14 hc hM hG hi2 dX9_holds_25 ?_
  refine pv_istore (L' := [(5, .int (gA s 14 i2)), (4, .int (gA s 14 i1)), (3, .int ((166 : Int32) + ((4 : Int32) * x1))), (0, .ref a), (1, .int x1), (2, .int x2)]) hc dX9_holds_26 hN (by decide) rfl ?_
  refine pv_aload_n 3 hc dX9_holds_28 rfl rfl ?_
  refine m_get_98 hc hM hG dX9_holds_29 ?_
  refine pv_iload_n 2 hc dX9_holds_32 rfl rfl ?_
  obtain ⟨i3, hi3, h⟩ := IX_el h
  refine m_ald_14 hc hM hG hi3 dX9_holds_33 ?_
  refine pv_lsw (tgt := 108) (c := 1) (off := 74) hc dX9_holds_34 (by decide) (by decide) (by decide) h (fun h => ?_) (fun hx6 h => ?_)
  · refine pv_aload_n 3 hc dX9_holds_108 rfl rfl ?_
    refine pv_iload 1 hc dX9_holds_109 rfl ?_
    refine pv_iload_n 5 hc dX9_holds_111 rfl rfl ?_
    obtain ⟨v5, hf4, h⟩ := BD_el h
    refine m_call_440 hc hM hG (hrc_holds hG hf4) (by omega) (Nat.le_of_ble_eq_true rfl) dX9_holds_112 ?_
    refine pv_if_ne (tgt := 122) hc dX9_holds_115 (by decide) h (fun h => ?_) (fun h => ?_)
    · refine pv_iconst (0 : Int32) hc dX9_holds_122 rfl ?_
      exact pv_zret hc hr hQ (by decide) (e_i1 h) rfl dX9_holds_123
    · refine pv_iconst (1 : Int32) hc dX9_holds_118 rfl ?_
      refine pv_goto (tgt := 123) hc dX9_holds_119 (by decide) ?_
      exact pv_zret hc hr hQ (by decide) (e_i1 h) rfl dX9_holds_123
  refine pv_lsw (tgt := 124) (c := 2) (off := 90) hc dX9_holds_34 (by decide) (by decide) (by decide) h (fun h => ?_) (fun hx11 h => ?_)
  · refine pv_aload_n 3 hc dX9_holds_124 rfl rfl ?_
    refine pv_iload 1 hc dX9_holds_125 rfl ?_
    refine pv_iload_n 5 hc dX9_holds_127 rfl rfl ?_
    obtain ⟨v8, hf7, h⟩ := BD_el h
    refine m_call_440 hc hM hG (hrc_holds hG hf7) (by omega) (Nat.le_of_ble_eq_true rfl) dX9_holds_128 ?_
    refine pv_if_eq (tgt := 148) hc dX9_holds_131 (by decide) h (fun h => ?_) (fun h => ?_)
    · refine pv_iconst (0 : Int32) hc dX9_holds_148 rfl ?_
      exact pv_zret hc hr hQ (by decide) (e_i1 h) rfl dX9_holds_149
    · refine pv_aload_n 3 hc dX9_holds_134 rfl rfl ?_
      refine pv_iload 0 hc dX9_holds_135 rfl ?_
      refine pv_iload_n 5 hc dX9_holds_137 rfl rfl ?_
      obtain ⟨v10, hf9, h⟩ := BD_el h
      refine m_call_440 hc hM hG (hrc_holds hG hf9) (by omega) (Nat.le_of_ble_eq_true rfl) dX9_holds_138 ?_
      refine pv_if_eq (tgt := 148) hc dX9_holds_141 (by decide) h (fun h => ?_) (fun h => ?_)
      · refine pv_iconst (0 : Int32) hc dX9_holds_148 rfl ?_
        exact pv_zret hc hr hQ (by decide) (e_i1 h) rfl dX9_holds_149
      · refine pv_iconst (1 : Int32) hc dX9_holds_144 rfl ?_
        refine pv_goto (tgt := 149) hc dX9_holds_145 (by decide) ?_
        exact pv_zret hc hr hQ (by decide) (e_i1 h) rfl dX9_holds_149
  refine pv_lsw (tgt := 150) (c := 3) (off := 116) hc dX9_holds_34 (by decide) (by decide) (by decide) h (fun h => ?_) (fun hx16 h => ?_)
  · refine pv_aload_n 3 hc dX9_holds_150 rfl rfl ?_
    refine pv_iload 1 hc dX9_holds_151 rfl ?_
    refine pv_iload_n 5 hc dX9_holds_153 rfl rfl ?_
    obtain ⟨v13, hf12, h⟩ := BD_el h
    refine m_call_440 hc hM hG (hrc_holds hG hf12) (by omega) (Nat.le_of_ble_eq_true rfl) dX9_holds_154 ?_
    refine pv_if_ne (tgt := 170) hc dX9_holds_157 (by decide) h (fun h => ?_) (fun h => ?_)
    · refine pv_iconst (1 : Int32) hc dX9_holds_170 rfl ?_
      refine pv_goto (tgt := 175) hc dX9_holds_171 (by decide) ?_
      exact pv_zret hc hr hQ (by decide) (e_i1 h) rfl dX9_holds_175
    · refine pv_aload_n 3 hc dX9_holds_160 rfl rfl ?_
      refine pv_iload 0 hc dX9_holds_161 rfl ?_
      refine pv_iload_n 5 hc dX9_holds_163 rfl rfl ?_
      obtain ⟨v15, hf14, h⟩ := BD_el h
      refine m_call_440 hc hM hG (hrc_holds hG hf14) (by omega) (Nat.le_of_ble_eq_true rfl) dX9_holds_164 ?_
      refine pv_if_eq (tgt := 174) hc dX9_holds_167 (by decide) h (fun h => ?_) (fun h => ?_)
      · refine pv_iconst (0 : Int32) hc dX9_holds_174 rfl ?_
        exact pv_zret hc hr hQ (by decide) (e_i1 h) rfl dX9_holds_175
      · refine pv_iconst (1 : Int32) hc dX9_holds_170 rfl ?_
        refine pv_goto (tgt := 175) hc dX9_holds_171 (by decide) ?_
        exact pv_zret hc hr hQ (by decide) (e_i1 h) rfl dX9_holds_175
  refine pv_lsw (tgt := 176) (c := 64) (off := 142) hc dX9_holds_34 (by decide) (by decide) (by decide) h (fun h => ?_) (fun hx19 h => ?_)
  · refine pv_aload_n 3 hc dX9_holds_176 rfl rfl ?_
    refine pv_iload_n 5 hc dX9_holds_177 rfl rfl ?_
    refine pv_iconst (0 : Int32) hc dX9_holds_178 rfl ?_
    obtain ⟨v18, hf17, h⟩ := BD_el h
    refine m_call_250 hc hM hG (m_seesOf_ok hM hG hf17) (by omega) (Nat.le_of_ble_eq_true rfl) dX9_holds_179 ?_
    refine pv_if_ne (tgt := 189) hc dX9_holds_182 (by decide) h (fun h => ?_) (fun h => ?_)
    · refine pv_iconst (0 : Int32) hc dX9_holds_189 rfl ?_
      exact pv_zret hc hr hQ (by decide) (e_i1 h) rfl dX9_holds_190
    · refine pv_iconst (1 : Int32) hc dX9_holds_185 rfl ?_
      refine pv_goto (tgt := 190) hc dX9_holds_186 (by decide) ?_
      exact pv_zret hc hr hQ (by decide) (e_i1 h) rfl dX9_holds_190
  refine pv_lsw (tgt := 191) (c := 65) (off := 157) hc dX9_holds_34 (by decide) (by decide) (by decide) h (fun h => ?_) (fun hx23 h => ?_)
  · refine pv_aload_n 3 hc dX9_holds_191 rfl rfl ?_
    refine pv_iload_n 5 hc dX9_holds_192 rfl rfl ?_
    obtain ⟨v21, hf20, h⟩ := BD_el h
    refine m_call_218 hc hM hG (m_isFern_ok hM hG hf20) (by omega) (Nat.le_of_ble_eq_true rfl) dX9_holds_193 ?_
    obtain ⟨hb22, h⟩ := BZ_el h
    exact pv_zret hc hr hQ hb22 (e_i1 h) rfl dX9_holds_196
  refine pv_lsw (tgt := 197) (c := 66) (off := 163) hc dX9_holds_34 (by decide) (by decide) (by decide) h (fun h => ?_) (fun hx25 h => ?_)
  · refine pv_aload_n 3 hc dX9_holds_197 rfl rfl ?_
    refine m_get_98 hc hM hG dX9_holds_198 ?_
    refine pv_bipush (26 : Int32) hc dX9_holds_201 rfl ?_
    refine pv_iload_n 5 hc dX9_holds_203 rfl rfl ?_
    refine pv_iadd hc dX9_holds_204 ?_
    obtain ⟨i24, hi24, h⟩ := IX_el h
    refine m_ald_14 hc hM hG hi24 dX9_holds_205 ?_
    refine pv_iload 1 hc dX9_holds_206 rfl ?_
    refine pv_icmp_ne (tgt := 215) hc dX9_holds_208 (by decide) h (fun h => ?_) (fun h => ?_)
    · refine pv_iconst (0 : Int32) hc dX9_holds_215 rfl ?_
      exact pv_zret hc hr hQ (by decide) (e_i1 h) rfl dX9_holds_216
    · refine pv_iconst (1 : Int32) hc dX9_holds_211 rfl ?_
      refine pv_goto (tgt := 216) hc dX9_holds_212 (by decide) ?_
      exact pv_zret hc hr hQ (by decide) (e_i1 h) rfl dX9_holds_216
  refine pv_lsw (tgt := 217) (c := 67) (off := 183) hc dX9_holds_34 (by decide) (by decide) (by decide) h (fun h => ?_) (fun hx31 h => ?_)
  · refine pv_aload_n 3 hc dX9_holds_217 rfl rfl ?_
    refine pv_iload_n 5 hc dX9_holds_218 rfl rfl ?_
    refine pv_iconst (0 : Int32) hc dX9_holds_219 rfl ?_
    obtain ⟨v27, hf26, h⟩ := BD_el h
    refine m_call_250 hc hM hG (m_seesOf_ok hM hG hf26) (by omega) (Nat.le_of_ble_eq_true rfl) dX9_holds_220 ?_
    refine pv_iload 1 hc dX9_holds_223 rfl ?_
    obtain ⟨v29, hf28, h⟩ := BD_el h
    refine m_call_181 hc (m_has_ok hf28) (by omega) (Nat.le_of_ble_eq_true rfl) dX9_holds_225 ?_
    obtain ⟨hb30, h⟩ := BZ_el h
    exact pv_zret hc hr hQ hb30 (e_i1 h) rfl dX9_holds_228
  refine pv_lsw (tgt := 229) (c := 68) (off := 195) hc dX9_holds_34 (by decide) (by decide) (by decide) h (fun h => ?_) (fun hx35 h => ?_)
  · refine pv_aload_n 3 hc dX9_holds_229 rfl rfl ?_
    refine pv_iload_n 5 hc dX9_holds_230 rfl rfl ?_
    refine pv_iload 1 hc dX9_holds_231 rfl ?_
    obtain ⟨v33, hf32, h⟩ := BD_el h
    refine m_call_443 hc hM hG (m_tellsOf_ok hM hG hf32) (by omega) (Nat.le_of_ble_eq_true rfl) dX9_holds_233 ?_
    obtain ⟨hb34, h⟩ := BZ_el h
    exact pv_zret hc hr hQ hb34 (e_i1 h) rfl dX9_holds_236
  refine pv_lookup (tgt := 237) (off := 203) hc dX9_holds_34 (by decide) ((lv_osw hx6 rfl).trans ((lv_osw hx11 rfl).trans ((lv_osw hx16 rfl).trans ((lv_osw hx19 rfl).trans ((lv_osw hx23 rfl).trans ((lv_osw hx25 rfl).trans ((lv_osw hx31 rfl).trans ((lv_osw hx35 rfl).trans rfl)))))))) (by decide) ?_
  refine pv_aload_n 3 hc dX9_holds_237 rfl rfl ?_
  refine m_get_98 hc hM hG dX9_holds_238 ?_
  refine pv_iload_n 2 hc dX9_holds_241 rfl rfl ?_
  refine m_ald_14 hc hM hG hi3 dX9_holds_242 ?_
  refine pv_bipush (50 : Int32) hc dX9_holds_243 rfl ?_
  refine pv_isub hc dX9_holds_245 ?_
  refine pv_istore (L' := [(6, .int ((gA s 14 i3) - (50 : Int32))), (5, .int (gA s 14 i2)), (4, .int (gA s 14 i1)), (3, .int ((166 : Int32) + ((4 : Int32) * x1))), (0, .ref a), (1, .int x1), (2, .int x2)]) hc dX9_holds_246 hN (by decide) rfl ?_
  refine pv_iload 0 hc dX9_holds_248 rfl ?_
  refine pv_bipush (19 : Int32) hc dX9_holds_250 rfl ?_
  obtain ⟨j37, hj37, h⟩ := JN1_el (P := fun v36 => V X 0 0 G [(0, .ref a), (3, .int ((166 : Int32) + ((4 : Int32) * x1))), (5, .int (gA s 14 i2))] [.int v36] 287) h (by
      intro v36 h
      refine pv_istore (L' := [(7, .int v36), (0, .ref a), (3, .int ((166 : Int32) + ((4 : Int32) * x1))), (5, .int (gA s 14 i2))]) hc dX9_holds_287 hN (by decide) rfl ?_
      refine pv_aload_n 1 hc dX9_holds_289 rfl rfl ?_
      refine m_get_98 hc hM hG dX9_holds_290 ?_
      refine pv_iload_n 2 hc dX9_holds_293 rfl rfl ?_
      refine pv_iconst (3 : Int32) hc dX9_holds_294 rfl ?_
      refine pv_iadd hc dX9_holds_295 ?_
      obtain ⟨i38, hi38, h⟩ := IX_el h
      refine m_ald_14 hc hM hG hi38 dX9_holds_296 ?_
      refine pv_bipush (60 : Int32) hc dX9_holds_297 rfl ?_
      refine pv_icmp_ne (tgt := 317) hc dX9_holds_299 (by decide) h (fun h => ?_) (fun h => ?_)
      · refine pv_aload_n 1 hc dX9_holds_317 rfl rfl ?_
        refine m_get_98 hc hM hG dX9_holds_318 ?_
        refine pv_iload_n 2 hc dX9_holds_321 rfl rfl ?_
        refine pv_iconst (3 : Int32) hc dX9_holds_322 rfl ?_
        refine pv_iadd hc dX9_holds_323 ?_
        refine m_ald_14 hc hM hG hi38 dX9_holds_324 ?_
        refine pv_bipush (61 : Int32) hc dX9_holds_325 rfl ?_
        refine pv_icmp_ne (tgt := 345) hc dX9_holds_327 (by decide) h (fun h => ?_) (fun h => ?_)
        · refine pv_iload 0 hc dX9_holds_345 rfl ?_
          refine pv_iload 3 hc dX9_holds_347 rfl ?_
          refine pv_icmp_le (tgt := 356) hc dX9_holds_349 (by decide) h (fun h => ?_) (fun h => ?_)
          · refine pv_iconst (0 : Int32) hc dX9_holds_356 rfl ?_
            exact pv_zret hc hr hQ (by decide) (e_i1 h) rfl dX9_holds_357
          · refine pv_iconst (1 : Int32) hc dX9_holds_352 rfl ?_
            refine pv_goto (tgt := 357) hc dX9_holds_353 (by decide) ?_
            exact pv_zret hc hr hQ (by decide) (e_i1 h) rfl dX9_holds_357
        · refine pv_iload 0 hc dX9_holds_330 rfl ?_
          refine pv_iload 3 hc dX9_holds_332 rfl ?_
          refine pv_icmp_ne (tgt := 341) hc dX9_holds_334 (by decide) h (fun h => ?_) (fun h => ?_)
          · refine pv_iconst (0 : Int32) hc dX9_holds_341 rfl ?_
            refine pv_goto (tgt := 357) hc dX9_holds_342 (by decide) ?_
            exact pv_zret hc hr hQ (by decide) (e_i1 h) rfl dX9_holds_357
          · refine pv_iconst (1 : Int32) hc dX9_holds_337 rfl ?_
            refine pv_goto (tgt := 357) hc dX9_holds_338 (by decide) ?_
            exact pv_zret hc hr hQ (by decide) (e_i1 h) rfl dX9_holds_357
      · refine pv_iload 0 hc dX9_holds_302 rfl ?_
        refine pv_iload 3 hc dX9_holds_304 rfl ?_
        refine pv_icmp_ge (tgt := 313) hc dX9_holds_306 (by decide) h (fun h => ?_) (fun h => ?_)
        · refine pv_iconst (0 : Int32) hc dX9_holds_313 rfl ?_
          refine pv_goto (tgt := 357) hc dX9_holds_314 (by decide) ?_
          exact pv_zret hc hr hQ (by decide) (e_i1 h) rfl dX9_holds_357
        · refine pv_iconst (1 : Int32) hc dX9_holds_309 rfl ?_
          refine pv_goto (tgt := 357) hc dX9_holds_310 (by decide) ?_
          exact pv_zret hc hr hQ (by decide) (e_i1 h) rfl dX9_holds_357)
  refine pv_icmp_ne (tgt := 267) hc dX9_holds_252 (by decide) h (fun h => ?_) (fun h => ?_)
  · refine pv_iload 0 hc dX9_holds_267 rfl ?_
    refine pv_bipush (20 : Int32) hc dX9_holds_269 rfl ?_
    refine pv_icmp_ne (tgt := 286) hc dX9_holds_271 (by decide) h (fun h => ?_) (fun h => ?_)
    · refine pv_iload_n 6 hc dX9_holds_286 rfl rfl ?_
      refine pv_sub [4, 3, 1] rfl ?_
      exact hj37 _ h
    · refine pv_aload_n 4 hc dX9_holds_274 rfl rfl ?_
      refine m_get_98 hc hM hG dX9_holds_275 ?_
      refine pv_bipush (32 : Int32) hc dX9_holds_278 rfl ?_
      refine pv_iload_n 6 hc dX9_holds_280 rfl rfl ?_
      refine pv_iadd hc dX9_holds_281 ?_
      obtain ⟨i39, hi39, h⟩ := IX_el h
      refine m_ald_14 hc hM hG hi39 dX9_holds_282 ?_
      refine pv_goto (tgt := 287) hc dX9_holds_283 (by decide) ?_
      refine pv_sub [4, 3, 1] rfl ?_
      exact hj37 _ h
  · refine pv_aload_n 4 hc dX9_holds_255 rfl rfl ?_
    refine pv_iload_n 6 hc dX9_holds_256 rfl rfl ?_
    refine pv_iconst (1 : Int32) hc dX9_holds_257 rfl ?_
    obtain ⟨v41, hf40, h⟩ := BD_el h
    refine m_call_253 hc hM hG (m_shownBy_ok hM hG hf40) (by omega) (Nat.le_of_ble_eq_true rfl) dX9_holds_258 ?_
    obtain ⟨v43, hf42, h⟩ := BD_el h
    refine m_call_238 hc (m_bits_ok hf42) (by omega) (Nat.le_of_ble_eq_true rfl) dX9_holds_261 ?_
    refine pv_goto (tgt := 287) hc dX9_holds_264 (by decide) ?_
    refine pv_sub [4, 3, 1] rfl ?_
    exact hj37 _ h
def m_holds : Nat → Rec → Int32 → Int32 → Option Int32
  | 0, _, _, _ => none
  | n + 1, s, y0, y1 => b_holds (m_holds n) s y0 y1
theorem m_holds_ok {l : Launch} {g : Gh} (hM : MOK g) {n : Nat} : ∀ {G : Wd} {a : Nat} {s : Rec}, G.2 a = some (7, s) → ∀ {y0 : Int32} {y1 : Int32} {r : Int32} , m_holds n s y0 y1 = some r → MT l g yX9_holds cX9_holds 8 (some .boolean) (4 + n) G [.ref a, .int y0, .int y1] (some (.int r)) G := by
  induction n with
  | zero => intro _ _ _ _; intros; rename_i h; cases h
  | succ n ih => intro _ _ _ hG; intros; rename_i h; exact b_holds_ok hM ih hG h
def m_said (s : Rec) (x1 : Int32) : Option (Int32 × Rec) := LT (sI s 0 (0 : Int32)) (fun s1 => (if (gA s1 14 164) = 0 then some ((-1 : Int32), s1) else LP2 (fun (rec4 : Int32 → Int32 → Option (Int32 × Rec)) (v2 : Int32) (v3 : Int32) => (if (gA s1 14 1) ≤ v3 then (if x1 = (-1 : Int32) then some (v2, s1) else some ((-1 : Int32), s1)) else BD (m_holds 59 s1 (gA s1 14 165) v3) (fun v6 => (if v6 = 0 then rec4 v2 (v3 + (1 : Int32)) else (if v2 = x1 then some (v3, s1) else rec4 (v2 + (1 : Int32)) (v3 + (1 : Int32))))))) FU (0 : Int32) (0 : Int32)))
set_option maxHeartbeats 4000000 in
theorem m_said_ok {l : Launch} {g : Gh} {G : Wd} (hM : MOK g) {a : Nat} {s : Rec} (hG : G.2 a = some (7, s)) {x1 : Int32} {r : Int32} {s' : Rec} (hf : m_said s x1 = some (r, s')) : MT l g yX9_said cX9_said 4 (some .int) 65 G [.ref a, .int x1] (some (.int r)) (wp G a 7 s') := by
  refine pv_start (by decide) (Nat.le_of_ble_eq_true rfl) ?_
  intro X hl hg hN hc hr _ _ _ hQ
  subst hl; subst hg
  refine pv_G (wp_id hG) ?_
  have h := hf
  unfold m_said at h
  show V X 0 0 _ [(0, .ref a), (1, .int x1)] [] 0
  refine pv_aload_n 0 hc dX9_said_0 rfl rfl ?_
  refine pv_iconst (0 : Int32) hc dX9_said_1 rfl ?_
  obtain ⟨s1, hs1, h⟩ := LT_el h
  refine m_put_1 hc hM hs1 dX9_said_2 ?_
  refine pv_aload_n 0 hc dX9_said_5 rfl rfl ?_
  refine m_get_98 hc hM (wp_at G a 7 s1) dX9_said_6 ?_
  refine pv_sipush (164 : Int32) hc dX9_said_9 rfl ?_
  refine m_ald_14 hc hM (wp_at G a 7 s1) (vp_lit (j := 164) (by decide)) dX9_said_12 ?_
  refine pv_if_ne (tgt := 18) hc dX9_said_13 (by decide) h (fun h => ?_) (fun h => ?_)
  · refine pv_iconst (0 : Int32) hc dX9_said_18 rfl ?_
    refine pv_istore_n (L' := [(2, .int (0 : Int32)), (0, .ref a), (1, .int x1)]) hc dX9_said_19 rfl hN (by decide) rfl ?_
    refine pv_iconst (0 : Int32) hc dX9_said_20 rfl ?_
    refine pv_istore_n (L' := [(3, .int (0 : Int32)), (2, .int (0 : Int32)), (0, .ref a), (1, .int x1)]) hc dX9_said_21 rfl hN (by decide) rfl ?_
    refine pv_sub [2, 3, 1, 0] rfl ?_
    refine LP2_el (P := fun v2 v3 => V X 0 0 (wp G a 7 s1) [(0, .ref a), (1, .int x1), (2, .int v2), (3, .int v3)] [] 22) ?_ FU _ _ h
    intro rec4 hrec4 v2 v3 h
    refine pv_iload_n 3 hc dX9_said_22 rfl rfl ?_
    refine pv_aload_n 0 hc dX9_said_23 rfl rfl ?_
    refine m_get_98 hc hM (wp_at G a 7 s1) dX9_said_24 ?_
    refine pv_iconst (1 : Int32) hc dX9_said_27 rfl ?_
    refine m_ald_14 hc hM (wp_at G a 7 s1) (vp_lit (j := 1) (by decide)) dX9_said_28 ?_
    refine pv_icmp_ge (tgt := 67) hc dX9_said_29 (by decide) h (fun h => ?_) (fun h => ?_)
    · refine pv_iload_n 1 hc dX9_said_67 rfl rfl ?_
      refine pv_iconst (-1 : Int32) hc dX9_said_68 rfl ?_
      refine pv_icmp_ne (tgt := 76) hc dX9_said_69 (by decide) h (fun h => ?_) (fun h => ?_)
      · refine pv_iconst (-1 : Int32) hc dX9_said_76 rfl ?_
        exact pv_iret hc hr hQ (e_i2 h) (e_w2 h) dX9_said_77
      · refine pv_iload_n 2 hc dX9_said_72 rfl rfl ?_
        refine pv_goto (tgt := 77) hc dX9_said_73 (by decide) ?_
        exact pv_iret hc hr hQ (e_i2 h) (e_w2 h) dX9_said_77
    · refine pv_aload_n 0 hc dX9_said_32 rfl rfl ?_
      refine pv_aload_n 0 hc dX9_said_33 rfl rfl ?_
      refine m_get_98 hc hM (wp_at G a 7 s1) dX9_said_34 ?_
      refine pv_sipush (165 : Int32) hc dX9_said_37 rfl ?_
      refine m_ald_14 hc hM (wp_at G a 7 s1) (vp_lit (j := 165) (by decide)) dX9_said_40 ?_
      refine pv_iload_n 3 hc dX9_said_41 rfl rfl ?_
      obtain ⟨v6, hf5, h⟩ := BD_el h
      refine m_call_440 hc hM (wp_at G a 7 s1) (m_holds_ok hM (wp_at G a 7 s1) hf5) (by decide) (Nat.le_of_ble_eq_true rfl) dX9_said_42 ?_
      refine pv_if_ne (tgt := 51) hc dX9_said_45 (by decide) h (fun h => ?_) (fun h => ?_)
      · refine pv_iload_n 2 hc dX9_said_51 rfl rfl ?_
        refine pv_iload_n 1 hc dX9_said_52 rfl rfl ?_
        refine pv_icmp_ne (tgt := 58) hc dX9_said_53 (by decide) h (fun h => ?_) (fun h => ?_)
        · refine pv_iinc (L' := [(2, .int (v2 + (1 : Int32))), (0, .ref a), (1, .int x1), (3, .int v3)]) 2 (v2 + (1 : Int32)) hc dX9_said_58 rfl rfl hN (by decide) rfl ?_
          refine pv_iinc (L' := [(3, .int (v3 + (1 : Int32))), (2, .int (v2 + (1 : Int32))), (0, .ref a), (1, .int x1)]) 3 (v3 + (1 : Int32)) hc dX9_said_61 rfl rfl hN (by decide) rfl ?_
          refine pv_goto (tgt := 22) hc dX9_said_64 (by decide) ?_
          refine pv_sub [2, 3, 1, 0] rfl ?_
          exact hrec4 _ _ h
        · refine pv_iload_n 3 hc dX9_said_56 rfl rfl ?_
          exact pv_iret hc hr hQ (e_i2 h) (e_w2 h) dX9_said_57
      · refine pv_goto (tgt := 61) hc dX9_said_48 (by decide) ?_
        refine pv_iinc (L' := [(3, .int (v3 + (1 : Int32))), (0, .ref a), (1, .int x1), (2, .int v2)]) 3 (v3 + (1 : Int32)) hc dX9_said_61 rfl rfl hN (by decide) rfl ?_
        refine pv_goto (tgt := 22) hc dX9_said_64 (by decide) ?_
        refine pv_sub [1, 2, 3, 0] rfl ?_
        exact hrec4 _ _ h
  · refine pv_iconst (-1 : Int32) hc dX9_said_16 rfl ?_
    exact pv_iret hc hr hQ (e_i2 h) (e_w2 h) dX9_said_17
def m_image (s : Rec) (x1 : Int32) : Option (Int32 × Rec) := LT (sI s 0 (0 : Int32)) (fun s1 => BD (m_isIn x1 (0 : Int32) (1 : Int32)) (fun v3 => (if v3 = 0 then some ((0 : Int32), s1) else LP2 (fun (rec6 : Int32 → Rec → Option (Int32 × Rec)) (v4 : Int32) (s5 : Rec) => (if (406 : Int32) ≤ v4 then LP2 (fun (rec9 : Int32 → Rec → Option (Int32 × Rec)) (v7 : Int32) (s8 : Rec) => (if (20 : Int32) ≤ v7 then IX x1 2 (fun i10 => LT (sA s8 22 i10 (1 : Int32)) (fun s11 => some ((1 : Int32), s11))) else IX v7 20 (fun i12 => IX (((20 : Int32) * x1) + v7) 40 (fun i13 => LT (sL s8 21 i13 (gL s8 19 i12)) (fun s14 => rec9 (v7 + (1 : Int32)) s14))))) FU (0 : Int32) s5 else IX v4 406 (fun i15 => IX (((406 : Int32) * x1) + v4) 812 (fun i16 => LT (sA s5 16 i16 (gA s5 14 i15)) (fun s17 => rec6 (v4 + (1 : Int32)) s17))))) FU (0 : Int32) s1)))
set_option maxHeartbeats 4000000 in
theorem m_image_ok {l : Launch} {g : Gh} {G : Wd} (hM : MOK g) {a : Nat} {s : Rec} (hG : G.2 a = some (7, s)) {x1 : Int32} {r : Int32} {s' : Rec} (hf : m_image s x1 = some (r, s')) : MT l g yX9_image cX9_image 3 (some .boolean) 2 G [.ref a, .int x1] (some (.int r)) (wp G a 7 s') := by
  refine pv_start (by decide) (Nat.le_of_ble_eq_true rfl) ?_
  intro X hl hg hN hc hr _ _ _ hQ
  subst hl; subst hg
  refine pv_G (wp_id hG) ?_
  have h := hf
  unfold m_image at h
  show V X 0 0 _ [(0, .ref a), (1, .int x1)] [] 0
  refine pv_aload_n 0 hc dX9_image_0 rfl rfl ?_
  refine pv_iconst (0 : Int32) hc dX9_image_1 rfl ?_
  obtain ⟨s1, hs1, h⟩ := LT_el h
  refine m_put_1 hc hM hs1 dX9_image_2 ?_
  refine pv_iload_n 1 hc dX9_image_5 rfl rfl ?_
  refine pv_iconst (0 : Int32) hc dX9_image_6 rfl ?_
  refine pv_iconst (1 : Int32) hc dX9_image_7 rfl ?_
  obtain ⟨v3, hf2, h⟩ := BD_el h
  refine m_call_75 hc (m_isIn_ok hf2) (by decide) (Nat.le_of_ble_eq_true rfl) dX9_image_8 ?_
  refine pv_if_ne (tgt := 16) hc dX9_image_11 (by decide) h (fun h => ?_) (fun h => ?_)
  · refine pv_iconst (0 : Int32) hc dX9_image_16 rfl ?_
    refine pv_istore_n (L' := [(2, .int (0 : Int32)), (0, .ref a), (1, .int x1)]) hc dX9_image_17 rfl hN (by decide) rfl ?_
    refine pv_sub [1, 2, 0] rfl ?_
    refine LP2_el (P := fun v4 s5 => V X 0 0 (wp G a 7 s5) [(0, .ref a), (1, .int x1), (2, .int v4)] [] 18) ?_ FU _ _ h
    intro rec6 hrec6 v4 s5 h
    refine pv_iload_n 2 hc dX9_image_18 rfl rfl ?_
    refine pv_sipush (406 : Int32) hc dX9_image_19 rfl ?_
    refine pv_icmp_ge (tgt := 49) hc dX9_image_22 (by decide) h (fun h => ?_) (fun h => ?_)
    · refine pv_iconst (0 : Int32) hc dX9_image_49 rfl ?_
      refine pv_istore_n (L' := [(2, .int (0 : Int32)), (0, .ref a), (1, .int x1)]) hc dX9_image_50 rfl hN (by decide) rfl ?_
      refine pv_sub [1, 2, 0] rfl ?_
      refine LP2_el (P := fun v7 s8 => V X 0 0 (wp G a 7 s8) [(0, .ref a), (1, .int x1), (2, .int v7)] [] 51) ?_ FU _ _ h
      intro rec9 hrec9 v7 s8 h
      refine pv_iload_n 2 hc dX9_image_51 rfl rfl ?_
      refine pv_bipush (20 : Int32) hc dX9_image_52 rfl ?_
      refine pv_icmp_ge (tgt := 80) hc dX9_image_54 (by decide) h (fun h => ?_) (fun h => ?_)
      · refine pv_aload_n 0 hc dX9_image_80 rfl rfl ?_
        refine m_get_123 hc hM (wp_at G a 7 s8) dX9_image_81 ?_
        refine pv_iload_n 1 hc dX9_image_84 rfl rfl ?_
        refine pv_iconst (1 : Int32) hc dX9_image_85 rfl ?_
        obtain ⟨i10, hi10, h⟩ := IX_el h
        obtain ⟨s11, hs11, h⟩ := LT_el h
        refine m_ast_22 hc hM (by decide) hi10 hs11 dX9_image_86 ?_
        refine pv_iconst (1 : Int32) hc dX9_image_87 rfl ?_
        exact pv_zret hc hr hQ (by decide) (e_i2 h) (e_w2 h) dX9_image_88
      · refine pv_aload_n 0 hc dX9_image_57 rfl rfl ?_
        refine m_get_120 hc hM (wp_at G a 7 s8) dX9_image_58 ?_
        refine pv_bipush (20 : Int32) hc dX9_image_61 rfl ?_
        refine pv_iload_n 1 hc dX9_image_63 rfl rfl ?_
        refine pv_imul hc dX9_image_64 ?_
        refine pv_iload_n 2 hc dX9_image_65 rfl rfl ?_
        refine pv_iadd hc dX9_image_66 ?_
        refine pv_aload_n 0 hc dX9_image_67 rfl rfl ?_
        refine m_get_113 hc hM (wp_at G a 7 s8) dX9_image_68 ?_
        refine pv_iload_n 2 hc dX9_image_71 rfl rfl ?_
        obtain ⟨i12, hi12, h⟩ := IX_el h
        refine m_ald_19 hc hM (wp_at G a 7 s8) hi12 dX9_image_72 ?_
        obtain ⟨i13, hi13, h⟩ := IX_el h
        obtain ⟨s14, hs14, h⟩ := LT_el h
        refine m_ast_21 hc hM hi13 hs14 dX9_image_73 ?_
        refine pv_iinc (L' := [(2, .int (v7 + (1 : Int32))), (0, .ref a), (1, .int x1)]) 2 (v7 + (1 : Int32)) hc dX9_image_74 rfl rfl hN (by decide) rfl ?_
        refine pv_goto (tgt := 51) hc dX9_image_77 (by decide) ?_
        refine pv_sub [1, 2, 0] rfl ?_
        exact hrec9 _ _ h
    · refine pv_aload_n 0 hc dX9_image_25 rfl rfl ?_
      refine m_get_104 hc hM (wp_at G a 7 s5) dX9_image_26 ?_
      refine pv_sipush (406 : Int32) hc dX9_image_29 rfl ?_
      refine pv_iload_n 1 hc dX9_image_32 rfl rfl ?_
      refine pv_imul hc dX9_image_33 ?_
      refine pv_iload_n 2 hc dX9_image_34 rfl rfl ?_
      refine pv_iadd hc dX9_image_35 ?_
      refine pv_aload_n 0 hc dX9_image_36 rfl rfl ?_
      refine m_get_98 hc hM (wp_at G a 7 s5) dX9_image_37 ?_
      refine pv_iload_n 2 hc dX9_image_40 rfl rfl ?_
      obtain ⟨i15, hi15, h⟩ := IX_el h
      refine m_ald_14 hc hM (wp_at G a 7 s5) hi15 dX9_image_41 ?_
      obtain ⟨i16, hi16, h⟩ := IX_el h
      obtain ⟨s17, hs17, h⟩ := LT_el h
      refine m_ast_16 hc hM hi16 hs17 dX9_image_42 ?_
      refine pv_iinc (L' := [(2, .int (v4 + (1 : Int32))), (0, .ref a), (1, .int x1)]) 2 (v4 + (1 : Int32)) hc dX9_image_43 rfl rfl hN (by decide) rfl ?_
      refine pv_goto (tgt := 18) hc dX9_image_46 (by decide) ?_
      refine pv_sub [1, 2, 0] rfl ?_
      exact hrec6 _ _ h
  · refine pv_iconst (0 : Int32) hc dX9_image_14 rfl ?_
    exact pv_zret hc hr hQ (by decide) (e_i2 h) (e_w2 h) dX9_image_15
def m_restore (s : Rec) (x1 : Int32) : Option (Int32 × Rec) := LT (sI s 0 (0 : Int32)) (fun s1 => BD (m_isIn x1 (0 : Int32) (1 : Int32)) (fun v3 => (if v3 = 0 then some ((0 : Int32), s1) else IX x1 2 (fun i4 => (if (gA s1 22 i4) = 0 then some ((0 : Int32), s1) else LP2 (fun (rec7 : Int32 → Rec → Option (Int32 × Rec)) (v5 : Int32) (s6 : Rec) => (if (406 : Int32) ≤ v5 then LP2 (fun (rec10 : Int32 → Rec → Option (Int32 × Rec)) (v8 : Int32) (s9 : Rec) => (if (20 : Int32) ≤ v8 then LT (sI s9 24 (0 : Int32)) (fun s11 => some ((1 : Int32), s11)) else IX (((20 : Int32) * x1) + v8) 40 (fun i12 => IX v8 20 (fun i13 => LT (sL s9 19 i13 (gL s9 21 i12)) (fun s14 => rec10 (v8 + (1 : Int32)) s14))))) FU (0 : Int32) s6 else IX (((406 : Int32) * x1) + v5) 812 (fun i15 => IX v5 406 (fun i16 => LT (sA s6 14 i16 (gA s6 16 i15)) (fun s17 => rec7 (v5 + (1 : Int32)) s17))))) FU (0 : Int32) s1)))))
set_option maxHeartbeats 4000000 in
theorem m_restore_ok {l : Launch} {g : Gh} {G : Wd} (hM : MOK g) {a : Nat} {s : Rec} (hG : G.2 a = some (7, s)) {x1 : Int32} {r : Int32} {s' : Rec} (hf : m_restore s x1 = some (r, s')) : MT l g yX9_restore cX9_restore 3 (some .boolean) 2 G [.ref a, .int x1] (some (.int r)) (wp G a 7 s') := by
  refine pv_start (by decide) (Nat.le_of_ble_eq_true rfl) ?_
  intro X hl hg hN hc hr _ _ _ hQ
  subst hl; subst hg
  refine pv_G (wp_id hG) ?_
  have h := hf
  unfold m_restore at h
  show V X 0 0 _ [(0, .ref a), (1, .int x1)] [] 0
  refine pv_aload_n 0 hc dX9_restore_0 rfl rfl ?_
  refine pv_iconst (0 : Int32) hc dX9_restore_1 rfl ?_
  obtain ⟨s1, hs1, h⟩ := LT_el h
  refine m_put_1 hc hM hs1 dX9_restore_2 ?_
  refine pv_iload_n 1 hc dX9_restore_5 rfl rfl ?_
  refine pv_iconst (0 : Int32) hc dX9_restore_6 rfl ?_
  refine pv_iconst (1 : Int32) hc dX9_restore_7 rfl ?_
  obtain ⟨v3, hf2, h⟩ := BD_el h
  refine m_call_75 hc (m_isIn_ok hf2) (by decide) (Nat.le_of_ble_eq_true rfl) dX9_restore_8 ?_
  refine pv_if_eq (tgt := 23) hc dX9_restore_11 (by decide) h (fun h => ?_) (fun h => ?_)
  · refine pv_iconst (0 : Int32) hc dX9_restore_23 rfl ?_
    exact pv_zret hc hr hQ (by decide) (e_i2 h) (e_w2 h) dX9_restore_24
  · refine pv_aload_n 0 hc dX9_restore_14 rfl rfl ?_
    refine m_get_123 hc hM (wp_at G a 7 s1) dX9_restore_15 ?_
    refine pv_iload_n 1 hc dX9_restore_18 rfl rfl ?_
    obtain ⟨i4, hi4, h⟩ := IX_el h
    refine m_ald_22 hc hM (wp_at G a 7 s1) hi4 dX9_restore_19 ?_
    refine pv_if_ne (tgt := 25) hc dX9_restore_20 (by decide) h (fun h => ?_) (fun h => ?_)
    · refine pv_iconst (0 : Int32) hc dX9_restore_25 rfl ?_
      refine pv_istore_n (L' := [(2, .int (0 : Int32)), (0, .ref a), (1, .int x1)]) hc dX9_restore_26 rfl hN (by decide) rfl ?_
      refine pv_sub [1, 2, 0] rfl ?_
      refine LP2_el (P := fun v5 s6 => V X 0 0 (wp G a 7 s6) [(0, .ref a), (1, .int x1), (2, .int v5)] [] 27) ?_ FU _ _ h
      intro rec7 hrec7 v5 s6 h
      refine pv_iload_n 2 hc dX9_restore_27 rfl rfl ?_
      refine pv_sipush (406 : Int32) hc dX9_restore_28 rfl ?_
      refine pv_icmp_ge (tgt := 58) hc dX9_restore_31 (by decide) h (fun h => ?_) (fun h => ?_)
      · refine pv_iconst (0 : Int32) hc dX9_restore_58 rfl ?_
        refine pv_istore_n (L' := [(2, .int (0 : Int32)), (0, .ref a), (1, .int x1)]) hc dX9_restore_59 rfl hN (by decide) rfl ?_
        refine pv_sub [1, 2, 0] rfl ?_
        refine LP2_el (P := fun v8 s9 => V X 0 0 (wp G a 7 s9) [(0, .ref a), (1, .int x1), (2, .int v8)] [] 60) ?_ FU _ _ h
        intro rec10 hrec10 v8 s9 h
        refine pv_iload_n 2 hc dX9_restore_60 rfl rfl ?_
        refine pv_bipush (20 : Int32) hc dX9_restore_61 rfl ?_
        refine pv_icmp_ge (tgt := 89) hc dX9_restore_63 (by decide) h (fun h => ?_) (fun h => ?_)
        · refine pv_aload_n 0 hc dX9_restore_89 rfl rfl ?_
          refine pv_iconst (0 : Int32) hc dX9_restore_90 rfl ?_
          obtain ⟨s11, hs11, h⟩ := LT_el h
          refine m_put_215 hc hM hs11 dX9_restore_91 ?_
          refine pv_iconst (1 : Int32) hc dX9_restore_94 rfl ?_
          exact pv_zret hc hr hQ (by decide) (e_i2 h) (e_w2 h) dX9_restore_95
        · refine pv_aload_n 0 hc dX9_restore_66 rfl rfl ?_
          refine m_get_113 hc hM (wp_at G a 7 s9) dX9_restore_67 ?_
          refine pv_iload_n 2 hc dX9_restore_70 rfl rfl ?_
          refine pv_aload_n 0 hc dX9_restore_71 rfl rfl ?_
          refine m_get_120 hc hM (wp_at G a 7 s9) dX9_restore_72 ?_
          refine pv_bipush (20 : Int32) hc dX9_restore_75 rfl ?_
          refine pv_iload_n 1 hc dX9_restore_77 rfl rfl ?_
          refine pv_imul hc dX9_restore_78 ?_
          refine pv_iload_n 2 hc dX9_restore_79 rfl rfl ?_
          refine pv_iadd hc dX9_restore_80 ?_
          obtain ⟨i12, hi12, h⟩ := IX_el h
          refine m_ald_21 hc hM (wp_at G a 7 s9) hi12 dX9_restore_81 ?_
          obtain ⟨i13, hi13, h⟩ := IX_el h
          obtain ⟨s14, hs14, h⟩ := LT_el h
          refine m_ast_19 hc hM hi13 hs14 dX9_restore_82 ?_
          refine pv_iinc (L' := [(2, .int (v8 + (1 : Int32))), (0, .ref a), (1, .int x1)]) 2 (v8 + (1 : Int32)) hc dX9_restore_83 rfl rfl hN (by decide) rfl ?_
          refine pv_goto (tgt := 60) hc dX9_restore_86 (by decide) ?_
          refine pv_sub [1, 2, 0] rfl ?_
          exact hrec10 _ _ h
      · refine pv_aload_n 0 hc dX9_restore_34 rfl rfl ?_
        refine m_get_98 hc hM (wp_at G a 7 s6) dX9_restore_35 ?_
        refine pv_iload_n 2 hc dX9_restore_38 rfl rfl ?_
        refine pv_aload_n 0 hc dX9_restore_39 rfl rfl ?_
        refine m_get_104 hc hM (wp_at G a 7 s6) dX9_restore_40 ?_
        refine pv_sipush (406 : Int32) hc dX9_restore_43 rfl ?_
        refine pv_iload_n 1 hc dX9_restore_46 rfl rfl ?_
        refine pv_imul hc dX9_restore_47 ?_
        refine pv_iload_n 2 hc dX9_restore_48 rfl rfl ?_
        refine pv_iadd hc dX9_restore_49 ?_
        obtain ⟨i15, hi15, h⟩ := IX_el h
        refine m_ald_16 hc hM (wp_at G a 7 s6) hi15 dX9_restore_50 ?_
        obtain ⟨i16, hi16, h⟩ := IX_el h
        obtain ⟨s17, hs17, h⟩ := LT_el h
        refine m_ast_14 hc hM hi16 hs17 dX9_restore_51 ?_
        refine pv_iinc (L' := [(2, .int (v5 + (1 : Int32))), (0, .ref a), (1, .int x1)]) 2 (v5 + (1 : Int32)) hc dX9_restore_52 rfl rfl hN (by decide) rfl ?_
        refine pv_goto (tgt := 27) hc dX9_restore_55 (by decide) ?_
        refine pv_sub [1, 2, 0] rfl ?_
        exact hrec7 _ _ h
    · refine pv_iconst (0 : Int32) hc dX9_restore_23 rfl ?_
      exact pv_zret hc hr hQ (by decide) (e_i2 h) (e_w2 h) dX9_restore_24
def m_count (s : Rec) (x1 : Int32) : Option (Int32 × Rec) := LT (sI s 0 (0 : Int32)) (fun s1 => (if x1 = (0 : Int32) then some ((gA s1 14 0), s1) else if x1 = (1 : Int32) then some ((gA s1 14 1), s1) else if x1 = (2 : Int32) then some ((gA s1 14 2), s1) else if x1 = (3 : Int32) then some ((gA s1 14 3), s1) else if x1 = (4 : Int32) then some ((gA s1 14 4), s1) else if x1 = (5 : Int32) then some ((gA s1 14 5), s1) else if x1 = (6 : Int32) then some ((gI s1 2), s1) else some ((-1 : Int32), s1)))
set_option maxHeartbeats 4000000 in
theorem m_count_ok {l : Launch} {g : Gh} {G : Wd} (hM : MOK g) {a : Nat} {s : Rec} (hG : G.2 a = some (7, s)) {x1 : Int32} {r : Int32} {s' : Rec} (hf : m_count s x1 = some (r, s')) : MT l g yX9_count cX9_count 2 (some .int) 1 G [.ref a, .int x1] (some (.int r)) (wp G a 7 s') := by
  refine pv_start (by decide) (Nat.le_of_ble_eq_true rfl) ?_
  intro X hl hg hN hc hr _ _ _ hQ
  subst hl; subst hg
  refine pv_G (wp_id hG) ?_
  have h := hf
  unfold m_count at h
  show V X 0 0 _ [(0, .ref a), (1, .int x1)] [] 0
  refine pv_aload_n 0 hc dX9_count_0 rfl rfl ?_
  refine pv_iconst (0 : Int32) hc dX9_count_1 rfl ?_
  obtain ⟨s1, hs1, h⟩ := LT_el h
  refine m_put_1 hc hM hs1 dX9_count_2 ?_
  refine pv_iload_n 1 hc dX9_count_5 rfl rfl ?_
  refine pv_tsw (tgt := 48) (c := 0) (off := 42) hc dX9_count_6 (by decide) (by decide) (by decide) (by decide) h (fun h => ?_) (fun hx2 h => ?_)
  · refine pv_aload_n 0 hc dX9_count_48 rfl rfl ?_
    refine m_get_98 hc hM (wp_at G a 7 s1) dX9_count_49 ?_
    refine pv_iconst (0 : Int32) hc dX9_count_52 rfl ?_
    refine m_ald_14 hc hM (wp_at G a 7 s1) (vp_lit (j := 0) (by decide)) dX9_count_53 ?_
    exact pv_iret hc hr hQ (e_i2 h) (e_w2 h) dX9_count_54
  refine pv_tsw (tgt := 55) (c := 1) (off := 49) hc dX9_count_6 (by decide) (by decide) (by decide) (by decide) h (fun h => ?_) (fun hx3 h => ?_)
  · refine pv_aload_n 0 hc dX9_count_55 rfl rfl ?_
    refine m_get_98 hc hM (wp_at G a 7 s1) dX9_count_56 ?_
    refine pv_iconst (1 : Int32) hc dX9_count_59 rfl ?_
    refine m_ald_14 hc hM (wp_at G a 7 s1) (vp_lit (j := 1) (by decide)) dX9_count_60 ?_
    exact pv_iret hc hr hQ (e_i2 h) (e_w2 h) dX9_count_61
  refine pv_tsw (tgt := 62) (c := 2) (off := 56) hc dX9_count_6 (by decide) (by decide) (by decide) (by decide) h (fun h => ?_) (fun hx4 h => ?_)
  · refine pv_aload_n 0 hc dX9_count_62 rfl rfl ?_
    refine m_get_98 hc hM (wp_at G a 7 s1) dX9_count_63 ?_
    refine pv_iconst (2 : Int32) hc dX9_count_66 rfl ?_
    refine m_ald_14 hc hM (wp_at G a 7 s1) (vp_lit (j := 2) (by decide)) dX9_count_67 ?_
    exact pv_iret hc hr hQ (e_i2 h) (e_w2 h) dX9_count_68
  refine pv_tsw (tgt := 69) (c := 3) (off := 63) hc dX9_count_6 (by decide) (by decide) (by decide) (by decide) h (fun h => ?_) (fun hx5 h => ?_)
  · refine pv_aload_n 0 hc dX9_count_69 rfl rfl ?_
    refine m_get_98 hc hM (wp_at G a 7 s1) dX9_count_70 ?_
    refine pv_iconst (3 : Int32) hc dX9_count_73 rfl ?_
    refine m_ald_14 hc hM (wp_at G a 7 s1) (vp_lit (j := 3) (by decide)) dX9_count_74 ?_
    exact pv_iret hc hr hQ (e_i2 h) (e_w2 h) dX9_count_75
  refine pv_tsw (tgt := 76) (c := 4) (off := 70) hc dX9_count_6 (by decide) (by decide) (by decide) (by decide) h (fun h => ?_) (fun hx6 h => ?_)
  · refine pv_aload_n 0 hc dX9_count_76 rfl rfl ?_
    refine m_get_98 hc hM (wp_at G a 7 s1) dX9_count_77 ?_
    refine pv_iconst (4 : Int32) hc dX9_count_80 rfl ?_
    refine m_ald_14 hc hM (wp_at G a 7 s1) (vp_lit (j := 4) (by decide)) dX9_count_81 ?_
    exact pv_iret hc hr hQ (e_i2 h) (e_w2 h) dX9_count_82
  refine pv_tsw (tgt := 83) (c := 5) (off := 77) hc dX9_count_6 (by decide) (by decide) (by decide) (by decide) h (fun h => ?_) (fun hx7 h => ?_)
  · refine pv_aload_n 0 hc dX9_count_83 rfl rfl ?_
    refine m_get_98 hc hM (wp_at G a 7 s1) dX9_count_84 ?_
    refine pv_iconst (5 : Int32) hc dX9_count_87 rfl ?_
    refine m_ald_14 hc hM (wp_at G a 7 s1) (vp_lit (j := 5) (by decide)) dX9_count_88 ?_
    exact pv_iret hc hr hQ (e_i2 h) (e_w2 h) dX9_count_89
  refine pv_tsw (tgt := 90) (c := 6) (off := 84) hc dX9_count_6 (by decide) (by decide) (by decide) (by decide) h (fun h => ?_) (fun hx8 h => ?_)
  · refine pv_aload_n 0 hc dX9_count_90 rfl rfl ?_
    refine m_get_11 hc hM (wp_at G a 7 s1) dX9_count_91 ?_
    exact pv_iret hc hr hQ (e_i2 h) (e_w2 h) dX9_count_94
  refine pv_tableOut (tgt := 95) hc dX9_count_6 (tsw_out 0 [0, 1, 2, 3, 4, 5, 6] (ne_c hx2 (ne_c hx3 (ne_c hx4 (ne_c hx5 (ne_c hx6 (ne_c hx7 (ne_c hx8 ne_n))))))) 6 (by decide)) (by decide) ?_
  refine pv_iconst (-1 : Int32) hc dX9_count_95 rfl ?_
  exact pv_iret hc hr hQ (e_i2 h) (e_w2 h) dX9_count_96
