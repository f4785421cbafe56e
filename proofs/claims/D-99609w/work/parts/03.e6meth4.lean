/-! ParlourLeavesModel's methods: what each computes, and that it does (written by gen/dec_all.py) -/
set_option maxRecDepth 100000
def m_round (s : Rec) (x1 : Int32) : Option (Int32 × Rec) := LT (sI s 0 (0 : Int32)) (fun s1 => BD (m_isParlour s1 x1) (fun v3 => (if v3 = 0 then some ((-1 : Int32), s1) else LP2 (fun (rec6 : Int32 → Int32 → Option (Int32 × Rec)) (v4 : Int32) (v5 : Int32) => (if (gA s1 14 1) ≤ v5 then BD (m_laySteps s1) (fun s8 => BD (m_cellOf x1 (v4 &&& (((1 : Int32) <<< (x1 &&& 31)) ^^^ (-1 : Int32)))) (fun v10 => IX v10 160 (fun i11 => (if (gA s8 27 i11) < (100000 : Int32) then LP4 (fun (rec16 : Int32 → Int32 → Int32 → Rec → Option (Int32 × Rec)) (v12 : Int32) (v13 : Int32) (v14 : Int32) (s15 : Rec) => (if (gA s8 27 i11) ≤ v14 then LT (sI s15 29 (gA s8 27 i11)) (fun s17 => some ((gA s8 27 i11), s17)) else LP1 (fun (rec19 : Int32 → Option (Int32 × Rec)) (v18 : Int32) => IX ((6 : Int32) + v13) 406 (fun i20 => BD (m_has (gA s15 14 i20) v18) (fun v22 => (if v22 = 0 then rec19 (v18 + (1 : Int32)) else BD (m_cellOf v18 (v12 &&& (((1 : Int32) <<< (v18 &&& 31)) ^^^ (-1 : Int32)))) (fun v24 => IX v24 160 (fun i25 => (if (gA s15 27 i25) = (((gA s8 27 i11) - v14) - (1 : Int32)) then IX v14 32 (fun i26 => LT (sA s15 28 i26 v18) (fun s27 => rec16 (v12 &&& (((1 : Int32) <<< (v18 &&& 31)) ^^^ (-1 : Int32))) v18 (v14 + (1 : Int32)) s27)) else rec19 (v18 + (1 : Int32))))))))) FU (0 : Int32))) FU (v4 &&& (((1 : Int32) <<< (x1 &&& 31)) ^^^ (-1 : Int32))) x1 (0 : Int32) s8 else some ((-1 : Int32), s8))))) else IX ((32 : Int32) + v5) 406 (fun i28 => (if (gA s1 14 i28) ≤ 0 then rec6 v4 (v5 + (1 : Int32)) else IX ((26 : Int32) + v5) 406 (fun i29 => rec6 (v4 ||| ((1 : Int32) <<< ((gA s1 14 i29) &&& 31))) (v5 + (1 : Int32))))))) FU (0 : Int32) (0 : Int32))))
set_option maxHeartbeats 4000000 in
theorem m_round_ok {l : Launch} {g : Gh} {G : Wd} (hM : MOK g) {a : Nat} {s : Rec} (hG : G.2 a = some (7, s)) {x1 : Int32} {r : Int32} {s' : Rec} (hf : m_round s x1 = some (r, s')) : MT l g yX9_round cX9_round 7 (some .int) 3 G [.ref a, .int x1] (some (.int r)) (wp G a 7 s') := by
  refine pv_start (by decide) (Nat.le_of_ble_eq_true rfl) ?_
  intro X hl hg hN hc hr _ _ _ hQ
  subst hl; subst hg
  refine pv_G (wp_id hG) ?_
  have h := hf
  unfold m_round at h
  show V X 0 0 _ [(0, .ref a), (1, .int x1)] [] 0
  refine pv_aload_n 0 hc dX9_round_0 rfl rfl ?_
  refine pv_iconst (0 : Int32) hc dX9_round_1 rfl ?_
  obtain ⟨s1, hs1, h⟩ := LT_el h
  refine m_put_1 hc hM hs1 dX9_round_2 ?_
  refine pv_aload_n 0 hc dX9_round_5 rfl rfl ?_
  refine pv_iload_n 1 hc dX9_round_6 rfl rfl ?_
  obtain ⟨v3, hf2, h⟩ := BD_el h
  refine m_call_259 hc hM (wp_at G a 7 s1) (m_isParlour_ok hM (wp_at G a 7 s1) hf2) (by decide) (Nat.le_of_ble_eq_true rfl) dX9_round_7 ?_
  refine pv_if_ne (tgt := 15) hc dX9_round_10 (by decide) h (fun h => ?_) (fun h => ?_)
  · refine pv_iconst (0 : Int32) hc dX9_round_15 rfl ?_
    refine pv_istore_n (L' := [(2, .int (0 : Int32)), (0, .ref a), (1, .int x1)]) hc dX9_round_16 rfl hN (by decide) rfl ?_
    refine pv_iconst (0 : Int32) hc dX9_round_17 rfl ?_
    refine pv_istore_n (L' := [(3, .int (0 : Int32)), (2, .int (0 : Int32)), (0, .ref a), (1, .int x1)]) hc dX9_round_18 rfl hN (by decide) rfl ?_
    refine pv_sub [2, 3, 1, 0] rfl ?_
    refine LP2_el (P := fun v4 v5 => V X 0 0 (wp G a 7 s1) [(0, .ref a), (1, .int x1), (2, .int v4), (3, .int v5)] [] 19) ?_ FU _ _ h
    intro rec6 hrec6 v4 v5 h
    refine pv_iload_n 3 hc dX9_round_19 rfl rfl ?_
    refine pv_aload_n 0 hc dX9_round_20 rfl rfl ?_
    refine m_get_98 hc hM (wp_at G a 7 s1) dX9_round_21 ?_
    refine pv_iconst (1 : Int32) hc dX9_round_24 rfl ?_
    refine m_ald_14 hc hM (wp_at G a 7 s1) (vp_lit (j := 1) (by decide)) dX9_round_25 ?_
    refine pv_icmp_ge (tgt := 61) hc dX9_round_26 (by decide) h (fun h => ?_) (fun h => ?_)
    · refine pv_iload_n 2 hc dX9_round_61 rfl rfl ?_
      refine pv_iconst (1 : Int32) hc dX9_round_62 rfl ?_
      refine pv_iload_n 1 hc dX9_round_63 rfl rfl ?_
      refine pv_ishl hc dX9_round_64 ?_
      refine pv_iconst (-1 : Int32) hc dX9_round_65 rfl ?_
      refine pv_ixor hc dX9_round_66 ?_
      refine pv_iand hc dX9_round_67 ?_
      refine pv_istore_n (L' := [(2, .int (v4 &&& (((1 : Int32) <<< (x1 &&& 31)) ^^^ (-1 : Int32)))), (0, .ref a), (1, .int x1), (3, .int v5)]) hc dX9_round_68 rfl hN (by decide) rfl ?_
      refine pv_aload_n 1 hc dX9_round_69 rfl rfl ?_
      obtain ⟨s8, hf7, h⟩ := BD_el h
      refine m_call_314 hc hM (m_laySteps_ok hM (wp_at G a 7 s1) hf7) (by decide) (Nat.le_of_ble_eq_true rfl) dX9_round_70 ?_
      refine pv_aload_n 1 hc dX9_round_73 rfl rfl ?_
      refine m_get_136 hc hM (wp_at G a 7 s8) dX9_round_74 ?_
      refine pv_iload_n 2 hc dX9_round_77 rfl rfl ?_
      refine pv_iload_n 0 hc dX9_round_78 rfl rfl ?_
      obtain ⟨v10, hf9, h⟩ := BD_el h
      refine m_call_311 hc (m_cellOf_ok hf9) (by decide) (Nat.le_of_ble_eq_true rfl) dX9_round_79 ?_
      obtain ⟨i11, hi11, h⟩ := IX_el h
      refine m_ald_27 hc hM (wp_at G a 7 s8) hi11 dX9_round_82 ?_
      refine pv_istore_n (L' := [(3, .int (gA s8 27 i11)), (2, .int (v4 &&& (((1 : Int32) <<< (x1 &&& 31)) ^^^ (-1 : Int32)))), (0, .ref a), (1, .int x1)]) hc dX9_round_83 rfl hN (by decide) rfl ?_
      refine pv_iload_n 0 hc dX9_round_84 rfl rfl ?_
      refine pv_ldcw hc q1984 dX9_round_85 ?_
      refine pv_icmp_lt (tgt := 93) hc dX9_round_88 (by decide) h (fun h => ?_) (fun h => ?_)
      · refine pv_iload_n 3 hc dX9_round_93 rfl rfl ?_
        refine pv_istore (L' := [(4, .int x1), (3, .int (gA s8 27 i11)), (2, .int (v4 &&& (((1 : Int32) <<< (x1 &&& 31)) ^^^ (-1 : Int32)))), (0, .ref a), (1, .int x1)]) hc dX9_round_94 hN (by decide) rfl ?_
        refine pv_iconst (0 : Int32) hc dX9_round_96 rfl ?_
        refine pv_istore (L' := [(5, .int (0 : Int32)), (4, .int x1), (3, .int (gA s8 27 i11)), (2, .int (v4 &&& (((1 : Int32) <<< (x1 &&& 31)) ^^^ (-1 : Int32)))), (0, .ref a), (1, .int x1)]) hc dX9_round_97 hN (by decide) rfl ?_
        refine pv_sub [4, 3, 2, 1, 0] rfl ?_
        refine LP4_el (P := fun v12 v13 v14 s15 => V X 0 0 (wp G a 7 s15) [(0, .ref a), (2, .int v12), (3, .int (gA s8 27 i11)), (4, .int v13), (5, .int v14)] [] 99) ?_ FU _ _ _ _ h
        intro rec16 hrec16 v12 v13 v14 s15 h
        refine pv_iload 4 hc dX9_round_99 rfl ?_
        refine pv_iload_n 2 hc dX9_round_101 rfl rfl ?_
        refine pv_icmp_ge (tgt := 187) hc dX9_round_102 (by decide) h (fun h => ?_) (fun h => ?_)
        · refine pv_aload_n 0 hc dX9_round_187 rfl rfl ?_
          refine pv_iload_n 2 hc dX9_round_188 rfl rfl ?_
          obtain ⟨s17, hs17, h⟩ := LT_el h
          refine m_put_317 hc hM hs17 dX9_round_189 ?_
          refine pv_iload_n 2 hc dX9_round_192 rfl rfl ?_
          exact pv_iret hc hr hQ (e_i2 h) (e_w2 h) dX9_round_193
        · refine pv_iconst (0 : Int32) hc dX9_round_105 rfl ?_
          refine pv_istore (L' := [(6, .int (0 : Int32)), (0, .ref a), (2, .int v12), (3, .int (gA s8 27 i11)), (4, .int v13), (5, .int v14)]) hc dX9_round_106 hN (by decide) rfl ?_
          refine pv_sub [1, 2, 3, 4, 5, 0] rfl ?_
          refine LP1_el (P := fun v18 => V X 0 0 (wp G a 7 s15) [(0, .ref a), (2, .int v12), (3, .int (gA s8 27 i11)), (4, .int v13), (5, .int v14), (6, .int v18)] [] 108) ?_ FU _ h
          intro rec19 hrec19 v18 h
          refine pv_aload_n 0 hc dX9_round_108 rfl rfl ?_
          refine m_get_98 hc hM (wp_at G a 7 s15) dX9_round_109 ?_
          refine pv_bipush (6 : Int32) hc dX9_round_112 rfl ?_
          refine pv_iload 3 hc dX9_round_114 rfl ?_
          refine pv_iadd hc dX9_round_116 ?_
          obtain ⟨i20, hi20, h⟩ := IX_el h
          refine m_ald_14 hc hM (wp_at G a 7 s15) hi20 dX9_round_117 ?_
          refine pv_iload 5 hc dX9_round_118 rfl ?_
          obtain ⟨v22, hf21, h⟩ := BD_el h
          refine m_call_181 hc (m_has_ok hf21) (by decide) (Nat.le_of_ble_eq_true rfl) dX9_round_120 ?_
          refine pv_if_eq (tgt := 153) hc dX9_round_123 (by decide) h (fun h => ?_) (fun h => ?_)
          · refine pv_iinc (L' := [(6, .int (v18 + (1 : Int32))), (0, .ref a), (2, .int v12), (3, .int (gA s8 27 i11)), (4, .int v13), (5, .int v14)]) 5 (v18 + (1 : Int32)) hc dX9_round_153 rfl rfl hN (by decide) rfl ?_
            refine pv_goto (tgt := 108) hc dX9_round_156 (by decide) ?_
            refine pv_sub [1, 2, 3, 4, 5, 0] rfl ?_
            exact hrec19 _ h
          · refine pv_aload_n 0 hc dX9_round_126 rfl rfl ?_
            refine m_get_136 hc hM (wp_at G a 7 s15) dX9_round_127 ?_
            refine pv_iload 5 hc dX9_round_130 rfl ?_
            refine pv_iload_n 1 hc dX9_round_132 rfl rfl ?_
            refine pv_iconst (1 : Int32) hc dX9_round_133 rfl ?_
            refine pv_iload 5 hc dX9_round_134 rfl ?_
            refine pv_ishl hc dX9_round_136 ?_
            refine pv_iconst (-1 : Int32) hc dX9_round_137 rfl ?_
            refine pv_ixor hc dX9_round_138 ?_
            refine pv_iand hc dX9_round_139 ?_
            obtain ⟨v24, hf23, h⟩ := BD_el h
            refine m_call_311 hc (m_cellOf_ok hf23) (by decide) (Nat.le_of_ble_eq_true rfl) dX9_round_140 ?_
            obtain ⟨i25, hi25, h⟩ := IX_el h
            refine m_ald_27 hc hM (wp_at G a 7 s15) hi25 dX9_round_143 ?_
            refine pv_iload_n 2 hc dX9_round_144 rfl rfl ?_
            refine pv_iload 4 hc dX9_round_145 rfl ?_
            refine pv_isub hc dX9_round_147 ?_
            refine pv_iconst (1 : Int32) hc dX9_round_148 rfl ?_
            refine pv_isub hc dX9_round_149 ?_
            refine pv_icmp_eq (tgt := 159) hc dX9_round_150 (by decide) h (fun h => ?_) (fun h => ?_)
            · refine pv_aload_n 0 hc dX9_round_159 rfl rfl ?_
              refine m_get_139 hc hM (wp_at G a 7 s15) dX9_round_160 ?_
              refine pv_iload 4 hc dX9_round_163 rfl ?_
              refine pv_iload 5 hc dX9_round_165 rfl ?_
              obtain ⟨i26, hi26, h⟩ := IX_el h
              obtain ⟨s27, hs27, h⟩ := LT_el h
              refine m_ast_28 hc hM hi26 hs27 dX9_round_167 ?_
              refine pv_iload_n 1 hc dX9_round_168 rfl rfl ?_
              refine pv_iconst (1 : Int32) hc dX9_round_169 rfl ?_
              refine pv_iload 5 hc dX9_round_170 rfl ?_
              refine pv_ishl hc dX9_round_172 ?_
              refine pv_iconst (-1 : Int32) hc dX9_round_173 rfl ?_
              refine pv_ixor hc dX9_round_174 ?_
              refine pv_iand hc dX9_round_175 ?_
              refine pv_istore_n (L' := [(2, .int (v12 &&& (((1 : Int32) <<< (v18 &&& 31)) ^^^ (-1 : Int32)))), (0, .ref a), (3, .int (gA s8 27 i11)), (4, .int v13), (5, .int v14), (6, .int v18)]) hc dX9_round_176 rfl hN (by decide) rfl ?_
              refine pv_iload 5 hc dX9_round_177 rfl ?_
              refine pv_istore (L' := [(4, .int v18), (2, .int (v12 &&& (((1 : Int32) <<< (v18 &&& 31)) ^^^ (-1 : Int32)))), (0, .ref a), (3, .int (gA s8 27 i11)), (5, .int v14), (6, .int v18)]) hc dX9_round_179 hN (by decide) rfl ?_
              refine pv_iinc (L' := [(5, .int (v14 + (1 : Int32))), (4, .int v18), (2, .int (v12 &&& (((1 : Int32) <<< (v18 &&& 31)) ^^^ (-1 : Int32)))), (0, .ref a), (3, .int (gA s8 27 i11)), (6, .int v18)]) 4 (v14 + (1 : Int32)) hc dX9_round_181 rfl rfl hN (by decide) rfl ?_
              refine pv_goto (tgt := 99) hc dX9_round_184 (by decide) ?_
              refine pv_sub [3, 2, 4, 1, 0] rfl ?_
              exact hrec16 _ _ _ _ h
            · refine pv_iinc (L' := [(6, .int (v18 + (1 : Int32))), (0, .ref a), (2, .int v12), (3, .int (gA s8 27 i11)), (4, .int v13), (5, .int v14)]) 5 (v18 + (1 : Int32)) hc dX9_round_153 rfl rfl hN (by decide) rfl ?_
              refine pv_goto (tgt := 108) hc dX9_round_156 (by decide) ?_
              refine pv_sub [1, 2, 3, 4, 5, 0] rfl ?_
              exact hrec19 _ h
      · refine pv_iconst (-1 : Int32) hc dX9_round_91 rfl ?_
        exact pv_iret hc hr hQ (e_i2 h) (e_w2 h) dX9_round_92
    · refine pv_aload_n 0 hc dX9_round_29 rfl rfl ?_
      refine m_get_98 hc hM (wp_at G a 7 s1) dX9_round_30 ?_
      refine pv_bipush (32 : Int32) hc dX9_round_33 rfl ?_
      refine pv_iload_n 3 hc dX9_round_35 rfl rfl ?_
      refine pv_iadd hc dX9_round_36 ?_
      obtain ⟨i28, hi28, h⟩ := IX_el h
      refine m_ald_14 hc hM (wp_at G a 7 s1) hi28 dX9_round_37 ?_
      refine pv_if_le (tgt := 55) hc dX9_round_38 (by decide) h (fun h => ?_) (fun h => ?_)
      · refine pv_iinc (L' := [(3, .int (v5 + (1 : Int32))), (0, .ref a), (1, .int x1), (2, .int v4)]) 3 (v5 + (1 : Int32)) hc dX9_round_55 rfl rfl hN (by decide) rfl ?_
        refine pv_goto (tgt := 19) hc dX9_round_58 (by decide) ?_
        refine pv_sub [1, 2, 3, 0] rfl ?_
        exact hrec6 _ _ h
      · refine pv_iload_n 2 hc dX9_round_41 rfl rfl ?_
        refine pv_iconst (1 : Int32) hc dX9_round_42 rfl ?_
        refine pv_aload_n 0 hc dX9_round_43 rfl rfl ?_
        refine m_get_98 hc hM (wp_at G a 7 s1) dX9_round_44 ?_
        refine pv_bipush (26 : Int32) hc dX9_round_47 rfl ?_
        refine pv_iload_n 3 hc dX9_round_49 rfl rfl ?_
        refine pv_iadd hc dX9_round_50 ?_
        obtain ⟨i29, hi29, h⟩ := IX_el h
        refine m_ald_14 hc hM (wp_at G a 7 s1) hi29 dX9_round_51 ?_
        refine pv_ishl hc dX9_round_52 ?_
        refine pv_ior hc dX9_round_53 ?_
        refine pv_istore_n (L' := [(2, .int (v4 ||| ((1 : Int32) <<< ((gA s1 14 i29) &&& 31)))), (0, .ref a), (1, .int x1), (3, .int v5)]) hc dX9_round_54 rfl hN (by decide) rfl ?_
        refine pv_iinc (L' := [(3, .int (v5 + (1 : Int32))), (2, .int (v4 ||| ((1 : Int32) <<< ((gA s1 14 i29) &&& 31)))), (0, .ref a), (1, .int x1)]) 3 (v5 + (1 : Int32)) hc dX9_round_55 rfl rfl hN (by decide) rfl ?_
        refine pv_goto (tgt := 19) hc dX9_round_58 (by decide) ?_
        refine pv_sub [2, 3, 1, 0] rfl ?_
        exact hrec6 _ _ h
  · refine pv_iconst (-1 : Int32) hc dX9_round_13 rfl ?_
    exact pv_iret hc hr hQ (e_i2 h) (e_w2 h) dX9_round_14
def m_roundAt (s : Rec) (x1 : Int32) : Option (Int32 × Rec) := LT (sI s 0 (0 : Int32)) (fun s1 => BD (m_isIn x1 (0 : Int32) ((gI s1 29) - (1 : Int32))) (fun v3 => (if v3 = 0 then some ((-1 : Int32), s1) else IX x1 32 (fun i4 => some ((gA s1 28 i4), s1)))))
set_option maxHeartbeats 4000000 in
theorem m_roundAt_ok {l : Launch} {g : Gh} {G : Wd} (hM : MOK g) {a : Nat} {s : Rec} (hG : G.2 a = some (7, s)) {x1 : Int32} {r : Int32} {s' : Rec} (hf : m_roundAt s x1 = some (r, s')) : MT l g yX9_roundAt cX9_roundAt 2 (some .int) 2 G [.ref a, .int x1] (some (.int r)) (wp G a 7 s') := by
  refine pv_start (by decide) (Nat.le_of_ble_eq_true rfl) ?_
  intro X hl hg hN hc hr _ _ _ hQ
  subst hl; subst hg
  refine pv_G (wp_id hG) ?_
  have h := hf
  unfold m_roundAt at h
  show V X 0 0 _ [(0, .ref a), (1, .int x1)] [] 0
  refine pv_aload_n 0 hc dX9_roundAt_0 rfl rfl ?_
  refine pv_iconst (0 : Int32) hc dX9_roundAt_1 rfl ?_
  obtain ⟨s1, hs1, h⟩ := LT_el h
  refine m_put_1 hc hM hs1 dX9_roundAt_2 ?_
  refine pv_iload_n 1 hc dX9_roundAt_5 rfl rfl ?_
  refine pv_iconst (0 : Int32) hc dX9_roundAt_6 rfl ?_
  refine pv_aload_n 0 hc dX9_roundAt_7 rfl rfl ?_
  refine m_get_317 hc hM (wp_at G a 7 s1) dX9_roundAt_8 ?_
  refine pv_iconst (1 : Int32) hc dX9_roundAt_11 rfl ?_
  refine pv_isub hc dX9_roundAt_12 ?_
  obtain ⟨v3, hf2, h⟩ := BD_el h
  refine m_call_75 hc (m_isIn_ok hf2) (by decide) (Nat.le_of_ble_eq_true rfl) dX9_roundAt_13 ?_
  refine pv_if_eq (tgt := 28) hc dX9_roundAt_16 (by decide) h (fun h => ?_) (fun h => ?_)
  · refine pv_iconst (-1 : Int32) hc dX9_roundAt_28 rfl ?_
    exact pv_iret hc hr hQ (e_i2 h) (e_w2 h) dX9_roundAt_29
  · refine pv_aload_n 0 hc dX9_roundAt_19 rfl rfl ?_
    refine m_get_139 hc hM (wp_at G a 7 s1) dX9_roundAt_20 ?_
    refine pv_iload_n 1 hc dX9_roundAt_23 rfl rfl ?_
    obtain ⟨i4, hi4, h⟩ := IX_el h
    refine m_ald_28 hc hM (wp_at G a 7 s1) hi4 dX9_roundAt_24 ?_
    refine pv_goto (tgt := 29) hc dX9_roundAt_25 (by decide) ?_
    exact pv_iret hc hr hQ (e_i2 h) (e_w2 h) dX9_roundAt_29
def m_choose (s : Rec) (x1 : Int32) (x2 : Int32) : Option Rec := LT (sA s 30 0 x1) (fun s1 => LT (sA s1 30 1 x2) (fun s2 => LT (sA s2 30 2 (gI s2 32)) (fun s3 => some s3)))
set_option maxHeartbeats 4000000 in
theorem m_choose_ok {l : Launch} {g : Gh} {G : Wd} (hM : MOK g) {a : Nat} {s : Rec} (hG : G.2 a = some (7, s)) {x1 : Int32} {x2 : Int32} {s' : Rec} (hf : m_choose s x1 x2 = some s') : MT l g yX9_choose cX9_choose 3 none 1 G [.ref a, .int x1, .int x2] none (wp G a 7 s') := by
  refine pv_start (by decide) (Nat.le_of_ble_eq_true rfl) ?_
  intro X hl hg hN hc hr _ _ _ hQ
  subst hl; subst hg
  refine pv_G (wp_id hG) ?_
  have h := hf
  unfold m_choose at h
  show V X 0 0 _ [(0, .ref a), (1, .int x1), (2, .int x2)] [] 0
  refine pv_aload_n 0 hc dX9_choose_0 rfl rfl ?_
  refine m_get_142 hc hM (wp_at G a 7 s) dX9_choose_1 ?_
  refine pv_iconst (0 : Int32) hc dX9_choose_4 rfl ?_
  refine pv_iload_n 1 hc dX9_choose_5 rfl rfl ?_
  obtain ⟨s1, hs1, h⟩ := LT_el h
  refine m_ast_30 hc hM (vp_lit (j := 0) (by decide)) hs1 dX9_choose_6 ?_
  refine pv_aload_n 0 hc dX9_choose_7 rfl rfl ?_
  refine m_get_142 hc hM (wp_at G a 7 s1) dX9_choose_8 ?_
  refine pv_iconst (1 : Int32) hc dX9_choose_11 rfl ?_
  refine pv_iload_n 2 hc dX9_choose_12 rfl rfl ?_
  obtain ⟨s2, hs2, h⟩ := LT_el h
  refine m_ast_30 hc hM (vp_lit (j := 1) (by decide)) hs2 dX9_choose_13 ?_
  refine pv_aload_n 0 hc dX9_choose_14 rfl rfl ?_
  refine m_get_142 hc hM (wp_at G a 7 s2) dX9_choose_15 ?_
  refine pv_iconst (2 : Int32) hc dX9_choose_18 rfl ?_
  refine pv_aload_n 0 hc dX9_choose_19 rfl rfl ?_
  refine m_get_320 hc hM (wp_at G a 7 s2) dX9_choose_20 ?_
  obtain ⟨s3, hs3, h⟩ := LT_el h
  refine m_ast_30 hc hM (vp_lit (j := 2) (by decide)) hs3 dX9_choose_23 ?_
  exact pv_vret hc hr hQ rfl (e_w1 h) dX9_choose_24
def m_fewestSee (s : Rec)  : Option (Int32 × Rec) := LP3 (fun (rec4 : Int32 → Int32 → Rec → Option (Int32 × Rec)) (v1 : Int32) (v2 : Int32) (s3 : Rec) => (if (gA s3 14 0) ≤ v2 then some (v1, s3) else LP2 (fun (rec7 : Int32 → Int32 → Option (Int32 × Rec)) (v5 : Int32) (v6 : Int32) => (if (gA s3 14 1) ≤ v6 then (if v5 < v1 then LT (sI s3 32 v2) (fun s8 => rec4 v5 (v2 + (1 : Int32)) s8) else rec4 v1 (v2 + (1 : Int32)) s3) else BD (m_seesOf s3 v6 (0 : Int32)) (fun v10 => BD (m_has v10 v2) (fun v12 => (if v12 = 0 then rec7 v5 (v6 + (1 : Int32)) else rec7 (v5 + (1 : Int32)) (v6 + (1 : Int32))))))) FU (0 : Int32) (0 : Int32))) FU (100000 : Int32) (0 : Int32) s
set_option maxHeartbeats 4000000 in
theorem m_fewestSee_ok {l : Launch} {g : Gh} {G : Wd} (hM : MOK g) {a : Nat} {s : Rec} (hG : G.2 a = some (7, s))  {r : Int32} {s' : Rec} (hf : m_fewestSee s  = some (r, s')) : MT l g yX9_fewestSee cX9_fewestSee 5 (some .int) 4 G [.ref a] (some (.int r)) (wp G a 7 s') := by
  refine pv_start (by decide) (Nat.le_of_ble_eq_true rfl) ?_
  intro X hl hg hN hc hr _ _ _ hQ
  subst hl; subst hg
  refine pv_G (wp_id hG) ?_
  have h := hf
  unfold m_fewestSee at h
  show V X 0 0 _ [(0, .ref a)] [] 0
  refine pv_ldcw hc q1984 dX9_fewestSee_0 ?_
  refine pv_istore_n (L' := [(1, .int (100000 : Int32)), (0, .ref a)]) hc dX9_fewestSee_3 rfl hN (by decide) rfl ?_
  refine pv_iconst (0 : Int32) hc dX9_fewestSee_4 rfl ?_
  refine pv_istore_n (L' := [(2, .int (0 : Int32)), (1, .int (100000 : Int32)), (0, .ref a)]) hc dX9_fewestSee_5 rfl hN (by decide) rfl ?_
  refine pv_sub [2, 1, 0] rfl ?_
  refine LP3_el (P := fun v1 v2 s3 => V X 0 0 (wp G a 7 s3) [(0, .ref a), (1, .int v1), (2, .int v2)] [] 6) ?_ FU _ _ _ h
  intro rec4 hrec4 v1 v2 s3 h
  refine pv_iload_n 2 hc dX9_fewestSee_6 rfl rfl ?_
  refine pv_aload_n 0 hc dX9_fewestSee_7 rfl rfl ?_
  refine m_get_98 hc hM (wp_at G a 7 s3) dX9_fewestSee_8 ?_
  refine pv_iconst (0 : Int32) hc dX9_fewestSee_11 rfl ?_
  refine m_ald_14 hc hM (wp_at G a 7 s3) (vp_lit (j := 0) (by decide)) dX9_fewestSee_12 ?_
  refine pv_icmp_ge (tgt := 76) hc dX9_fewestSee_13 (by decide) h (fun h => ?_) (fun h => ?_)
  · refine pv_iload_n 1 hc dX9_fewestSee_76 rfl rfl ?_
    exact pv_iret hc hr hQ (e_i2 h) (e_w2 h) dX9_fewestSee_77
  · refine pv_iconst (0 : Int32) hc dX9_fewestSee_16 rfl ?_
    refine pv_istore_n (L' := [(3, .int (0 : Int32)), (0, .ref a), (1, .int v1), (2, .int v2)]) hc dX9_fewestSee_17 rfl hN (by decide) rfl ?_
    refine pv_iconst (0 : Int32) hc dX9_fewestSee_18 rfl ?_
    refine pv_istore (L' := [(4, .int (0 : Int32)), (3, .int (0 : Int32)), (0, .ref a), (1, .int v1), (2, .int v2)]) hc dX9_fewestSee_19 hN (by decide) rfl ?_
    refine pv_sub [2, 3, 4, 1, 0] rfl ?_
    refine LP2_el (P := fun v5 v6 => V X 0 0 (wp G a 7 s3) [(0, .ref a), (1, .int v1), (2, .int v2), (3, .int v5), (4, .int v6)] [] 21) ?_ FU _ _ h
    intro rec7 hrec7 v5 v6 h
    refine pv_iload 4 hc dX9_fewestSee_21 rfl ?_
    refine pv_aload_n 0 hc dX9_fewestSee_23 rfl rfl ?_
    refine m_get_98 hc hM (wp_at G a 7 s3) dX9_fewestSee_24 ?_
    refine pv_iconst (1 : Int32) hc dX9_fewestSee_27 rfl ?_
    refine m_ald_14 hc hM (wp_at G a 7 s3) (vp_lit (j := 1) (by decide)) dX9_fewestSee_28 ?_
    refine pv_icmp_ge (tgt := 55) hc dX9_fewestSee_29 (by decide) h (fun h => ?_) (fun h => ?_)
    · refine pv_iload_n 3 hc dX9_fewestSee_55 rfl rfl ?_
      refine pv_iload_n 1 hc dX9_fewestSee_56 rfl rfl ?_
      refine pv_icmp_lt (tgt := 63) hc dX9_fewestSee_57 (by decide) h (fun h => ?_) (fun h => ?_)
      · refine pv_iload_n 3 hc dX9_fewestSee_63 rfl rfl ?_
        refine pv_istore_n (L' := [(1, .int v5), (0, .ref a), (2, .int v2), (3, .int v5), (4, .int v6)]) hc dX9_fewestSee_64 rfl hN (by decide) rfl ?_
        refine pv_aload_n 1 hc dX9_fewestSee_65 rfl rfl ?_
        refine pv_iload_n 2 hc dX9_fewestSee_66 rfl rfl ?_
        obtain ⟨s8, hs8, h⟩ := LT_el h
        refine m_put_320 hc hM hs8 dX9_fewestSee_67 ?_
        refine pv_iinc (L' := [(2, .int (v2 + (1 : Int32))), (1, .int v5), (0, .ref a), (3, .int v5), (4, .int v6)]) 2 (v2 + (1 : Int32)) hc dX9_fewestSee_70 rfl rfl hN (by decide) rfl ?_
        refine pv_goto (tgt := 6) hc dX9_fewestSee_73 (by decide) ?_
        refine pv_sub [2, 1, 0] rfl ?_
        exact hrec4 _ _ _ h
      · refine pv_goto (tgt := 70) hc dX9_fewestSee_60 (by decide) ?_
        refine pv_iinc (L' := [(2, .int (v2 + (1 : Int32))), (0, .ref a), (1, .int v1), (3, .int v5), (4, .int v6)]) 2 (v2 + (1 : Int32)) hc dX9_fewestSee_70 rfl rfl hN (by decide) rfl ?_
        refine pv_goto (tgt := 6) hc dX9_fewestSee_73 (by decide) ?_
        refine pv_sub [1, 2, 0] rfl ?_
        exact hrec4 _ _ _ h
    · refine pv_aload_n 0 hc dX9_fewestSee_32 rfl rfl ?_
      refine pv_iload 4 hc dX9_fewestSee_33 rfl ?_
      refine pv_iconst (0 : Int32) hc dX9_fewestSee_35 rfl ?_
      obtain ⟨v10, hf9, h⟩ := BD_el h
      refine m_call_250 hc hM (wp_at G a 7 s3) (m_seesOf_ok hM (wp_at G a 7 s3) hf9) (by decide) (Nat.le_of_ble_eq_true rfl) dX9_fewestSee_36 ?_
      refine pv_iload_n 2 hc dX9_fewestSee_39 rfl rfl ?_
      obtain ⟨v12, hf11, h⟩ := BD_el h
      refine m_call_181 hc (m_has_ok hf11) (by decide) (Nat.le_of_ble_eq_true rfl) dX9_fewestSee_40 ?_
      refine pv_if_eq (tgt := 49) hc dX9_fewestSee_43 (by decide) h (fun h => ?_) (fun h => ?_)
      · refine pv_iinc (L' := [(4, .int (v6 + (1 : Int32))), (0, .ref a), (1, .int v1), (2, .int v2), (3, .int v5)]) 4 (v6 + (1 : Int32)) hc dX9_fewestSee_49 rfl rfl hN (by decide) rfl ?_
        refine pv_goto (tgt := 21) hc dX9_fewestSee_52 (by decide) ?_
        refine pv_sub [1, 2, 3, 4, 0] rfl ?_
        exact hrec7 _ _ h
      · refine pv_iinc (L' := [(3, .int (v5 + (1 : Int32))), (0, .ref a), (1, .int v1), (2, .int v2), (4, .int v6)]) 3 (v5 + (1 : Int32)) hc dX9_fewestSee_46 rfl rfl hN (by decide) rfl ?_
        refine pv_iinc (L' := [(4, .int (v6 + (1 : Int32))), (3, .int (v5 + (1 : Int32))), (0, .ref a), (1, .int v1), (2, .int v2)]) 4 (v6 + (1 : Int32)) hc dX9_fewestSee_49 rfl rfl hN (by decide) rfl ?_
        refine pv_goto (tgt := 21) hc dX9_fewestSee_52 (by decide) ?_
        refine pv_sub [2, 3, 4, 1, 0] rfl ?_
        exact hrec7 _ _ h
def m_choice (s : Rec)  : Option (Int32 × Rec) := LT (sI s 0 (0 : Int32)) (fun s1 => (if (gA s1 14 0) = 0 then some ((-1 : Int32), s1) else BD2 (m_fewestSee s1) (fun v3 s4 => BD (m_choose s4 (-1 : Int32) (-1 : Int32)) (fun s6 => LT (sI s6 31 (1 : Int32)) (fun s7 => LP3 (fun (rec11 : Int32 → Int32 → Rec → Option (Int32 × Rec)) (v8 : Int32) (v9 : Int32) (s10 : Rec) => (if (gA s10 14 1) ≤ v9 then some (v8, s10) else IX ((26 : Int32) + v9) 406 (fun i12 => LP3 (fun (rec16 : Int32 → Int32 → Rec → Option (Int32 × Rec)) (v13 : Int32) (v14 : Int32) (s15 : Rec) => (if (gA s15 14 0) ≤ v14 then IX ((26 : Int32) + v9) 406 (fun i17 => LT (sA s15 14 i17 (gA s10 14 i12)) (fun s18 => rec11 v13 (v9 + (1 : Int32)) s18)) else (if v14 = (gA s10 14 i12) then rec16 v13 (v14 + (1 : Int32)) s15 else IX ((26 : Int32) + v9) 406 (fun i19 => LT (sA s15 14 i19 v14) (fun s20 => BD2 (m_fewestSee s20) (fun v22 s23 => (if v13 < v22 then BD (m_choose s23 v9 v14) (fun s25 => rec16 v22 (v14 + (1 : Int32)) s25) else rec16 v13 (v14 + (1 : Int32)) s23))))))) FU v8 (0 : Int32) s10))) FU v3 (0 : Int32) s7)))))
set_option maxHeartbeats 4000000 in
theorem m_choice_ok {l : Launch} {g : Gh} {G : Wd} (hM : MOK g) {a : Nat} {s : Rec} (hG : G.2 a = some (7, s))  {r : Int32} {s' : Rec} (hf : m_choice s  = some (r, s')) : MT l g yX9_choice cX9_choice 6 (some .int) 5 G [.ref a] (some (.int r)) (wp G a 7 s') := by
  refine pv_start (by decide) (Nat.le_of_ble_eq_true rfl) ?_
  intro X hl hg hN hc hr _ _ _ hQ
  subst hl; subst hg
  refine pv_G (wp_id hG) ?_
  have h := hf
  unfold m_choice at h
  show V X 0 0 _ [(0, .ref a)] [] 0
  refine pv_aload_n 0 hc dX9_choice_0 rfl rfl ?_
  refine pv_iconst (0 : Int32) hc dX9_choice_1 rfl ?_
  obtain ⟨s1, hs1, h⟩ := LT_el h
  refine m_put_1 hc hM hs1 dX9_choice_2 ?_
  refine pv_aload_n 0 hc dX9_choice_5 rfl rfl ?_
  refine m_get_98 hc hM (wp_at G a 7 s1) dX9_choice_6 ?_
  refine pv_iconst (0 : Int32) hc dX9_choice_9 rfl ?_
  refine m_ald_14 hc hM (wp_at G a 7 s1) (vp_lit (j := 0) (by decide)) dX9_choice_10 ?_
  refine pv_if_ne (tgt := 16) hc dX9_choice_11 (by decide) h (fun h => ?_) (fun h => ?_)
  · refine pv_aload_n 0 hc dX9_choice_16 rfl rfl ?_
    obtain ⟨v3, s4, hf2, h⟩ := BD2_el h
    refine m_call_323 hc hM (m_fewestSee_ok hM (wp_at G a 7 s1) hf2) (by decide) (Nat.le_of_ble_eq_true rfl) dX9_choice_17 ?_
    refine pv_istore_n (L' := [(1, .int v3), (0, .ref a)]) hc dX9_choice_20 rfl hN (by decide) rfl ?_
    refine pv_aload_n 1 hc dX9_choice_21 rfl rfl ?_
    refine pv_iconst (-1 : Int32) hc dX9_choice_22 rfl ?_
    refine pv_iconst (-1 : Int32) hc dX9_choice_23 rfl ?_
    obtain ⟨s6, hf5, h⟩ := BD_el h
    refine m_call_326 hc hM (m_choose_ok hM (wp_at G a 7 s4) hf5) (by decide) (Nat.le_of_ble_eq_true rfl) dX9_choice_24 ?_
    refine pv_aload_n 1 hc dX9_choice_27 rfl rfl ?_
    refine pv_iconst (1 : Int32) hc dX9_choice_28 rfl ?_
    obtain ⟨s7, hs7, h⟩ := LT_el h
    refine m_put_330 hc hM (by decide) hs7 dX9_choice_29 ?_
    refine pv_iconst (0 : Int32) hc dX9_choice_32 rfl ?_
    refine pv_istore_n (L' := [(2, .int (0 : Int32)), (1, .int v3), (0, .ref a)]) hc dX9_choice_33 rfl hN (by decide) rfl ?_
    refine pv_sub [2, 1, 0] rfl ?_
    refine LP3_el (P := fun v8 v9 s10 => V X 0 0 (wp G a 7 s10) [(0, .ref a), (1, .int v8), (2, .int v9)] [] 34) ?_ FU _ _ _ h
    intro rec11 hrec11 v8 v9 s10 h
    refine pv_iload_n 2 hc dX9_choice_34 rfl rfl ?_
    refine pv_aload_n 0 hc dX9_choice_35 rfl rfl ?_
    refine m_get_98 hc hM (wp_at G a 7 s10) dX9_choice_36 ?_
    refine pv_iconst (1 : Int32) hc dX9_choice_39 rfl ?_
    refine m_ald_14 hc hM (wp_at G a 7 s10) (vp_lit (j := 1) (by decide)) dX9_choice_40 ?_
    refine pv_icmp_ge (tgt := 135) hc dX9_choice_41 (by decide) h (fun h => ?_) (fun h => ?_)
    · refine pv_iload_n 1 hc dX9_choice_135 rfl rfl ?_
      exact pv_iret hc hr hQ (e_i2 h) (e_w2 h) dX9_choice_136
    · refine pv_aload_n 0 hc dX9_choice_44 rfl rfl ?_
      refine m_get_98 hc hM (wp_at G a 7 s10) dX9_choice_45 ?_
      refine pv_bipush (26 : Int32) hc dX9_choice_48 rfl ?_
      refine pv_iload_n 2 hc dX9_choice_50 rfl rfl ?_
      refine pv_iadd hc dX9_choice_51 ?_
      obtain ⟨i12, hi12, h⟩ := IX_el h
      refine m_ald_14 hc hM (wp_at G a 7 s10) hi12 dX9_choice_52 ?_
      refine pv_istore_n (L' := [(3, .int (gA s10 14 i12)), (0, .ref a), (1, .int v8), (2, .int v9)]) hc dX9_choice_53 rfl hN (by decide) rfl ?_
      refine pv_iconst (0 : Int32) hc dX9_choice_54 rfl ?_
      refine pv_istore (L' := [(4, .int (0 : Int32)), (3, .int (gA s10 14 i12)), (0, .ref a), (1, .int v8), (2, .int v9)]) hc dX9_choice_55 hN (by decide) rfl ?_
      refine pv_sub [2, 3, 4, 1, 0] rfl ?_
      refine LP3_el (P := fun v13 v14 s15 => V X 0 0 (wp G a 7 s15) [(0, .ref a), (1, .int v13), (2, .int v9), (3, .int (gA s10 14 i12)), (4, .int v14)] [] 57) ?_ FU _ _ _ h
      intro rec16 hrec16 v13 v14 s15 h
      refine pv_iload 4 hc dX9_choice_57 rfl ?_
      refine pv_aload_n 0 hc dX9_choice_59 rfl rfl ?_
      refine m_get_98 hc hM (wp_at G a 7 s15) dX9_choice_60 ?_
      refine pv_iconst (0 : Int32) hc dX9_choice_63 rfl ?_
      refine m_ald_14 hc hM (wp_at G a 7 s15) (vp_lit (j := 0) (by decide)) dX9_choice_64 ?_
      refine pv_icmp_ge (tgt := 119) hc dX9_choice_65 (by decide) h (fun h => ?_) (fun h => ?_)
      · refine pv_aload_n 0 hc dX9_choice_119 rfl rfl ?_
        refine m_get_98 hc hM (wp_at G a 7 s15) dX9_choice_120 ?_
        refine pv_bipush (26 : Int32) hc dX9_choice_123 rfl ?_
        refine pv_iload_n 2 hc dX9_choice_125 rfl rfl ?_
        refine pv_iadd hc dX9_choice_126 ?_
        refine pv_iload_n 3 hc dX9_choice_127 rfl rfl ?_
        obtain ⟨i17, hi17, h⟩ := IX_el h
        obtain ⟨s18, hs18, h⟩ := LT_el h
        refine m_ast_14 hc hM hi17 hs18 dX9_choice_128 ?_
        refine pv_iinc (L' := [(2, .int (v9 + (1 : Int32))), (0, .ref a), (1, .int v13), (3, .int (gA s10 14 i12)), (4, .int v14)]) 2 (v9 + (1 : Int32)) hc dX9_choice_129 rfl rfl hN (by decide) rfl ?_
        refine pv_goto (tgt := 34) hc dX9_choice_132 (by decide) ?_
        refine pv_sub [1, 2, 0] rfl ?_
        exact hrec11 _ _ _ h
      · refine pv_iload 4 hc dX9_choice_68 rfl ?_
        refine pv_iload_n 3 hc dX9_choice_70 rfl rfl ?_
        refine pv_icmp_ne (tgt := 77) hc dX9_choice_71 (by decide) h (fun h => ?_) (fun h => ?_)
        · refine pv_aload_n 0 hc dX9_choice_77 rfl rfl ?_
          refine m_get_98 hc hM (wp_at G a 7 s15) dX9_choice_78 ?_
          refine pv_bipush (26 : Int32) hc dX9_choice_81 rfl ?_
          refine pv_iload_n 2 hc dX9_choice_83 rfl rfl ?_
          refine pv_iadd hc dX9_choice_84 ?_
          refine pv_iload 4 hc dX9_choice_85 rfl ?_
          obtain ⟨i19, hi19, h⟩ := IX_el h
          obtain ⟨s20, hs20, h⟩ := LT_el h
          refine m_ast_14 hc hM hi19 hs20 dX9_choice_87 ?_
          refine pv_aload_n 0 hc dX9_choice_88 rfl rfl ?_
          obtain ⟨v22, s23, hf21, h⟩ := BD2_el h
          refine m_call_323 hc hM (m_fewestSee_ok hM (wp_at G a 7 s20) hf21) (by decide) (Nat.le_of_ble_eq_true rfl) dX9_choice_89 ?_
          refine pv_istore (L' := [(5, .int v22), (0, .ref a), (1, .int v13), (2, .int v9), (3, .int (gA s10 14 i12)), (4, .int v14)]) hc dX9_choice_92 hN (by decide) rfl ?_
          refine pv_iload 0 hc dX9_choice_94 rfl ?_
          refine pv_iload_n 2 hc dX9_choice_96 rfl rfl ?_
          refine pv_icmp_gt (tgt := 103) hc dX9_choice_97 (by decide) h (fun h => ?_) (fun h => ?_)
          · refine pv_iload 0 hc dX9_choice_103 rfl ?_
            refine pv_istore_n (L' := [(1, .int v22), (5, .int v22), (0, .ref a), (2, .int v9), (3, .int (gA s10 14 i12)), (4, .int v14)]) hc dX9_choice_105 rfl hN (by decide) rfl ?_
            refine pv_aload_n 2 hc dX9_choice_106 rfl rfl ?_
            refine pv_iload_n 3 hc dX9_choice_107 rfl rfl ?_
            refine pv_iload 5 hc dX9_choice_108 rfl ?_
            obtain ⟨s25, hf24, h⟩ := BD_el h
            refine m_call_326 hc hM (m_choose_ok hM (wp_at G a 7 s23) hf24) (by decide) (Nat.le_of_ble_eq_true rfl) dX9_choice_110 ?_
            refine pv_iinc (L' := [(4, .int (v14 + (1 : Int32))), (1, .int v22), (5, .int v22), (0, .ref a), (2, .int v9), (3, .int (gA s10 14 i12))]) 5 (v14 + (1 : Int32)) hc dX9_choice_113 rfl rfl hN (by decide) rfl ?_
            refine pv_goto (tgt := 57) hc dX9_choice_116 (by decide) ?_
            refine pv_sub [3, 1, 4, 5, 0] rfl ?_
            exact hrec16 _ _ _ h
          · refine pv_goto (tgt := 113) hc dX9_choice_100 (by decide) ?_
            refine pv_iinc (L' := [(4, .int (v14 + (1 : Int32))), (5, .int v22), (0, .ref a), (1, .int v13), (2, .int v9), (3, .int (gA s10 14 i12))]) 5 (v14 + (1 : Int32)) hc dX9_choice_113 rfl rfl hN (by decide) rfl ?_
            refine pv_goto (tgt := 57) hc dX9_choice_116 (by decide) ?_
            refine pv_sub [2, 3, 4, 5, 0] rfl ?_
            exact hrec16 _ _ _ h
        · refine pv_goto (tgt := 113) hc dX9_choice_74 (by decide) ?_
          refine pv_iinc (L' := [(4, .int (v14 + (1 : Int32))), (0, .ref a), (1, .int v13), (2, .int v9), (3, .int (gA s10 14 i12))]) 4 (v14 + (1 : Int32)) hc dX9_choice_113 rfl rfl hN (by decide) rfl ?_
          refine pv_goto (tgt := 57) hc dX9_choice_116 (by decide) ?_
          refine pv_sub [1, 2, 3, 4, 0] rfl ?_
          exact hrec16 _ _ _ h
  · refine pv_iconst (-1 : Int32) hc dX9_choice_14 rfl ?_
    exact pv_iret hc hr hQ (e_i2 h) (e_w2 h) dX9_choice_15
def m_chosen (s : Rec) (x1 : Int32) : Option (Int32 × Rec) := LT (sI s 0 (0 : Int32)) (fun s1 => (if (gI s1 31) = 0 then some ((-1 : Int32), s1) else BD (m_isIn x1 (0 : Int32) (2 : Int32)) (fun v3 => (if v3 = 0 then some ((-1 : Int32), s1) else IX x1 3 (fun i4 => some ((gA s1 30 i4), s1))))))
set_option maxHeartbeats 4000000 in
theorem m_chosen_ok {l : Launch} {g : Gh} {G : Wd} (hM : MOK g) {a : Nat} {s : Rec} (hG : G.2 a = some (7, s)) {x1 : Int32} {r : Int32} {s' : Rec} (hf : m_chosen s x1 = some (r, s')) : MT l g yX9_chosen cX9_chosen 2 (some .int) 2 G [.ref a, .int x1] (some (.int r)) (wp G a 7 s') := by
  refine pv_start (by decide) (Nat.le_of_ble_eq_true rfl) ?_
  intro X hl hg hN hc hr _ _ _ hQ
  subst hl; subst hg
  refine pv_G (wp_id hG) ?_
  have h := hf
  unfold m_chosen at h
  show V X 0 0 _ [(0, .ref a), (1, .int x1)] [] 0
  refine pv_aload_n 0 hc dX9_chosen_0 rfl rfl ?_
  refine pv_iconst (0 : Int32) hc dX9_chosen_1 rfl ?_
  obtain ⟨s1, hs1, h⟩ := LT_el h
  refine m_put_1 hc hM hs1 dX9_chosen_2 ?_
  refine pv_aload_n 0 hc dX9_chosen_5 rfl rfl ?_
  refine m_get_330 hc hM (wp_at G a 7 s1) dX9_chosen_6 ?_
  refine pv_if_eq (tgt := 30) hc dX9_chosen_9 (by decide) h (fun h => ?_) (fun h => ?_)
  · refine pv_iconst (-1 : Int32) hc dX9_chosen_30 rfl ?_
    exact pv_iret hc hr hQ (e_i2 h) (e_w2 h) dX9_chosen_31
  · refine pv_iload_n 1 hc dX9_chosen_12 rfl rfl ?_
    refine pv_iconst (0 : Int32) hc dX9_chosen_13 rfl ?_
    refine pv_iconst (2 : Int32) hc dX9_chosen_14 rfl ?_
    obtain ⟨v3, hf2, h⟩ := BD_el h
    refine m_call_75 hc (m_isIn_ok hf2) (by decide) (Nat.le_of_ble_eq_true rfl) dX9_chosen_15 ?_
    refine pv_if_eq (tgt := 30) hc dX9_chosen_18 (by decide) h (fun h => ?_) (fun h => ?_)
    · refine pv_iconst (-1 : Int32) hc dX9_chosen_30 rfl ?_
      exact pv_iret hc hr hQ (e_i2 h) (e_w2 h) dX9_chosen_31
    · refine pv_aload_n 0 hc dX9_chosen_21 rfl rfl ?_
      refine m_get_142 hc hM (wp_at G a 7 s1) dX9_chosen_22 ?_
      refine pv_iload_n 1 hc dX9_chosen_25 rfl rfl ?_
      obtain ⟨i4, hi4, h⟩ := IX_el h
      refine m_ald_30 hc hM (wp_at G a 7 s1) hi4 dX9_chosen_26 ?_
      refine pv_goto (tgt := 31) hc dX9_chosen_27 (by decide) ?_
      exact pv_iret hc hr hQ (e_i2 h) (e_w2 h) dX9_chosen_31
def m_elder (s : Rec)  : Option (Int32 × Rec) := LT (sI s 0 (0 : Int32)) (fun s1 => LP3 (fun (rec5 : Int32 → Int32 → Int32 → Option (Int32 × Rec)) (v2 : Int32) (v3 : Int32) (v4 : Int32) => (if (gA s1 14 1) ≤ v4 then some (v2, s1) else BD (m_shownBy s1 v4 (1 : Int32)) (fun v7 => BD (m_bits v7) (fun v9 => (if v3 < v9 then rec5 v4 v9 (v4 + (1 : Int32)) else rec5 v2 v3 (v4 + (1 : Int32))))))) FU (-1 : Int32) (0 : Int32) (0 : Int32))
set_option maxHeartbeats 4000000 in
theorem m_elder_ok {l : Launch} {g : Gh} {G : Wd} (hM : MOK g) {a : Nat} {s : Rec} (hG : G.2 a = some (7, s))  {r : Int32} {s' : Rec} (hf : m_elder s  = some (r, s')) : MT l g yX9_elder cX9_elder 5 (some .int) 4 G [.ref a] (some (.int r)) (wp G a 7 s') := by
  refine pv_start (by decide) (Nat.le_of_ble_eq_true rfl) ?_
  intro X hl hg hN hc hr _ _ _ hQ
  subst hl; subst hg
  refine pv_G (wp_id hG) ?_
  have h := hf
  unfold m_elder at h
  show V X 0 0 _ [(0, .ref a)] [] 0
  refine pv_aload_n 0 hc dX9_elder_0 rfl rfl ?_
  refine pv_iconst (0 : Int32) hc dX9_elder_1 rfl ?_
  obtain ⟨s1, hs1, h⟩ := LT_el h
  refine m_put_1 hc hM hs1 dX9_elder_2 ?_
  refine pv_iconst (-1 : Int32) hc dX9_elder_5 rfl ?_
  refine pv_istore_n (L' := [(1, .int (-1 : Int32)), (0, .ref a)]) hc dX9_elder_6 rfl hN (by decide) rfl ?_
  refine pv_iconst (0 : Int32) hc dX9_elder_7 rfl ?_
  refine pv_istore_n (L' := [(2, .int (0 : Int32)), (1, .int (-1 : Int32)), (0, .ref a)]) hc dX9_elder_8 rfl hN (by decide) rfl ?_
  refine pv_iconst (0 : Int32) hc dX9_elder_9 rfl ?_
  refine pv_istore_n (L' := [(3, .int (0 : Int32)), (2, .int (0 : Int32)), (1, .int (-1 : Int32)), (0, .ref a)]) hc dX9_elder_10 rfl hN (by decide) rfl ?_
  refine pv_sub [3, 2, 1, 0] rfl ?_
  refine LP3_el (P := fun v2 v3 v4 => V X 0 0 (wp G a 7 s1) [(0, .ref a), (1, .int v2), (2, .int v3), (3, .int v4)] [] 11) ?_ FU _ _ _ h
  intro rec5 hrec5 v2 v3 v4 h
  refine pv_iload_n 3 hc dX9_elder_11 rfl rfl ?_
  refine pv_aload_n 0 hc dX9_elder_12 rfl rfl ?_
  refine m_get_98 hc hM (wp_at G a 7 s1) dX9_elder_13 ?_
  refine pv_iconst (1 : Int32) hc dX9_elder_16 rfl ?_
  refine m_ald_14 hc hM (wp_at G a 7 s1) (vp_lit (j := 1) (by decide)) dX9_elder_17 ?_
  refine pv_icmp_ge (tgt := 52) hc dX9_elder_18 (by decide) h (fun h => ?_) (fun h => ?_)
  · refine pv_iload_n 1 hc dX9_elder_52 rfl rfl ?_
    exact pv_iret hc hr hQ (e_i2 h) (e_w2 h) dX9_elder_53
  · refine pv_aload_n 0 hc dX9_elder_21 rfl rfl ?_
    refine pv_iload_n 3 hc dX9_elder_22 rfl rfl ?_
    refine pv_iconst (1 : Int32) hc dX9_elder_23 rfl ?_
    obtain ⟨v7, hf6, h⟩ := BD_el h
    refine m_call_253 hc hM (wp_at G a 7 s1) (m_shownBy_ok hM (wp_at G a 7 s1) hf6) (by decide) (Nat.le_of_ble_eq_true rfl) dX9_elder_24 ?_
    obtain ⟨v9, hf8, h⟩ := BD_el h
    refine m_call_238 hc (m_bits_ok hf8) (by decide) (Nat.le_of_ble_eq_true rfl) dX9_elder_27 ?_
    refine pv_istore (L' := [(4, .int v9), (0, .ref a), (1, .int v2), (2, .int v3), (3, .int v4)]) hc dX9_elder_30 hN (by decide) rfl ?_
    refine pv_iload 0 hc dX9_elder_32 rfl ?_
    refine pv_iload_n 3 hc dX9_elder_34 rfl rfl ?_
    refine pv_icmp_gt (tgt := 41) hc dX9_elder_35 (by decide) h (fun h => ?_) (fun h => ?_)
    · refine pv_iload 0 hc dX9_elder_41 rfl ?_
      refine pv_istore_n (L' := [(2, .int v9), (4, .int v9), (0, .ref a), (1, .int v2), (3, .int v4)]) hc dX9_elder_43 rfl hN (by decide) rfl ?_
      refine pv_iload_n 4 hc dX9_elder_44 rfl rfl ?_
      refine pv_istore_n (L' := [(1, .int v4), (2, .int v9), (4, .int v9), (0, .ref a), (3, .int v4)]) hc dX9_elder_45 rfl hN (by decide) rfl ?_
      refine pv_iinc (L' := [(3, .int (v4 + (1 : Int32))), (1, .int v4), (2, .int v9), (4, .int v9), (0, .ref a)]) 4 (v4 + (1 : Int32)) hc dX9_elder_46 rfl rfl hN (by decide) rfl ?_
      refine pv_goto (tgt := 11) hc dX9_elder_49 (by decide) ?_
      refine pv_sub [4, 1, 2, 0] rfl ?_
      exact hrec5 _ _ _ h
    · refine pv_goto (tgt := 46) hc dX9_elder_38 (by decide) ?_
      refine pv_iinc (L' := [(3, .int (v4 + (1 : Int32))), (4, .int v9), (0, .ref a), (1, .int v2), (2, .int v3)]) 4 (v4 + (1 : Int32)) hc dX9_elder_46 rfl rfl hN (by decide) rfl ?_
      refine pv_goto (tgt := 11) hc dX9_elder_49 (by decide) ?_
      refine pv_sub [2, 3, 4, 0] rfl ?_
      exact hrec5 _ _ _ h
def m_write (s : Rec) (x1 : Int32) : Option Rec := IX (gI s 34) 64 (fun i1 => LT (sA s 33 i1 x1) (fun s2 => LT (sI s2 34 ((gI s2 34) + (1 : Int32))) (fun s3 => some s3)))
set_option maxHeartbeats 4000000 in
theorem m_write_ok {l : Launch} {g : Gh} {G : Wd} (hM : MOK g) {a : Nat} {s : Rec} (hG : G.2 a = some (7, s)) {x1 : Int32} {s' : Rec} (hf : m_write s x1 = some s') : MT l g yX9_write cX9_write 2 none 1 G [.ref a, .int x1] none (wp G a 7 s') := by
  refine pv_start (by decide) (Nat.le_of_ble_eq_true rfl) ?_
  intro X hl hg hN hc hr _ _ _ hQ
  subst hl; subst hg
  refine pv_G (wp_id hG) ?_
  have h := hf
  unfold m_write at h
  show V X 0 0 _ [(0, .ref a), (1, .int x1)] [] 0
  refine pv_aload_n 0 hc dX9_write_0 rfl rfl ?_
  refine m_get_145 hc hM (wp_at G a 7 s) dX9_write_1 ?_
  refine pv_aload_n 0 hc dX9_write_4 rfl rfl ?_
  refine m_get_334 hc hM (wp_at G a 7 s) dX9_write_5 ?_
  refine pv_iload_n 1 hc dX9_write_8 rfl rfl ?_
  obtain ⟨i1, hi1, h⟩ := IX_el h
  obtain ⟨s2, hs2, h⟩ := LT_el h
  refine m_ast_33 hc hM hi1 hs2 dX9_write_9 ?_
  refine pv_aload_n 0 hc dX9_write_10 rfl rfl ?_
  refine pv_dup hc dX9_write_11 rfl ?_
  refine m_get_334 hc hM (wp_at G a 7 s2) dX9_write_12 ?_
  refine pv_iconst (1 : Int32) hc dX9_write_15 rfl ?_
  refine pv_iadd hc dX9_write_16 ?_
  obtain ⟨s3, hs3, h⟩ := LT_el h
  refine m_put_334 hc hM hs3 dX9_write_17 ?_
  exact pv_vret hc hr hQ rfl (e_w1 h) dX9_write_20
def b_writeWord (rc : Rec → Int64 → Option Rec) (s : Rec) (x1 : Int64) : Option Rec := JN1 (fun (s1 : Rec) => NZL (27 : Int64) (BD (m_write s1 ((96 : Int32) + (Int64.toInt32 (x1 - x1 / (27 : Int64) * (27 : Int64))))) (fun s5 => some s5))) (fun (j2 : Rec → Option Rec) => (if (lg_cmp x1 (27 : Int64)) < 0 then j2 s else NZL (27 : Int64) (BD (rc s (x1 / (27 : Int64))) (fun s8 => j2 s8))))
set_option maxHeartbeats 4000000 in
theorem b_writeWord_ok {l : Launch} {g : Gh} {G : Wd} {N : Nat} {rc : Rec → Int64 → Option Rec} (hM : MOK g) (hrc_writeWord : ∀ {G : Wd} {a : Nat} {s : Rec}, G.2 a = some (7, s) → ∀ {y0 : Int64} {s' : Rec}, rc s y0 = some s' → MT l g yX9_writeWord cX9_writeWord 3 none (2 + N) G [.ref a, .long y0] none (wp G a 7 s')) {a : Nat} {s : Rec} (hG : G.2 a = some (7, s)) {x1 : Int64} {s' : Rec} (hf : b_writeWord rc s x1 = some s') : MT l g yX9_writeWord cX9_writeWord 3 none (2 + N + 1) G [.ref a, .long x1] none (wp G a 7 s') := by
  refine pv_start (by decide) (Nat.le_of_ble_eq_true rfl) ?_
  intro X hl hg hN hc hr _ _ _ hQ
  subst hl; subst hg
  refine pv_G (wp_id hG) ?_
  have h := hf
  unfold b_writeWord at h
  show V X 0 0 _ [(0, .ref a), (1, .long x1)] [] 0
  refine pv_lload_n 1 hc dX9_writeWord_0 rfl rfl ?_
  refine pv_ldc2 hc q1733 dX9_writeWord_1 ?_
  refine pv_lcmp hc dX9_writeWord_4 ?_
  obtain ⟨j2, hj2, h⟩ := JN1_el (P := fun s1 => V X 0 0 (wp G a 7 s1) [(0, .ref a), (1, .long x1)] [] 17) h (by
      intro s1 h
      refine pv_aload_n 0 hc dX9_writeWord_17 rfl rfl ?_
      refine pv_bipush (96 : Int32) hc dX9_writeWord_18 rfl ?_
      refine pv_lload_n 1 hc dX9_writeWord_20 rfl rfl ?_
      refine pv_ldc2 hc q1733 dX9_writeWord_21 ?_
      obtain ⟨hz3, h⟩ := NZL_el h
      refine pv_lrem hc dX9_writeWord_24 hz3 ?_
      refine pv_l2i hc dX9_writeWord_25 ?_
      refine pv_iadd hc dX9_writeWord_26 ?_
      obtain ⟨s5, hf4, h⟩ := BD_el h
      refine m_call_341 hc hM (m_write_ok hM (wp_at G a 7 s1) hf4) (by omega) (Nat.le_of_ble_eq_true rfl) dX9_writeWord_27 ?_
      exact pv_vret hc hr hQ rfl (e_w1 h) dX9_writeWord_30)
  refine pv_if_lt (tgt := 17) hc dX9_writeWord_5 (by decide) h (fun h => ?_) (fun h => ?_)
  · exact hj2 _ h
  · refine pv_aload_n 0 hc dX9_writeWord_8 rfl rfl ?_
    refine pv_lload_n 1 hc dX9_writeWord_9 rfl rfl ?_
    refine pv_ldc2 hc q1733 dX9_writeWord_10 ?_
    obtain ⟨hz6, h⟩ := NZL_el h
    refine pv_ldiv hc dX9_writeWord_13 hz6 ?_
    obtain ⟨s8, hf7, h⟩ := BD_el h
    refine m_call_337 hc hM (hrc_writeWord (wp_at G a 7 s) hf7) (by omega) (Nat.le_of_ble_eq_true rfl) dX9_writeWord_14 ?_
    exact hj2 _ h
def m_writeWord : Nat → Rec → Int64 → Option Rec
  | 0, _, _ => none
  | n + 1, s, y0 => b_writeWord (m_writeWord n) s y0
theorem m_writeWord_ok {l : Launch} {g : Gh} (hM : MOK g) {n : Nat} : ∀ {G : Wd} {a : Nat} {s : Rec}, G.2 a = some (7, s) → ∀ {y0 : Int64} {s' : Rec} , m_writeWord n s y0 = some s' → MT l g yX9_writeWord cX9_writeWord 3 none (2 + n) G [.ref a, .long y0] none (wp G a 7 s') := by
  induction n with
  | zero => intro _ _ _ _; intros; rename_i h; cases h
  | succ n ih => intro _ _ _ hG; intros; rename_i h; exact b_writeWord_ok hM ih hG h
def m_writeNext (s : Rec) (x1 : Int64) : Option Rec := BD (m_write s (32 : Int32)) (fun s2 => BD (m_writeWord 59 s2 x1) (fun s4 => some s4))
set_option maxHeartbeats 4000000 in
theorem m_writeNext_ok {l : Launch} {g : Gh} {G : Wd} (hM : MOK g) {a : Nat} {s : Rec} (hG : G.2 a = some (7, s)) {x1 : Int64} {s' : Rec} (hf : m_writeNext s x1 = some s') : MT l g yX9_writeNext cX9_writeNext 3 none 63 G [.ref a, .long x1] none (wp G a 7 s') := by
  refine pv_start (by decide) (Nat.le_of_ble_eq_true rfl) ?_
  intro X hl hg hN hc hr _ _ _ hQ
  subst hl; subst hg
  refine pv_G (wp_id hG) ?_
  have h := hf
  unfold m_writeNext at h
  show V X 0 0 _ [(0, .ref a), (1, .long x1)] [] 0
  refine pv_aload_n 0 hc dX9_writeNext_0 rfl rfl ?_
  refine pv_bipush (32 : Int32) hc dX9_writeNext_1 rfl ?_
  obtain ⟨s2, hf1, h⟩ := BD_el h
  refine m_call_341 hc hM (m_write_ok hM (wp_at G a 7 s) hf1) (by decide) (Nat.le_of_ble_eq_true rfl) dX9_writeNext_3 ?_
  refine pv_aload_n 0 hc dX9_writeNext_6 rfl rfl ?_
  refine pv_lload_n 1 hc dX9_writeNext_7 rfl rfl ?_
  obtain ⟨s4, hf3, h⟩ := BD_el h
  refine m_call_337 hc hM (m_writeWord_ok hM (wp_at G a 7 s2) hf3) (by decide) (Nat.le_of_ble_eq_true rfl) dX9_writeNext_8 ?_
  exact pv_vret hc hr hQ rfl (e_w1 h) dX9_writeNext_11
def b_writeNumber (rc : Rec → Int32 → Option Rec) (s : Rec) (x1 : Int32) : Option Rec := JN1 (fun (s1 : Rec) => NZ (10 : Int32) (BD (m_write s1 ((48 : Int32) + (x1 - x1 / (10 : Int32) * (10 : Int32)))) (fun s5 => some s5))) (fun (j2 : Rec → Option Rec) => (if x1 ≤ (9 : Int32) then j2 s else NZ (10 : Int32) (BD (rc s (x1 / (10 : Int32))) (fun s8 => j2 s8))))
set_option maxHeartbeats 4000000 in
theorem b_writeNumber_ok {l : Launch} {g : Gh} {G : Wd} {N : Nat} {rc : Rec → Int32 → Option Rec} (hM : MOK g) (hrc_writeNumber : ∀ {G : Wd} {a : Nat} {s : Rec}, G.2 a = some (7, s) → ∀ {y0 : Int32} {s' : Rec}, rc s y0 = some s' → MT l g yX9_writeNumber cX9_writeNumber 2 none (2 + N) G [.ref a, .int y0] none (wp G a 7 s')) {a : Nat} {s : Rec} (hG : G.2 a = some (7, s)) {x1 : Int32} {s' : Rec} (hf : b_writeNumber rc s x1 = some s') : MT l g yX9_writeNumber cX9_writeNumber 2 none (2 + N + 1) G [.ref a, .int x1] none (wp G a 7 s') := by
  refine pv_start (by decide) (Nat.le_of_ble_eq_true rfl) ?_
  intro X hl hg hN hc hr _ _ _ hQ
  subst hl; subst hg
  refine pv_G (wp_id hG) ?_
  have h := hf
  unfold b_writeNumber at h
  show V X 0 0 _ [(0, .ref a), (1, .int x1)] [] 0
  refine pv_iload_n 1 hc dX9_writeNumber_0 rfl rfl ?_
  refine pv_bipush (9 : Int32) hc dX9_writeNumber_1 rfl ?_
  obtain ⟨j2, hj2, h⟩ := JN1_el (P := fun s1 => V X 0 0 (wp G a 7 s1) [(0, .ref a), (1, .int x1)] [] 14) h (by
      intro s1 h
      refine pv_aload_n 0 hc dX9_writeNumber_14 rfl rfl ?_
      refine pv_bipush (48 : Int32) hc dX9_writeNumber_15 rfl ?_
      refine pv_iload_n 1 hc dX9_writeNumber_17 rfl rfl ?_
      refine pv_bipush (10 : Int32) hc dX9_writeNumber_18 rfl ?_
      obtain ⟨hz3, h⟩ := NZ_el h
      refine pv_irem hc dX9_writeNumber_20 hz3 ?_
      refine pv_iadd hc dX9_writeNumber_21 ?_
      obtain ⟨s5, hf4, h⟩ := BD_el h
      refine m_call_341 hc hM (m_write_ok hM (wp_at G a 7 s1) hf4) (by omega) (Nat.le_of_ble_eq_true rfl) dX9_writeNumber_22 ?_
      exact pv_vret hc hr hQ rfl (e_w1 h) dX9_writeNumber_25)
  refine pv_icmp_le (tgt := 14) hc dX9_writeNumber_3 (by decide) h (fun h => ?_) (fun h => ?_)
  · exact hj2 _ h
  · refine pv_aload_n 0 hc dX9_writeNumber_6 rfl rfl ?_
    refine pv_iload_n 1 hc dX9_writeNumber_7 rfl rfl ?_
    refine pv_bipush (10 : Int32) hc dX9_writeNumber_8 rfl ?_
    obtain ⟨hz6, h⟩ := NZ_el h
    refine pv_idiv hc dX9_writeNumber_10 hz6 ?_
    obtain ⟨s8, hf7, h⟩ := BD_el h
    refine m_call_344 hc hM (hrc_writeNumber (wp_at G a 7 s) hf7) (by omega) (Nat.le_of_ble_eq_true rfl) dX9_writeNumber_11 ?_
    exact hj2 _ h
def m_writeNumber : Nat → Rec → Int32 → Option Rec
  | 0, _, _ => none
  | n + 1, s, y0 => b_writeNumber (m_writeNumber n) s y0
theorem m_writeNumber_ok {l : Launch} {g : Gh} (hM : MOK g) {n : Nat} : ∀ {G : Wd} {a : Nat} {s : Rec}, G.2 a = some (7, s) → ∀ {y0 : Int32} {s' : Rec} , m_writeNumber n s y0 = some s' → MT l g yX9_writeNumber cX9_writeNumber 2 none (2 + n) G [.ref a, .int y0] none (wp G a 7 s') := by
  induction n with
  | zero => intro _ _ _ _; intros; rename_i h; cases h
  | succ n ih => intro _ _ _ hG; intros; rename_i h; exact b_writeNumber_ok hM ih hG h
def m_card (s : Rec) (x1 : Int32) : Option (Int32 × Rec) := LT (sI s 0 (0 : Int32)) (fun s1 => BD (m_isPlant s1 x1) (fun v3 => (if v3 = 0 then some ((-1 : Int32), s1) else LT (sI s1 34 (0 : Int32)) (fun s4 => IX ((5 : Int32) + x1) 20 (fun i5 => BD (m_writeWord 59 s4 (gL s4 19 i5)) (fun s7 => BD (m_isFern s7 x1) (fun v9 => (if v9 = 0 then BD (m_spelt (104 : Int32) (97 : Int32) (115 : Int32) (0 : Int32) (0 : Int32) (0 : Int32) (0 : Int32)) (fun v11 => BD (m_writeNext s7 v11) (fun s13 => BD (m_write s13 (32 : Int32)) (fun s15 => BD (m_shownBy s15 x1 (1 : Int32)) (fun v17 => BD (m_bits v17) (fun v19 => BD (m_writeNumber 59 s15 v19) (fun s21 => BD (m_seesOf s21 x1 (0 : Int32)) (fun v23 => (if v23 = 0 then BD (m_wordOf (14 : Int32)) (fun v25 => BD (m_writeNext s21 v25) (fun s27 => some ((gI s27 34), s27))) else some ((gI s21 34), s21))))))))) else BD (m_spelt (105 : Int32) (115 : Int32) (0 : Int32) (0 : Int32) (0 : Int32) (0 : Int32) (0 : Int32)) (fun v29 => BD (m_writeNext s7 v29) (fun s31 => BD (m_spelt (97 : Int32) (0 : Int32) (0 : Int32) (0 : Int32) (0 : Int32) (0 : Int32) (0 : Int32)) (fun v33 => BD (m_writeNext s31 v33) (fun s35 => BD (m_wordOf (15 : Int32)) (fun v37 => BD (m_writeNext s35 v37) (fun s39 => some ((gI s39 34), s39)))))))))))))))
set_option maxHeartbeats 4000000 in
theorem m_card_ok {l : Launch} {g : Gh} {G : Wd} (hM : MOK g) {a : Nat} {s : Rec} (hG : G.2 a = some (7, s)) {x1 : Int32} {r : Int32} {s' : Rec} (hf : m_card s x1 = some (r, s')) : MT l g yX9_card cX9_card 2 (some .int) 64 G [.ref a, .int x1] (some (.int r)) (wp G a 7 s') := by
  refine pv_start (by decide) (Nat.le_of_ble_eq_true rfl) ?_
  intro X hl hg hN hc hr _ _ _ hQ
  subst hl; subst hg
  refine pv_G (wp_id hG) ?_
  have h := hf
  unfold m_card at h
  show V X 0 0 _ [(0, .ref a), (1, .int x1)] [] 0
  refine pv_aload_n 0 hc dX9_card_0 rfl rfl ?_
  refine pv_iconst (0 : Int32) hc dX9_card_1 rfl ?_
  obtain ⟨s1, hs1, h⟩ := LT_el h
  refine m_put_1 hc hM hs1 dX9_card_2 ?_
  refine pv_aload_n 0 hc dX9_card_5 rfl rfl ?_
  refine pv_iload_n 1 hc dX9_card_6 rfl rfl ?_
  obtain ⟨v3, hf2, h⟩ := BD_el h
  refine m_call_244 hc hM (wp_at G a 7 s1) (m_isPlant_ok hM (wp_at G a 7 s1) hf2) (by decide) (Nat.le_of_ble_eq_true rfl) dX9_card_7 ?_
  refine pv_if_ne (tgt := 15) hc dX9_card_10 (by decide) h (fun h => ?_) (fun h => ?_)
  · refine pv_aload_n 0 hc dX9_card_15 rfl rfl ?_
    refine pv_iconst (0 : Int32) hc dX9_card_16 rfl ?_
    obtain ⟨s4, hs4, h⟩ := LT_el h
    refine m_put_334 hc hM hs4 dX9_card_17 ?_
    refine pv_aload_n 0 hc dX9_card_20 rfl rfl ?_
    refine pv_aload_n 0 hc dX9_card_21 rfl rfl ?_
    refine m_get_113 hc hM (wp_at G a 7 s4) dX9_card_22 ?_
    refine pv_iconst (5 : Int32) hc dX9_card_25 rfl ?_
    refine pv_iload_n 1 hc dX9_card_26 rfl rfl ?_
    refine pv_iadd hc dX9_card_27 ?_
    obtain ⟨i5, hi5, h⟩ := IX_el h
    refine m_ald_19 hc hM (wp_at G a 7 s4) hi5 dX9_card_28 ?_
    obtain ⟨s7, hf6, h⟩ := BD_el h
    refine m_call_337 hc hM (m_writeWord_ok hM (wp_at G a 7 s4) hf6) (by decide) (Nat.le_of_ble_eq_true rfl) dX9_card_29 ?_
    refine pv_aload_n 0 hc dX9_card_32 rfl rfl ?_
    refine pv_iload_n 1 hc dX9_card_33 rfl rfl ?_
    obtain ⟨v9, hf8, h⟩ := BD_el h
    refine m_call_218 hc hM (wp_at G a 7 s7) (m_isFern_ok hM (wp_at G a 7 s7) hf8) (by decide) (Nat.le_of_ble_eq_true rfl) dX9_card_34 ?_
    refine pv_if_eq (tgt := 85) hc dX9_card_37 (by decide) h (fun h => ?_) (fun h => ?_)
    · refine pv_aload_n 0 hc dX9_card_85 rfl rfl ?_
      refine pv_bipush (104 : Int32) hc dX9_card_86 rfl ?_
      refine pv_bipush (97 : Int32) hc dX9_card_88 rfl ?_
      refine pv_bipush (115 : Int32) hc dX9_card_90 rfl ?_
      refine pv_iconst (0 : Int32) hc dX9_card_92 rfl ?_
      refine pv_iconst (0 : Int32) hc dX9_card_93 rfl ?_
      refine pv_iconst (0 : Int32) hc dX9_card_94 rfl ?_
      refine pv_iconst (0 : Int32) hc dX9_card_95 rfl ?_
      obtain ⟨v11, hf10, h⟩ := BD_el h
      refine m_call_58 hc (m_spelt_ok hf10) (by decide) (Nat.le_of_ble_eq_true rfl) dX9_card_96 ?_
      obtain ⟨s13, hf12, h⟩ := BD_el h
      refine m_call_347 hc hM (m_writeNext_ok hM (wp_at G a 7 s7) hf12) (by decide) (Nat.le_of_ble_eq_true rfl) dX9_card_99 ?_
      refine pv_aload_n 0 hc dX9_card_102 rfl rfl ?_
      refine pv_bipush (32 : Int32) hc dX9_card_103 rfl ?_
      obtain ⟨s15, hf14, h⟩ := BD_el h
      refine m_call_341 hc hM (m_write_ok hM (wp_at G a 7 s13) hf14) (by decide) (Nat.le_of_ble_eq_true rfl) dX9_card_105 ?_
      refine pv_aload_n 0 hc dX9_card_108 rfl rfl ?_
      refine pv_aload_n 0 hc dX9_card_109 rfl rfl ?_
      refine pv_iload_n 1 hc dX9_card_110 rfl rfl ?_
      refine pv_iconst (1 : Int32) hc dX9_card_111 rfl ?_
      obtain ⟨v17, hf16, h⟩ := BD_el h
      refine m_call_253 hc hM (wp_at G a 7 s15) (m_shownBy_ok hM (wp_at G a 7 s15) hf16) (by decide) (Nat.le_of_ble_eq_true rfl) dX9_card_112 ?_
      obtain ⟨v19, hf18, h⟩ := BD_el h
      refine m_call_238 hc (m_bits_ok hf18) (by decide) (Nat.le_of_ble_eq_true rfl) dX9_card_115 ?_
      obtain ⟨s21, hf20, h⟩ := BD_el h
      refine m_call_344 hc hM (m_writeNumber_ok hM (wp_at G a 7 s15) hf20) (by decide) (Nat.le_of_ble_eq_true rfl) dX9_card_118 ?_
      refine pv_aload_n 0 hc dX9_card_121 rfl rfl ?_
      refine pv_iload_n 1 hc dX9_card_122 rfl rfl ?_
      refine pv_iconst (0 : Int32) hc dX9_card_123 rfl ?_
      obtain ⟨v23, hf22, h⟩ := BD_el h
      refine m_call_250 hc hM (wp_at G a 7 s21) (m_seesOf_ok hM (wp_at G a 7 s21) hf22) (by decide) (Nat.le_of_ble_eq_true rfl) dX9_card_124 ?_
      refine pv_if_ne (tgt := 139) hc dX9_card_127 (by decide) h (fun h => ?_) (fun h => ?_)
      · refine pv_aload_n 0 hc dX9_card_139 rfl rfl ?_
        refine m_get_334 hc hM (wp_at G a 7 s21) dX9_card_140 ?_
        exact pv_iret hc hr hQ (e_i2 h) (e_w2 h) dX9_card_143
      · refine pv_aload_n 0 hc dX9_card_130 rfl rfl ?_
        refine pv_bipush (14 : Int32) hc dX9_card_131 rfl ?_
        obtain ⟨v25, hf24, h⟩ := BD_el h
        refine m_call_62 hc (m_wordOf_ok hf24) (by decide) (Nat.le_of_ble_eq_true rfl) dX9_card_133 ?_
        obtain ⟨s27, hf26, h⟩ := BD_el h
        refine m_call_347 hc hM (m_writeNext_ok hM (wp_at G a 7 s21) hf26) (by decide) (Nat.le_of_ble_eq_true rfl) dX9_card_136 ?_
        refine pv_aload_n 0 hc dX9_card_139 rfl rfl ?_
        refine m_get_334 hc hM (wp_at G a 7 s27) dX9_card_140 ?_
        exact pv_iret hc hr hQ (e_i2 h) (e_w2 h) dX9_card_143
    · refine pv_aload_n 0 hc dX9_card_40 rfl rfl ?_
      refine pv_bipush (105 : Int32) hc dX9_card_41 rfl ?_
      refine pv_bipush (115 : Int32) hc dX9_card_43 rfl ?_
      refine pv_iconst (0 : Int32) hc dX9_card_45 rfl ?_
      refine pv_iconst (0 : Int32) hc dX9_card_46 rfl ?_
      refine pv_iconst (0 : Int32) hc dX9_card_47 rfl ?_
      refine pv_iconst (0 : Int32) hc dX9_card_48 rfl ?_
      refine pv_iconst (0 : Int32) hc dX9_card_49 rfl ?_
      obtain ⟨v29, hf28, h⟩ := BD_el h
      refine m_call_58 hc (m_spelt_ok hf28) (by decide) (Nat.le_of_ble_eq_true rfl) dX9_card_50 ?_
      obtain ⟨s31, hf30, h⟩ := BD_el h
      refine m_call_347 hc hM (m_writeNext_ok hM (wp_at G a 7 s7) hf30) (by decide) (Nat.le_of_ble_eq_true rfl) dX9_card_53 ?_
      refine pv_aload_n 0 hc dX9_card_56 rfl rfl ?_
      refine pv_bipush (97 : Int32) hc dX9_card_57 rfl ?_
      refine pv_iconst (0 : Int32) hc dX9_card_59 rfl ?_
      refine pv_iconst (0 : Int32) hc dX9_card_60 rfl ?_
      refine pv_iconst (0 : Int32) hc dX9_card_61 rfl ?_
      refine pv_iconst (0 : Int32) hc dX9_card_62 rfl ?_
      refine pv_iconst (0 : Int32) hc dX9_card_63 rfl ?_
      refine pv_iconst (0 : Int32) hc dX9_card_64 rfl ?_
      obtain ⟨v33, hf32, h⟩ := BD_el h
      refine m_call_58 hc (m_spelt_ok hf32) (by decide) (Nat.le_of_ble_eq_true rfl) dX9_card_65 ?_
      obtain ⟨s35, hf34, h⟩ := BD_el h
      refine m_call_347 hc hM (m_writeNext_ok hM (wp_at G a 7 s31) hf34) (by decide) (Nat.le_of_ble_eq_true rfl) dX9_card_68 ?_
      refine pv_aload_n 0 hc dX9_card_71 rfl rfl ?_
      refine pv_bipush (15 : Int32) hc dX9_card_72 rfl ?_
      obtain ⟨v37, hf36, h⟩ := BD_el h
      refine m_call_62 hc (m_wordOf_ok hf36) (by decide) (Nat.le_of_ble_eq_true rfl) dX9_card_74 ?_
      obtain ⟨s39, hf38, h⟩ := BD_el h
      refine m_call_347 hc hM (m_writeNext_ok hM (wp_at G a 7 s35) hf38) (by decide) (Nat.le_of_ble_eq_true rfl) dX9_card_77 ?_
      refine pv_aload_n 0 hc dX9_card_80 rfl rfl ?_
      refine m_get_334 hc hM (wp_at G a 7 s39) dX9_card_81 ?_
      exact pv_iret hc hr hQ (e_i2 h) (e_w2 h) dX9_card_84
  · refine pv_iconst (-1 : Int32) hc dX9_card_13 rfl ?_
    exact pv_iret hc hr hQ (e_i2 h) (e_w2 h) dX9_card_14
def m_byteAt (s : Rec) (x1 : Int32) : Option (Int32 × Rec) := LT (sI s 0 (0 : Int32)) (fun s1 => BD (m_isIn x1 (0 : Int32) ((gI s1 34) - (1 : Int32))) (fun v3 => (if v3 = 0 then some ((-1 : Int32), s1) else IX x1 64 (fun i4 => some ((gA s1 33 i4), s1)))))
set_option maxHeartbeats 4000000 in
theorem m_byteAt_ok {l : Launch} {g : Gh} {G : Wd} (hM : MOK g) {a : Nat} {s : Rec} (hG : G.2 a = some (7, s)) {x1 : Int32} {r : Int32} {s' : Rec} (hf : m_byteAt s x1 = some (r, s')) : MT l g yX9_byteAt cX9_byteAt 2 (some .int) 2 G [.ref a, .int x1] (some (.int r)) (wp G a 7 s') := by
  refine pv_start (by decide) (Nat.le_of_ble_eq_true rfl) ?_
  intro X hl hg hN hc hr _ _ _ hQ
  subst hl; subst hg
  refine pv_G (wp_id hG) ?_
  have h := hf
  unfold m_byteAt at h
  show V X 0 0 _ [(0, .ref a), (1, .int x1)] [] 0
  refine pv_aload_n 0 hc dX9_byteAt_0 rfl rfl ?_
  refine pv_iconst (0 : Int32) hc dX9_byteAt_1 rfl ?_
  obtain ⟨s1, hs1, h⟩ := LT_el h
  refine m_put_1 hc hM hs1 dX9_byteAt_2 ?_
  refine pv_iload_n 1 hc dX9_byteAt_5 rfl rfl ?_
  refine pv_iconst (0 : Int32) hc dX9_byteAt_6 rfl ?_
  refine pv_aload_n 0 hc dX9_byteAt_7 rfl rfl ?_
  refine m_get_334 hc hM (wp_at G a 7 s1) dX9_byteAt_8 ?_
  refine pv_iconst (1 : Int32) hc dX9_byteAt_11 rfl ?_
  refine pv_isub hc dX9_byteAt_12 ?_
  obtain ⟨v3, hf2, h⟩ := BD_el h
  refine m_call_75 hc (m_isIn_ok hf2) (by decide) (Nat.le_of_ble_eq_true rfl) dX9_byteAt_13 ?_
  refine pv_if_eq (tgt := 28) hc dX9_byteAt_16 (by decide) h (fun h => ?_) (fun h => ?_)
  · refine pv_iconst (-1 : Int32) hc dX9_byteAt_28 rfl ?_
    exact pv_iret hc hr hQ (e_i2 h) (e_w2 h) dX9_byteAt_29
  · refine pv_aload_n 0 hc dX9_byteAt_19 rfl rfl ?_
    refine m_get_145 hc hM (wp_at G a 7 s1) dX9_byteAt_20 ?_
    refine pv_iload_n 1 hc dX9_byteAt_23 rfl rfl ?_
    obtain ⟨i4, hi4, h⟩ := IX_el h
    refine m_ald_33 hc hM (wp_at G a 7 s1) hi4 dX9_byteAt_24 ?_
    refine pv_goto (tgt := 29) hc dX9_byteAt_25 (by decide) ?_
    exact pv_iret hc hr hQ (e_i2 h) (e_w2 h) dX9_byteAt_29
def m_draw (s : Rec) (x1 : Int32) : Option (Int32 × Rec) := LT (sI s 35 (((gI s 35) * (1103515245 : Int32)) + (12345 : Int32))) (fun s1 => NZ x1 (some (((ushr (gI s1 35) (8 : Int32)) - (ushr (gI s1 35) (8 : Int32)) / x1 * x1), s1)))
set_option maxHeartbeats 4000000 in
theorem m_draw_ok {l : Launch} {g : Gh} {G : Wd} (hM : MOK g) {a : Nat} {s : Rec} (hG : G.2 a = some (7, s)) {x1 : Int32} {r : Int32} {s' : Rec} (hf : m_draw s x1 = some (r, s')) : MT l g yX9_draw cX9_draw 2 (some .int) 1 G [.ref a, .int x1] (some (.int r)) (wp G a 7 s') := by
  refine pv_start (by decide) (Nat.le_of_ble_eq_true rfl) ?_
  intro X hl hg hN hc hr _ _ _ hQ
  subst hl; subst hg
  refine pv_G (wp_id hG) ?_
  have h := hf
  unfold m_draw at h
  show V X 0 0 _ [(0, .ref a), (1, .int x1)] [] 0
  refine pv_aload_n 0 hc dX9_draw_0 rfl rfl ?_
  refine pv_aload_n 0 hc dX9_draw_1 rfl rfl ?_
  refine m_get_350 hc hM (wp_at G a 7 s) dX9_draw_2 ?_
  refine pv_ldcw hc q2079 dX9_draw_5 ?_
  refine pv_imul hc dX9_draw_8 ?_
  refine pv_sipush (12345 : Int32) hc dX9_draw_9 rfl ?_
  refine pv_iadd hc dX9_draw_12 ?_
  obtain ⟨s1, hs1, h⟩ := LT_el h
  refine m_put_350 hc hM hs1 dX9_draw_13 ?_
  refine pv_aload_n 0 hc dX9_draw_16 rfl rfl ?_
  refine m_get_350 hc hM (wp_at G a 7 s1) dX9_draw_17 ?_
  refine pv_bipush (8 : Int32) hc dX9_draw_20 rfl ?_
  refine pv_iushr hc dX9_draw_22 ?_
  refine pv_iload_n 1 hc dX9_draw_23 rfl rfl ?_
  obtain ⟨hz2, h⟩ := NZ_el h
  refine pv_irem hc dX9_draw_24 hz2 ?_
  exact pv_iret hc hr hQ (e_i2 h) (e_w2 h) dX9_draw_25
def m_drawsFor (s : Rec) (x1 : Int32) : Option Rec := BD2 (m_draw s (6 : Int32)) (fun v2 s3 => JN1 (fun (s4 : Rec) => JN1 (fun (u6 : Unit) => (if (gA s4 14 1) = 0 then some s4 else BD2 (m_draw s4 (gA s4 14 1)) (fun v9 s10 => (if v2 = (1 : Int32) then BD (m_live s10 (1 : Int32) v9 (0 : Int32) (0 : Int32)) (fun s17 => some s17) else BD2 (m_draw s10 (gA s10 14 0)) (fun v12 s13 => BD (m_live s13 (2 : Int32) v9 v12 (0 : Int32)) (fun s15 => some s15)))))) (fun (j7 : Unit → Option Rec) => (if v2 = (1 : Int32) then j7 () else (if v2 = (2 : Int32) then j7 () else some s4)))) (fun (j5 : Rec → Option Rec) => (if v2 = 0 then (if (gA s3 14 3) ≤ 0 then j5 s3 else (if (gA s3 14 0) ≤ 0 then j5 s3 else BD2 (m_draw s3 (gA s3 14 3)) (fun v19 s20 => BD2 (m_draw s20 (gA s20 14 0)) (fun v22 s23 => BD (m_why s23 (0 : Int32) x1 v19) (fun v25 => (if v25 = 0 then BD (m_live s23 (0 : Int32) x1 v19 v22) (fun s27 => j5 s27) else j5 s23)))))) else j5 s3)))
set_option maxHeartbeats 4000000 in
theorem m_drawsFor_ok {l : Launch} {g : Gh} {G : Wd} (hM : MOK g) {a : Nat} {s : Rec} (hG : G.2 a = some (7, s)) {x1 : Int32} {s' : Rec} (hf : m_drawsFor s x1 = some s') : MT l g yX9_drawsFor cX9_drawsFor 5 none 6 G [.ref a, .int x1] none (wp G a 7 s') := by
  refine pv_start (by decide) (Nat.le_of_ble_eq_true rfl) ?_
  intro X hl hg hN hc hr _ _ _ hQ
  subst hl; subst hg
  refine pv_G (wp_id hG) ?_
  have h := hf
  unfold m_drawsFor at h
  show V X 0 0 _ [(0, .ref a), (1, .int x1)] [] 0
  refine pv_aload_n 0 hc dX9_drawsFor_0 rfl rfl ?_
  refine pv_bipush (6 : Int32) hc dX9_drawsFor_1 rfl ?_
  obtain ⟨v2, s3, hf1, h⟩ := BD2_el h
  refine m_call_354 hc hM (m_draw_ok hM (wp_at G a 7 s) hf1) (by decide) (Nat.le_of_ble_eq_true rfl) dX9_drawsFor_3 ?_
  refine pv_istore_n (L' := [(2, .int v2), (0, .ref a), (1, .int x1)]) hc dX9_drawsFor_6 rfl hN (by decide) rfl ?_
  refine pv_iload_n 0 hc dX9_drawsFor_7 rfl rfl ?_
  obtain ⟨j5, hj5, h⟩ := JN1_el (P := fun s4 => V X 0 0 (wp G a 7 s4) [(0, .ref a), (2, .int v2)] [] 71) h (by
      intro s4 h
      refine pv_iload_n 1 hc dX9_drawsFor_71 rfl rfl ?_
      refine pv_iconst (1 : Int32) hc dX9_drawsFor_72 rfl ?_
      obtain ⟨j7, hj7, h⟩ := JN1_el (P := fun u6 => V X 0 0 (wp G a 7 s4) [(0, .ref a), (2, .int v2)] [] 81) h (by
          intro u6 h
          refine pv_aload_n 0 hc dX9_drawsFor_81 rfl rfl ?_
          refine m_get_98 hc hM (wp_at G a 7 s4) dX9_drawsFor_82 ?_
          refine pv_iconst (1 : Int32) hc dX9_drawsFor_85 rfl ?_
          refine m_ald_14 hc hM (wp_at G a 7 s4) (vp_lit (j := 1) (by decide)) dX9_drawsFor_86 ?_
          refine pv_if_ne (tgt := 91) hc dX9_drawsFor_87 (by decide) h (fun h => ?_) (fun h => ?_)
          · refine pv_aload_n 0 hc dX9_drawsFor_91 rfl rfl ?_
            refine pv_aload_n 0 hc dX9_drawsFor_92 rfl rfl ?_
            refine m_get_98 hc hM (wp_at G a 7 s4) dX9_drawsFor_93 ?_
            refine pv_iconst (1 : Int32) hc dX9_drawsFor_96 rfl ?_
            refine m_ald_14 hc hM (wp_at G a 7 s4) (vp_lit (j := 1) (by decide)) dX9_drawsFor_97 ?_
            obtain ⟨v9, s10, hf8, h⟩ := BD2_el h
            refine m_call_354 hc hM (m_draw_ok hM (wp_at G a 7 s4) hf8) (by decide) (Nat.le_of_ble_eq_true rfl) dX9_drawsFor_98 ?_
            refine pv_istore_n (L' := [(3, .int v9), (0, .ref a), (2, .int v2)]) hc dX9_drawsFor_101 rfl hN (by decide) rfl ?_
            refine pv_iload_n 2 hc dX9_drawsFor_102 rfl rfl ?_
            refine pv_iconst (1 : Int32) hc dX9_drawsFor_103 rfl ?_
            refine pv_icmp_ne (tgt := 116) hc dX9_drawsFor_104 (by decide) h (fun h => ?_) (fun h => ?_)
            · refine pv_aload_n 1 hc dX9_drawsFor_116 rfl rfl ?_
              refine pv_iconst (2 : Int32) hc dX9_drawsFor_117 rfl ?_
              refine pv_iload_n 0 hc dX9_drawsFor_118 rfl rfl ?_
              refine pv_aload_n 1 hc dX9_drawsFor_119 rfl rfl ?_
              refine pv_aload_n 1 hc dX9_drawsFor_120 rfl rfl ?_
              refine m_get_98 hc hM (wp_at G a 7 s10) dX9_drawsFor_121 ?_
              refine pv_iconst (0 : Int32) hc dX9_drawsFor_124 rfl ?_
              refine m_ald_14 hc hM (wp_at G a 7 s10) (vp_lit (j := 0) (by decide)) dX9_drawsFor_125 ?_
              obtain ⟨v12, s13, hf11, h⟩ := BD2_el h
              refine m_call_354 hc hM (m_draw_ok hM (wp_at G a 7 s10) hf11) (by decide) (Nat.le_of_ble_eq_true rfl) dX9_drawsFor_126 ?_
              refine pv_iconst (0 : Int32) hc dX9_drawsFor_129 rfl ?_
              obtain ⟨s15, hf14, h⟩ := BD_el h
              refine m_call_282 hc hM (m_live_ok hM (wp_at G a 7 s13) hf14) (by decide) (Nat.le_of_ble_eq_true rfl) dX9_drawsFor_130 ?_
              exact pv_vret hc hr hQ rfl (e_w1 h) dX9_drawsFor_133
            · refine pv_aload_n 1 hc dX9_drawsFor_107 rfl rfl ?_
              refine pv_iconst (1 : Int32) hc dX9_drawsFor_108 rfl ?_
              refine pv_iload_n 0 hc dX9_drawsFor_109 rfl rfl ?_
              refine pv_iconst (0 : Int32) hc dX9_drawsFor_110 rfl ?_
              refine pv_iconst (0 : Int32) hc dX9_drawsFor_111 rfl ?_
              obtain ⟨s17, hf16, h⟩ := BD_el h
              refine m_call_282 hc hM (m_live_ok hM (wp_at G a 7 s10) hf16) (by decide) (Nat.le_of_ble_eq_true rfl) dX9_drawsFor_112 ?_
              exact pv_vret hc hr hQ rfl (e_w1 h) dX9_drawsFor_115
          · exact pv_vret hc hr hQ rfl (e_w1 h) dX9_drawsFor_90)
      refine pv_icmp_eq (tgt := 81) hc dX9_drawsFor_73 (by decide) h (fun h => ?_) (fun h => ?_)
      · exact hj7 _ h
      · refine pv_iload_n 1 hc dX9_drawsFor_76 rfl rfl ?_
        refine pv_iconst (2 : Int32) hc dX9_drawsFor_77 rfl ?_
        refine pv_icmp_ne (tgt := 90) hc dX9_drawsFor_78 (by decide) h (fun h => ?_) (fun h => ?_)
        · exact pv_vret hc hr hQ rfl (e_w1 h) dX9_drawsFor_90
        · exact hj7 _ h)
  refine pv_if_ne (tgt := 71) hc dX9_drawsFor_8 (by decide) h (fun h => ?_) (fun h => ?_)
  · refine pv_sub [1, 0] rfl ?_
    exact hj5 _ h
  · refine pv_aload_n 1 hc dX9_drawsFor_11 rfl rfl ?_
    refine m_get_98 hc hM (wp_at G a 7 s3) dX9_drawsFor_12 ?_
    refine pv_iconst (3 : Int32) hc dX9_drawsFor_15 rfl ?_
    refine m_ald_14 hc hM (wp_at G a 7 s3) (vp_lit (j := 3) (by decide)) dX9_drawsFor_16 ?_
    refine pv_if_le (tgt := 71) hc dX9_drawsFor_17 (by decide) h (fun h => ?_) (fun h => ?_)
    · refine pv_sub [1, 0] rfl ?_
      exact hj5 _ h
    · refine pv_aload_n 1 hc dX9_drawsFor_20 rfl rfl ?_
      refine m_get_98 hc hM (wp_at G a 7 s3) dX9_drawsFor_21 ?_
      refine pv_iconst (0 : Int32) hc dX9_drawsFor_24 rfl ?_
      refine m_ald_14 hc hM (wp_at G a 7 s3) (vp_lit (j := 0) (by decide)) dX9_drawsFor_25 ?_
      refine pv_if_le (tgt := 71) hc dX9_drawsFor_26 (by decide) h (fun h => ?_) (fun h => ?_)
      · refine pv_sub [1, 0] rfl ?_
        exact hj5 _ h
      · refine pv_aload_n 1 hc dX9_drawsFor_29 rfl rfl ?_
        refine pv_aload_n 1 hc dX9_drawsFor_30 rfl rfl ?_
        refine m_get_98 hc hM (wp_at G a 7 s3) dX9_drawsFor_31 ?_
        refine pv_iconst (3 : Int32) hc dX9_drawsFor_34 rfl ?_
        refine m_ald_14 hc hM (wp_at G a 7 s3) (vp_lit (j := 3) (by decide)) dX9_drawsFor_35 ?_
        obtain ⟨v19, s20, hf18, h⟩ := BD2_el h
        refine m_call_354 hc hM (m_draw_ok hM (wp_at G a 7 s3) hf18) (by decide) (Nat.le_of_ble_eq_true rfl) dX9_drawsFor_36 ?_
        refine pv_istore_n (L' := [(3, .int v19), (2, .int v2), (0, .ref a), (1, .int x1)]) hc dX9_drawsFor_39 rfl hN (by decide) rfl ?_
        refine pv_aload_n 2 hc dX9_drawsFor_40 rfl rfl ?_
        refine pv_aload_n 2 hc dX9_drawsFor_41 rfl rfl ?_
        refine m_get_98 hc hM (wp_at G a 7 s20) dX9_drawsFor_42 ?_
        refine pv_iconst (0 : Int32) hc dX9_drawsFor_45 rfl ?_
        refine m_ald_14 hc hM (wp_at G a 7 s20) (vp_lit (j := 0) (by decide)) dX9_drawsFor_46 ?_
        obtain ⟨v22, s23, hf21, h⟩ := BD2_el h
        refine m_call_354 hc hM (m_draw_ok hM (wp_at G a 7 s20) hf21) (by decide) (Nat.le_of_ble_eq_true rfl) dX9_drawsFor_47 ?_
        refine pv_istore (L' := [(4, .int v22), (3, .int v19), (2, .int v2), (0, .ref a), (1, .int x1)]) hc dX9_drawsFor_50 hN (by decide) rfl ?_
        refine pv_aload_n 3 hc dX9_drawsFor_52 rfl rfl ?_
        refine pv_iconst (0 : Int32) hc dX9_drawsFor_53 rfl ?_
        refine pv_iload_n 4 hc dX9_drawsFor_54 rfl rfl ?_
        refine pv_iload_n 1 hc dX9_drawsFor_55 rfl rfl ?_
        obtain ⟨v25, hf24, h⟩ := BD_el h
        refine m_call_275 hc hM (wp_at G a 7 s23) (m_why_ok hM (wp_at G a 7 s23) hf24) (by decide) (Nat.le_of_ble_eq_true rfl) dX9_drawsFor_56 ?_
        refine pv_if_ne (tgt := 71) hc dX9_drawsFor_59 (by decide) h (fun h => ?_) (fun h => ?_)
        · refine pv_sub [3, 2] rfl ?_
          exact hj5 _ h
        · refine pv_aload_n 3 hc dX9_drawsFor_62 rfl rfl ?_
          refine pv_iconst (0 : Int32) hc dX9_drawsFor_63 rfl ?_
          refine pv_iload_n 4 hc dX9_drawsFor_64 rfl rfl ?_
          refine pv_iload_n 1 hc dX9_drawsFor_65 rfl rfl ?_
          refine pv_iload 0 hc dX9_drawsFor_66 rfl ?_
          obtain ⟨s27, hf26, h⟩ := BD_el h
          refine m_call_282 hc hM (m_live_ok hM (wp_at G a 7 s23) hf26) (by decide) (Nat.le_of_ble_eq_true rfl) dX9_drawsFor_68 ?_
          refine pv_sub [3, 2] rfl ?_
          exact hj5 _ h
def m_drawDays (s : Rec) (x1 : Int32) (x2 : Int32) : Option (Int32 × Rec) := LT (sI s 35 x2) (fun s1 => BD (m_least x1 ((400 : Int32) - (gA s1 14 24))) (fun v3 => LP2 (fun (rec6 : Int32 → Rec → Option (Int32 × Rec)) (v4 : Int32) (s5 : Rec) => (if v3 ≤ v4 then some (v3, s5) else LP2 (fun (rec9 : Int32 → Rec → Option (Int32 × Rec)) (v7 : Int32) (s8 : Rec) => (if (gA s8 14 2) ≤ v7 then BD (m_oneDay s8) (fun s11 => rec6 (v4 + (1 : Int32)) s11) else BD (m_drawsFor s8 v7) (fun s13 => rec9 (v7 + (1 : Int32)) s13))) FU (0 : Int32) s5)) FU (0 : Int32) s1))
set_option maxHeartbeats 4000000 in
theorem m_drawDays_ok {l : Launch} {g : Gh} {G : Wd} (hM : MOK g) {a : Nat} {s : Rec} (hG : G.2 a = some (7, s)) {x1 : Int32} {x2 : Int32} {r : Int32} {s' : Rec} (hf : m_drawDays s x1 x2 = some (r, s')) : MT l g yX9_drawDays cX9_drawDays 6 (some .int) 7 G [.ref a, .int x1, .int x2] (some (.int r)) (wp G a 7 s') := by
  refine pv_start (by decide) (Nat.le_of_ble_eq_true rfl) ?_
  intro X hl hg hN hc hr _ _ _ hQ
  subst hl; subst hg
  refine pv_G (wp_id hG) ?_
  have h := hf
  unfold m_drawDays at h
  show V X 0 0 _ [(0, .ref a), (1, .int x1), (2, .int x2)] [] 0
  refine pv_aload_n 0 hc dX9_drawDays_0 rfl rfl ?_
  refine pv_iload_n 2 hc dX9_drawDays_1 rfl rfl ?_
  obtain ⟨s1, hs1, h⟩ := LT_el h
  refine m_put_350 hc hM hs1 dX9_drawDays_2 ?_
  refine pv_iload_n 1 hc dX9_drawDays_5 rfl rfl ?_
  refine pv_sipush (400 : Int32) hc dX9_drawDays_6 rfl ?_
  refine pv_aload_n 0 hc dX9_drawDays_9 rfl rfl ?_
  refine m_get_98 hc hM (wp_at G a 7 s1) dX9_drawDays_10 ?_
  refine pv_bipush (24 : Int32) hc dX9_drawDays_13 rfl ?_
  refine m_ald_14 hc hM (wp_at G a 7 s1) (vp_lit (j := 24) (by decide)) dX9_drawDays_15 ?_
  refine pv_isub hc dX9_drawDays_16 ?_
  obtain ⟨v3, hf2, h⟩ := BD_el h
  refine m_call_296 hc (m_least_ok hf2) (by decide) (Nat.le_of_ble_eq_true rfl) dX9_drawDays_17 ?_
  refine pv_istore_n (L' := [(3, .int v3), (0, .ref a), (1, .int x1), (2, .int x2)]) hc dX9_drawDays_20 rfl hN (by decide) rfl ?_
  refine pv_iconst (0 : Int32) hc dX9_drawDays_21 rfl ?_
  refine pv_istore (L' := [(4, .int (0 : Int32)), (3, .int v3), (0, .ref a), (1, .int x1), (2, .int x2)]) hc dX9_drawDays_22 hN (by decide) rfl ?_
  refine pv_sub [2, 1, 0] rfl ?_
  refine LP2_el (P := fun v4 s5 => V X 0 0 (wp G a 7 s5) [(0, .ref a), (3, .int v3), (4, .int v4)] [] 24) ?_ FU _ _ h
  intro rec6 hrec6 v4 s5 h
  refine pv_iload 2 hc dX9_drawDays_24 rfl ?_
  refine pv_iload_n 1 hc dX9_drawDays_26 rfl rfl ?_
  refine pv_icmp_ge (tgt := 66) hc dX9_drawDays_27 (by decide) h (fun h => ?_) (fun h => ?_)
  · refine pv_iload_n 1 hc dX9_drawDays_66 rfl rfl ?_
    exact pv_iret hc hr hQ (e_i2 h) (e_w2 h) dX9_drawDays_67
  · refine pv_iconst (0 : Int32) hc dX9_drawDays_30 rfl ?_
    refine pv_istore (L' := [(5, .int (0 : Int32)), (0, .ref a), (3, .int v3), (4, .int v4)]) hc dX9_drawDays_31 hN (by decide) rfl ?_
    refine pv_sub [1, 2, 3, 0] rfl ?_
    refine LP2_el (P := fun v7 s8 => V X 0 0 (wp G a 7 s8) [(0, .ref a), (3, .int v3), (4, .int v4), (5, .int v7)] [] 33) ?_ FU _ _ h
    intro rec9 hrec9 v7 s8 h
    refine pv_iload 3 hc dX9_drawDays_33 rfl ?_
    refine pv_aload_n 0 hc dX9_drawDays_35 rfl rfl ?_
    refine m_get_98 hc hM (wp_at G a 7 s8) dX9_drawDays_36 ?_
    refine pv_iconst (2 : Int32) hc dX9_drawDays_39 rfl ?_
    refine m_ald_14 hc hM (wp_at G a 7 s8) (vp_lit (j := 2) (by decide)) dX9_drawDays_40 ?_
    refine pv_icmp_ge (tgt := 56) hc dX9_drawDays_41 (by decide) h (fun h => ?_) (fun h => ?_)
    · refine pv_aload_n 0 hc dX9_drawDays_56 rfl rfl ?_
      obtain ⟨s11, hf10, h⟩ := BD_el h
      refine m_call_299 hc hM (m_oneDay_ok hM (wp_at G a 7 s8) hf10) (by decide) (Nat.le_of_ble_eq_true rfl) dX9_drawDays_57 ?_
      refine pv_iinc (L' := [(4, .int (v4 + (1 : Int32))), (0, .ref a), (3, .int v3), (5, .int v7)]) 2 (v4 + (1 : Int32)) hc dX9_drawDays_60 rfl rfl hN (by decide) rfl ?_
      refine pv_goto (tgt := 24) hc dX9_drawDays_63 (by decide) ?_
      refine pv_sub [1, 2, 0] rfl ?_
      exact hrec6 _ _ h
    · refine pv_aload_n 0 hc dX9_drawDays_44 rfl rfl ?_
      refine pv_iload 3 hc dX9_drawDays_45 rfl ?_
      obtain ⟨s13, hf12, h⟩ := BD_el h
      refine m_call_357 hc hM (m_drawsFor_ok hM (wp_at G a 7 s8) hf12) (by decide) (Nat.le_of_ble_eq_true rfl) dX9_drawDays_47 ?_
      refine pv_iinc (L' := [(5, .int (v7 + (1 : Int32))), (0, .ref a), (3, .int v3), (4, .int v4)]) 3 (v7 + (1 : Int32)) hc dX9_drawDays_50 rfl rfl hN (by decide) rfl ?_
      refine pv_goto (tgt := 33) hc dX9_drawDays_53 (by decide) ?_
      refine pv_sub [1, 2, 3, 0] rfl ?_
      exact hrec9 _ _ h
def m_drawn (s : Rec) (x1 : Int32) (x2 : Int32) : Option (Int32 × Rec) := LT (sI s 0 (0 : Int32)) (fun s1 => BD (m_isIn x1 (1 : Int32) (60 : Int32)) (fun v3 => (if v3 = 0 then some ((-1 : Int32), s1) else (if (gA s1 14 24) = (400 : Int32) then some ((0 : Int32), s1) else BD (m_snap s1) (fun s5 => BD2 (m_drawDays s5 x1 x2) (fun v7 s8 => some (v7, s8)))))))
set_option maxHeartbeats 4000000 in
theorem m_drawn_ok {l : Launch} {g : Gh} {G : Wd} (hM : MOK g) {a : Nat} {s : Rec} (hG : G.2 a = some (7, s)) {x1 : Int32} {x2 : Int32} {r : Int32} {s' : Rec} (hf : m_drawn s x1 x2 = some (r, s')) : MT l g yX9_drawn cX9_drawn 3 (some .int) 8 G [.ref a, .int x1, .int x2] (some (.int r)) (wp G a 7 s') := by
  refine pv_start (by decide) (Nat.le_of_ble_eq_true rfl) ?_
  intro X hl hg hN hc hr _ _ _ hQ
  subst hl; subst hg
  refine pv_G (wp_id hG) ?_
  have h := hf
  unfold m_drawn at h
  show V X 0 0 _ [(0, .ref a), (1, .int x1), (2, .int x2)] [] 0
  refine pv_aload_n 0 hc dX9_drawn_0 rfl rfl ?_
  refine pv_iconst (0 : Int32) hc dX9_drawn_1 rfl ?_
  obtain ⟨s1, hs1, h⟩ := LT_el h
  refine m_put_1 hc hM hs1 dX9_drawn_2 ?_
  refine pv_iload_n 1 hc dX9_drawn_5 rfl rfl ?_
  refine pv_iconst (1 : Int32) hc dX9_drawn_6 rfl ?_
  refine pv_bipush (60 : Int32) hc dX9_drawn_7 rfl ?_
  obtain ⟨v3, hf2, h⟩ := BD_el h
  refine m_call_75 hc (m_isIn_ok hf2) (by decide) (Nat.le_of_ble_eq_true rfl) dX9_drawn_9 ?_
  refine pv_if_ne (tgt := 17) hc dX9_drawn_12 (by decide) h (fun h => ?_) (fun h => ?_)
  · refine pv_aload_n 0 hc dX9_drawn_17 rfl rfl ?_
    refine m_get_98 hc hM (wp_at G a 7 s1) dX9_drawn_18 ?_
    refine pv_bipush (24 : Int32) hc dX9_drawn_21 rfl ?_
    refine m_ald_14 hc hM (wp_at G a 7 s1) (vp_lit (j := 24) (by decide)) dX9_drawn_23 ?_
    refine pv_sipush (400 : Int32) hc dX9_drawn_24 rfl ?_
    refine pv_icmp_ne (tgt := 32) hc dX9_drawn_27 (by decide) h (fun h => ?_) (fun h => ?_)
    · refine pv_aload_n 0 hc dX9_drawn_32 rfl rfl ?_
      obtain ⟨s5, hf4, h⟩ := BD_el h
      refine m_call_279 hc hM (m_snap_ok hM (wp_at G a 7 s1) hf4) (by decide) (Nat.le_of_ble_eq_true rfl) dX9_drawn_33 ?_
      refine pv_aload_n 0 hc dX9_drawn_36 rfl rfl ?_
      refine pv_iload_n 1 hc dX9_drawn_37 rfl rfl ?_
      refine pv_iload_n 2 hc dX9_drawn_38 rfl rfl ?_
      obtain ⟨v7, s8, hf6, h⟩ := BD2_el h
      refine m_call_360 hc hM (m_drawDays_ok hM (wp_at G a 7 s5) hf6) (by decide) (Nat.le_of_ble_eq_true rfl) dX9_drawn_39 ?_
      exact pv_iret hc hr hQ (e_i2 h) (e_w2 h) dX9_drawn_42
    · refine pv_iconst (0 : Int32) hc dX9_drawn_30 rfl ?_
      exact pv_iret hc hr hQ (e_i2 h) (e_w2 h) dX9_drawn_31
  · refine pv_iconst (-1 : Int32) hc dX9_drawn_15 rfl ?_
    exact pv_iret hc hr hQ (e_i2 h) (e_w2 h) dX9_drawn_16
def m_isProvedOf (s : Rec) (x1 : Int32) : Option Int32 := LP1 (fun (rec2 : Int32 → Option Int32) (v1 : Int32) => (if (gA s 14 25) ≤ v1 then some (0 : Int32) else IX ((38 : Int32) + v1) 406 (fun i3 => (if (gA s 14 i3) = x1 then BD (m_isProved s v1) (fun v5 => (if v5 = 0 then rec2 (v1 + (1 : Int32)) else some (1 : Int32))) else rec2 (v1 + (1 : Int32)))))) FU (0 : Int32)
set_option maxHeartbeats 4000000 in
theorem m_isProvedOf_ok {l : Launch} {g : Gh} {G : Wd} (hM : MOK g) {a : Nat} {s : Rec} (hG : G.2 a = some (7, s)) {x1 : Int32} {r : Int32} (hf : m_isProvedOf s x1 = some r) : MT l g yX9_isProvedOf cX9_isProvedOf 3 (some .boolean) 5 G [.ref a, .int x1] (some (.int r)) G := by
  refine pv_start (by decide) (Nat.le_of_ble_eq_true rfl) ?_
  intro X hl hg hN hc hr _ _ _ hQ
  subst hl; subst hg
  have h := hf
  unfold m_isProvedOf at h
  show V X 0 0 _ [(0, .ref a), (1, .int x1)] [] 0
  refine pv_iconst (0 : Int32) hc dX9_isProvedOf_0 rfl ?_
  refine pv_istore_n (L' := [(2, .int (0 : Int32)), (0, .ref a), (1, .int x1)]) hc dX9_isProvedOf_1 rfl hN (by decide) rfl ?_
  refine pv_sub [1, 2, 0] rfl ?_
  refine LP1_el (P := fun v1 => V X 0 0 G [(0, .ref a), (1, .int x1), (2, .int v1)] [] 2) ?_ FU _ h
  intro rec2 hrec2 v1 h
  refine pv_iload_n 2 hc dX9_isProvedOf_2 rfl rfl ?_
  refine pv_aload_n 0 hc dX9_isProvedOf_3 rfl rfl ?_
  refine m_get_98 hc hM hG dX9_isProvedOf_4 ?_
  refine pv_bipush (25 : Int32) hc dX9_isProvedOf_7 rfl ?_
  refine m_ald_14 hc hM hG (vp_lit (j := 25) (by decide)) dX9_isProvedOf_9 ?_
  refine pv_icmp_ge (tgt := 42) hc dX9_isProvedOf_10 (by decide) h (fun h => ?_) (fun h => ?_)
  · refine pv_iconst (0 : Int32) hc dX9_isProvedOf_42 rfl ?_
    exact pv_zret hc hr hQ (by decide) (e_i1 h) rfl dX9_isProvedOf_43
  · refine pv_aload_n 0 hc dX9_isProvedOf_13 rfl rfl ?_
    refine m_get_98 hc hM hG dX9_isProvedOf_14 ?_
    refine pv_bipush (38 : Int32) hc dX9_isProvedOf_17 rfl ?_
    refine pv_iload_n 2 hc dX9_isProvedOf_19 rfl rfl ?_
    refine pv_iadd hc dX9_isProvedOf_20 ?_
    obtain ⟨i3, hi3, h⟩ := IX_el h
    refine m_ald_14 hc hM hG hi3 dX9_isProvedOf_21 ?_
    refine pv_iload_n 1 hc dX9_isProvedOf_22 rfl rfl ?_
    refine pv_icmp_ne (tgt := 36) hc dX9_isProvedOf_23 (by decide) h (fun h => ?_) (fun h => ?_)
    · refine pv_iinc (L' := [(2, .int (v1 + (1 : Int32))), (0, .ref a), (1, .int x1)]) 2 (v1 + (1 : Int32)) hc dX9_isProvedOf_36 rfl rfl hN (by decide) rfl ?_
      refine pv_goto (tgt := 2) hc dX9_isProvedOf_39 (by decide) ?_
      refine pv_sub [1, 2, 0] rfl ?_
      exact hrec2 _ h
    · refine pv_aload_n 0 hc dX9_isProvedOf_26 rfl rfl ?_
      refine pv_iload_n 2 hc dX9_isProvedOf_27 rfl rfl ?_
      obtain ⟨v5, hf4, h⟩ := BD_el h
      refine m_call_241 hc hM hG (m_isProved_ok hM hG hf4) (by decide) (Nat.le_of_ble_eq_true rfl) dX9_isProvedOf_28 ?_
      refine pv_if_eq (tgt := 36) hc dX9_isProvedOf_31 (by decide) h (fun h => ?_) (fun h => ?_)
      · refine pv_iinc (L' := [(2, .int (v1 + (1 : Int32))), (0, .ref a), (1, .int x1)]) 2 (v1 + (1 : Int32)) hc dX9_isProvedOf_36 rfl rfl hN (by decide) rfl ?_
        refine pv_goto (tgt := 2) hc dX9_isProvedOf_39 (by decide) ?_
        refine pv_sub [1, 2, 0] rfl ?_
        exact hrec2 _ h
      · refine pv_iconst (1 : Int32) hc dX9_isProvedOf_34 rfl ?_
        exact pv_zret hc hr hQ (by decide) (e_i1 h) rfl dX9_isProvedOf_35
def m_layAside (s : Rec)  : Option Rec := LP2 (fun (rec3 : Int32 → Rec → Option Rec) (v1 : Int32) (s2 : Rec) => (if (140 : Int32) ≤ v1 then some s2 else IX ((24 : Int32) + v1) 406 (fun i4 => IX v1 140 (fun i5 => LT (sA s2 18 i5 (gA s2 14 i4)) (fun s6 => rec3 (v1 + (1 : Int32)) s6))))) FU (0 : Int32) s
set_option maxHeartbeats 4000000 in
theorem m_layAside_ok {l : Launch} {g : Gh} {G : Wd} (hM : MOK g) {a : Nat} {s : Rec} (hG : G.2 a = some (7, s))  {s' : Rec} (hf : m_layAside s  = some s') : MT l g yX9_layAside cX9_layAside 2 none 1 G [.ref a] none (wp G a 7 s') := by
  refine pv_start (by decide) (Nat.le_of_ble_eq_true rfl) ?_
  intro X hl hg hN hc hr _ _ _ hQ
  subst hl; subst hg
  refine pv_G (wp_id hG) ?_
  have h := hf
  unfold m_layAside at h
  show V X 0 0 _ [(0, .ref a)] [] 0
  refine pv_iconst (0 : Int32) hc dX9_layAside_0 rfl ?_
  refine pv_istore_n (L' := [(1, .int (0 : Int32)), (0, .ref a)]) hc dX9_layAside_1 rfl hN (by decide) rfl ?_
  refine pv_sub [1, 0] rfl ?_
  refine LP2_el (P := fun v1 s2 => V X 0 0 (wp G a 7 s2) [(0, .ref a), (1, .int v1)] [] 2) ?_ FU _ _ h
  intro rec3 hrec3 v1 s2 h
  refine pv_iload_n 1 hc dX9_layAside_2 rfl rfl ?_
  refine pv_sipush (140 : Int32) hc dX9_layAside_3 rfl ?_
  refine pv_icmp_ge (tgt := 30) hc dX9_layAside_6 (by decide) h (fun h => ?_) (fun h => ?_)
  · exact pv_vret hc hr hQ rfl (e_w1 h) dX9_layAside_30
  · refine pv_aload_n 0 hc dX9_layAside_9 rfl rfl ?_
    refine m_get_110 hc hM (wp_at G a 7 s2) dX9_layAside_10 ?_
    refine pv_iload_n 1 hc dX9_layAside_13 rfl rfl ?_
    refine pv_aload_n 0 hc dX9_layAside_14 rfl rfl ?_
    refine m_get_98 hc hM (wp_at G a 7 s2) dX9_layAside_15 ?_
    refine pv_bipush (24 : Int32) hc dX9_layAside_18 rfl ?_
    refine pv_iload_n 1 hc dX9_layAside_20 rfl rfl ?_
    refine pv_iadd hc dX9_layAside_21 ?_
    obtain ⟨i4, hi4, h⟩ := IX_el h
    refine m_ald_14 hc hM (wp_at G a 7 s2) hi4 dX9_layAside_22 ?_
    obtain ⟨i5, hi5, h⟩ := IX_el h
    obtain ⟨s6, hs6, h⟩ := LT_el h
    refine m_ast_18 hc hM hi5 hs6 dX9_layAside_23 ?_
    refine pv_iinc (L' := [(1, .int (v1 + (1 : Int32))), (0, .ref a)]) 1 (v1 + (1 : Int32)) hc dX9_layAside_24 rfl rfl hN (by decide) rfl ?_
    refine pv_goto (tgt := 2) hc dX9_layAside_27 (by decide) ?_
    refine pv_sub [1, 0] rfl ?_
    exact hrec3 _ _ h
