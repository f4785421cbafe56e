/-! ParlourLeaves' own methods that make nothing (written by gen/x4.py) -/
set_option maxRecDepth 100000
section BC4
variable {X : CX} {cc : ByteArray} {ht k n hy : Nat} {G G1 : Wd} {L : List (Nat × Value)} {st : List Value} {pc a : Nat} {r : Rec}
theorem ca_X1_149 {x0 : Int32} (hc : OK X cc RX1 ht) (hM : OKX1 (xg X)) (hG : G.2 a = some (0, r)) (hT : MT (xl X) (xg X) yX1_four cX1_four 3 none hy G [.ref a, .int x0] none G1) (hh : hy < ht) (hst : (st.map fun v => v.category).sum ≤ 8) (d : decode cc pc = .ok (.invokevirtual 149, 3)) (h : V X k n G1 L st (pc + 3)) : V X k n G L (.int x0 :: .ref a :: st) pc := fun hk hn => pv_callV (nA := 1) hc hT hG (o_X1 hM) (xk0 hM) (lw_V q636 q638 qs1 q109 q639) (by decide +kernel) ⟨hh, by decide⟩ rfl rfl hst d ⟨hk, hn⟩ h hk hn
theorem ca_X1_159  (hc : OK X cc RX1 ht) (hM : OKX1 (xg X)) (hG : G.2 a = some (0, r)) (hT : MT (xl X) (xg X) yX1_taken cX1_taken 1 none hy G [.ref a] none G1) (hh : hy < ht) (hst : (st.map fun v => v.category).sum ≤ 8) (d : decode cc pc = .ok (.invokevirtual 159, 3)) (h : V X k n G1 L st (pc + 3)) : V X k n G L (.ref a :: st) pc := fun hk hn => pv_callV (nA := 0) hc hT hG (o_X1 hM) (xk0 hM) (lw_V q648 q650 qs2 q109 q651) (by decide +kernel) ⟨hh, by decide⟩ rfl rfl hst d ⟨hk, hn⟩ h hk hn
theorem ca_X1_201 {x0 : Int32} {v : Int32} (hc : OK X cc RX1 ht) (hM : OKX1 (xg X)) (hG : G.2 a = some (0, r)) (hT : MT (xl X) (xg X) yX1_isPlant cX1_isPlant 2 (some .boolean) hy G [.ref a, .int x0] (some (.int v)) G1) (hh : hy < ht) (hst : (st.map fun v => v.category).sum ≤ 8) (d : decode cc pc = .ok (.invokevirtual 201, 3)) (h : V X k n G1 L (.int v :: st) (pc + 3)) : V X k n G L (.int x0 :: .ref a :: st) pc := fun hk hn => pv_callV (nA := 1) hc hT hG (o_X1 hM) (xk0 hM) (lw_V q846 q848 qs6 q109 q849) (by decide +kernel) ⟨hh, by decide⟩ rfl rfl hst d ⟨hk, hn⟩ h hk hn
theorem ca_X1_233 {x0 : Int32} {v : Int32} (hc : OK X cc RX1 ht) (hM : OKX1 (xg X)) (hG : G.2 a = some (0, r)) (hT : MT (xl X) (xg X) yX1_isAct cX1_isAct 2 (some .boolean) hy G [.ref a, .int x0] (some (.int v)) G1) (hh : hy < ht) (hst : (st.map fun v => v.category).sum ≤ 8) (d : decode cc pc = .ok (.invokevirtual 233, 3)) (h : V X k n G1 L (.int v :: st) (pc + 3)) : V X k n G L (.int x0 :: .ref a :: st) pc := fun hk hn => pv_callV (nA := 1) hc hT hG (o_X1 hM) (xk0 hM) (lw_V q851 q853 qs7 q109 q854) (by decide +kernel) ⟨hh, by decide⟩ rfl rfl hst d ⟨hk, hn⟩ h hk hn
theorem ca_X1_260 {x0 : Int32} {v : Int32} (hc : OK X cc RX1 ht) (hM : OKX1 (xg X)) (hG : G.2 a = some (0, r)) (hT : MT (xl X) (xg X) yX1_isParlour cX1_isParlour 2 (some .boolean) hy G [.ref a, .int x0] (some (.int v)) G1) (hh : hy < ht) (hst : (st.map fun v => v.category).sum ≤ 8) (d : decode cc pc = .ok (.invokevirtual 260, 3)) (h : V X k n G1 L (.int v :: st) (pc + 3)) : V X k n G L (.int x0 :: .ref a :: st) pc := fun hk hn => pv_callV (nA := 1) hc hT hG (o_X1 hM) (xk0 hM) (lw_V q863 q865 qs8 q109 q866) (by decide +kernel) ⟨hh, by decide⟩ rfl rfl hst d ⟨hk, hn⟩ h hk hn
theorem ca_X1_285 {x0 : Int32} {v : Int32} (hc : OK X cc RX1 ht) (hM : OKX1 (xg X)) (hG : G.2 a = some (0, r)) (hT : MT (xl X) (xg X) yX1_isPerson cX1_isPerson 2 (some .boolean) hy G [.ref a, .int x0] (some (.int v)) G1) (hh : hy < ht) (hst : (st.map fun v => v.category).sum ≤ 8) (d : decode cc pc = .ok (.invokevirtual 285, 3)) (h : V X k n G1 L (.int v :: st) (pc + 3)) : V X k n G L (.int x0 :: .ref a :: st) pc := fun hk hn => pv_callV (nA := 1) hc hT hG (o_X1 hM) (xk0 hM) (lw_V q924 q926 qs9 q109 q927) (by decide +kernel) ⟨hh, by decide⟩ rfl rfl hst d ⟨hk, hn⟩ h hk hn
theorem ca_X1_288 {x0 : Int32} {v : Int32} (hc : OK X cc RX1 ht) (hM : OKX1 (xg X)) (hG : G.2 a = some (0, r)) (hT : MT (xl X) (xg X) yX1_isDeed cX1_isDeed 2 (some .boolean) hy G [.ref a, .int x0] (some (.int v)) G1) (hh : hy < ht) (hst : (st.map fun v => v.category).sum ≤ 8) (d : decode cc pc = .ok (.invokevirtual 288, 3)) (h : V X k n G1 L (.int v :: st) (pc + 3)) : V X k n G L (.int x0 :: .ref a :: st) pc := fun hk hn => pv_callV (nA := 1) hc hT hG (o_X1 hM) (xk0 hM) (lw_V q928 q930 qs10 q109 q931) (by decide +kernel) ⟨hh, by decide⟩ rfl rfl hst d ⟨hk, hn⟩ h hk hn
theorem ca_X1_314 {x0 : Int32} {x1 : Int32} {v : Int32} (hc : OK X cc RX1 ht) (hM : OKX1 (xg X)) (hG : G.2 a = some (0, r)) (hT : MT (xl X) (xg X) yX1_isHidden cX1_isHidden 4 (some .boolean) hy G [.ref a, .int x0, .int x1] (some (.int v)) G1) (hh : hy < ht) (hst : (st.map fun v => v.category).sum ≤ 8) (d : decode cc pc = .ok (.invokevirtual 314, 3)) (h : V X k n G1 L (.int v :: st) (pc + 3)) : V X k n G L (.int x1 :: .int x0 :: .ref a :: st) pc := fun hk hn => pv_callV (nA := 2) hc hT hG (o_X1 hM) (xk0 hM) (lw_V q997 q999 qs12 q109 q1000) (by decide +kernel) ⟨hh, by decide⟩ rfl rfl hst d ⟨hk, hn⟩ h hk hn
theorem ca_X1_332 {x0 : Int32} {v : Int32} (hc : OK X cc RX1 ht) (hM : OKX1 (xg X)) (hG : G.2 a = some (0, r)) (hT : MT (xl X) (xg X) yX1_one cX1_one 2 (some .int) hy G [.ref a, .int x0] (some (.int v)) G1) (hh : hy < ht) (hst : (st.map fun v => v.category).sum ≤ 8) (d : decode cc pc = .ok (.invokevirtual 332, 3)) (h : V X k n G1 L (.int v :: st) (pc + 3)) : V X k n G L (.int x0 :: .ref a :: st) pc := fun hk hn => pv_callV (nA := 1) hc hT hG (o_X1 hM) (xk0 hM) (lw_V q1012 q1014 qs13 q109 q1015) (by decide +kernel) ⟨hh, by decide⟩ rfl rfl hst d ⟨hk, hn⟩ h hk hn
theorem ca_X1_342 {x0 : Int32} {x1 : Int32} {v : Int32} (hc : OK X cc RX1 ht) (hM : OKX1 (xg X)) (hG : G.2 a = some (0, r)) (hT : MT (xl X) (xg X) yX1_offBy cX1_offBy 3 (some .int) hy G [.ref a, .int x0, .int x1] (some (.int v)) G1) (hh : hy < ht) (hst : (st.map fun v => v.category).sum ≤ 8) (d : decode cc pc = .ok (.invokevirtual 342, 3)) (h : V X k n G1 L (.int v :: st) (pc + 3)) : V X k n G L (.int x1 :: .int x0 :: .ref a :: st) pc := fun hk hn => pv_callV (nA := 2) hc hT hG (o_X1 hM) (xk0 hM) (lw_V q1016 q1018 qs14 q109 q1019) (by decide +kernel) ⟨hh, by decide⟩ rfl rfl hst d ⟨hk, hn⟩ h hk hn
theorem ca_X1_355 {x0 : Int32} {x1 : Int32} {v : Int32} (hc : OK X cc RX1 ht) (hM : OKX1 (xg X)) (hG : G.2 a = some (0, r)) (hT : MT (xl X) (xg X) yX1_leftBy cX1_leftBy 3 (some .int) hy G [.ref a, .int x0, .int x1] (some (.int v)) G1) (hh : hy < ht) (hst : (st.map fun v => v.category).sum ≤ 8) (d : decode cc pc = .ok (.invokevirtual 355, 3)) (h : V X k n G1 L (.int v :: st) (pc + 3)) : V X k n G L (.int x1 :: .int x0 :: .ref a :: st) pc := fun hk hn => pv_callV (nA := 2) hc hT hG (o_X1 hM) (xk0 hM) (lw_V q1046 q1048 qs16 q109 q1049) (by decide +kernel) ⟨hh, by decide⟩ rfl rfl hst d ⟨hk, hn⟩ h hk hn
theorem ca_X1_358 {x0 : Int32} (hc : OK X cc RX1 ht) (hM : OKX1 (xg X)) (hG : G.2 a = some (0, r)) (hT : MT (xl X) (xg X) yX1_layLeft cX1_layLeft 6 none hy G [.ref a, .int x0] none G1) (hh : hy < ht) (hst : (st.map fun v => v.category).sum ≤ 8) (d : decode cc pc = .ok (.invokevirtual 358, 3)) (h : V X k n G1 L st (pc + 3)) : V X k n G L (.int x0 :: .ref a :: st) pc := fun hk hn => pv_callV (nA := 1) hc hT hG (o_X1 hM) (xk0 hM) (lw_V q1041 q1043 qs15 q109 q1044) (by decide +kernel) ⟨hh, by decide⟩ rfl rfl hst d ⟨hk, hn⟩ h hk hn
theorem ca_X1_367  {v : Int32} (hc : OK X cc RX1 ht) (hM : OKX1 (xg X)) (hG : G.2 a = some (0, r)) (hT : MT (xl X) (xg X) yX1_fewest cX1_fewest 3 (some .int) hy G [.ref a] (some (.int v)) G1) (hh : hy < ht) (hst : (st.map fun v => v.category).sum ≤ 8) (d : decode cc pc = .ok (.invokevirtual 367, 3)) (h : V X k n G1 L (.int v :: st) (pc + 3)) : V X k n G L (.ref a :: st) pc := fun hk hn => pv_callV (nA := 0) hc hT hG (o_X1 hM) (xk0 hM) (lw_V q1058 q1060 qs17 q109 q1061) (by decide +kernel) ⟨hh, by decide⟩ rfl rfl hst d ⟨hk, hn⟩ h hk hn
theorem ca_X1_391 {x0 : Int32} (hc : OK X cc RX1 ht) (hM : OKX1 (xg X)) (hG : G.2 a = some (0, r)) (hT : MT (xl X) (xg X) yX1_put_2 cX1_put_2 2 none hy G [.ref a, .int x0] none G1) (hh : hy < ht) (hst : (st.map fun v => v.category).sum ≤ 8) (d : decode cc pc = .ok (.invokevirtual 391, 3)) (h : V X k n G1 L st (pc + 3)) : V X k n G L (.int x0 :: .ref a :: st) pc := fun hk hn => pv_callV (nA := 1) hc hT hG (o_X1 hM) (xk0 hM) (lw_V q1083 q1085 qs19 q109 q1086) (by decide +kernel) ⟨hh, by decide⟩ rfl rfl hst d ⟨hk, hn⟩ h hk hn
theorem ca_X1_400 {x0 : Int64} (hc : OK X cc RX1 ht) (hM : OKX1 (xg X)) (hG : G.2 a = some (0, r)) (hT : MT (xl X) (xg X) yX1_put cX1_put 4 none hy G [.ref a, .long x0] none G1) (hh : hy < ht) (hst : (st.map fun v => v.category).sum ≤ 8) (d : decode cc pc = .ok (.invokevirtual 400, 3)) (h : V X k n G1 L st (pc + 3)) : V X k n G L (.long x0 :: .ref a :: st) pc := fun hk hn => pv_callV (nA := 1) hc hT hG (o_X1 hM) (xk0 hM) (lw_V q1078 q1080 qs18 q109 q1081) (by decide +kernel) ⟨hh, by decide⟩ rfl rfl hst d ⟨hk, hn⟩ h hk hn
theorem ca_X1_405 {x0 : Nat} (hc : OK X cc RX1 ht) (hM : OKX1 (xg X)) (hG : G.2 a = some (0, r)) (hT : MT (xl X) (xg X) yX1_put_3 cX1_put_3 3 none hy G [.ref a, .ref x0] none G1) (hh : hy < ht) (hst : (st.map fun v => v.category).sum ≤ 8) (d : decode cc pc = .ok (.invokevirtual 405, 3)) (h : V X k n G1 L st (pc + 3)) : V X k n G L (.ref x0 :: .ref a :: st) pc := fun hk hn => pv_callV (nA := 1) hc hT hG (o_X1 hM) (xk0 hM) (lw_V q1088 q1090 qs20 q109 q1091) (by decide +kernel) ⟨hh, by decide⟩ rfl rfl hst d ⟨hk, hn⟩ h hk hn
theorem ca_X1_420 {x0 : Int32} {v : Int32} (hc : OK X cc RX1 ht) (hM : OKX1 (xg X)) (hG : G.2 a = some (0, r)) (hT : MT (xl X) (xg X) yX1_isCaught cX1_isCaught 3 (some .boolean) hy G [.ref a, .int x0] (some (.int v)) G1) (hh : hy < ht) (hst : (st.map fun v => v.category).sum ≤ 8) (d : decode cc pc = .ok (.invokevirtual 420, 3)) (h : V X k n G1 L (.int v :: st) (pc + 3)) : V X k n G L (.int x0 :: .ref a :: st) pc := fun hk hn => pv_callV (nA := 1) hc hT hG (o_X1 hM) (xk0 hM) (lw_V q1162 q1164 qs23 q109 q1165) (by decide +kernel) ⟨hh, by decide⟩ rfl rfl hst d ⟨hk, hn⟩ h hk hn
end BC4
def x1_four (s : Rec) (x1 : Int32) : Option Rec := LP2 (fun (rec3 : Int32 → Rec → Option Rec) (v1 : Int32) (s2 : Rec) => (if v1 < 0 then some s2 else IX (gI s2 1) 940 (fun i4 => LT (sA s2 0 i4 (vp_nar .byte (Int8.toInt32 (Int32.toInt8 (x1 >>> (v1 &&& 31)))))) (fun s5 => LT (sI s5 1 ((gI s5 1) + (1 : Int32))) (fun s6 => rec3 (v1 + (-8 : Int32)) s6))))) FU (24 : Int32) s
set_option maxHeartbeats 4000000 in
theorem x1_four_ok {l : Launch} {g : Gh} {G : Wd} (hX1 : OKX1 g) {a : Nat} {s : Rec} (hGt : G.2 a = some (0, s)) {x1 : Int32} {s' : Rec} (hf : x1_four s x1 = some s') : MT l g yX1_four cX1_four 3 none 1 G [.ref a, .int x1] none (wp G a 0 s') := by
  refine pv_start (by decide) (Nat.le_of_ble_eq_true rfl) ?_
  intro X hl hg hN hc hr _ _ _ hQ
  subst hl; subst hg
  have hn : ([a] : List Nat).Nodup := nd1 
  have hro := (wz_n : ∀ u ∈ ([] : List (Nat × Nat × Rec)), G.2 u.1 = some u.2)
  refine pv_G (wz_id (us := [(a, 0, s)]) (wz_c hGt wz_n)) ?_
  have h := hf
  unfold x1_four at h
  show V X 0 0 _ [(0, .ref a), (1, .int x1)] [] 0
  refine pv_bipush (24 : Int32) hc dX1_four_0 rfl ?_
  refine pv_istore_n (L' := [(2, .int (24 : Int32)), (0, .ref a), (1, .int x1)]) hc dX1_four_2 rfl hN (by decide) rfl ?_
  refine pv_sub [1, 2, 0] rfl ?_
  refine LP2_el (P := fun v1 s2 => V X 0 0 (wz G [(a, 0, s2)]) [(0, .ref a), (1, .int x1), (2, .int v1)] [] 3) ?_ FU _ _ h
  intro rec3 hrec3 v1 s2 h
  refine pv_iload_n 2 hc dX1_four_3 rfl rfl ?_
  refine pv_if_lt (tgt := 36) hc dX1_four_4 (by decide) h (fun h => ?_) (fun h => ?_)
  · exact pv_vret hc hr hQ rfl (fin_z (ro := []) (vs := [(a, 0, s2)]) hro (by cases h; rfl)) dX1_four_36
  · refine pv_aload_n 0 hc dX1_four_7 rfl rfl ?_
    refine gf_X1_9 hc hX1 (wz_at hn rfl 0 rfl) dX1_four_8 ?_
    refine pv_aload_n 0 hc dX1_four_11 rfl rfl ?_
    refine gf_X1_146 hc hX1 (wz_at hn rfl 0 rfl) dX1_four_12 ?_
    refine pv_iload_n 1 hc dX1_four_15 rfl rfl ?_
    refine pv_iload_n 2 hc dX1_four_16 rfl rfl ?_
    refine pv_ishr hc dX1_four_17 ?_
    refine pv_i2b hc dX1_four_18 ?_
    obtain ⟨i4, hi4, h⟩ := IX_el h
    obtain ⟨s5, hs5, h⟩ := LT_el h
    refine as_X1_tape (G1 := (wz G [(a, 0, s5)])) hc hX1 (wz_at hn rfl 0 rfl) hi4 hs5 (wz_set hn rfl 0 rfl rfl) dX1_four_19 ?_
    refine pv_aload_n 0 hc dX1_four_20 rfl rfl ?_
    refine pv_dup hc dX1_four_21 rfl ?_
    refine gf_X1_146 hc hX1 (wz_at hn rfl 0 rfl) dX1_four_22 ?_
    refine pv_iconst (1 : Int32) hc dX1_four_25 rfl ?_
    refine pv_iadd hc dX1_four_26 ?_
    obtain ⟨s6, hs6, h⟩ := LT_el h
    refine pf_X1_146 (G1 := (wz G [(a, 0, s6)])) hc hX1 (wz_at hn rfl 0 rfl) hs6 (wz_set hn rfl 0 rfl rfl) dX1_four_27 ?_
    refine pv_iinc (L' := [(2, .int (v1 + (-8 : Int32))), (0, .ref a), (1, .int x1)]) 2 (v1 + (-8 : Int32)) hc dX1_four_30 rfl rfl hN (by decide) rfl ?_
    refine pv_goto (tgt := 3) hc dX1_four_33 (by decide) ?_
    refine pv_sub [1, 2, 0] rfl ?_
    exact hrec3 _ _ h
def x1_feed (s : Rec) (x1 : Int32) (x2 : Int32) (x3 : Int32) (x4 : Int32) (x5 : Int32) : Option (Int32 × Rec) := (if ((gI s 1) + (20 : Int32)) ≤ (940 : Int32) then BD (x1_four s x1) (fun s2 => BD (x1_four s2 x2) (fun s4 => BD (x1_four s4 x3) (fun s6 => BD (x1_four s6 x4) (fun s8 => BD (x1_four s8 x5) (fun s10 => some ((gI s10 1), s10)))))) else some ((-1 : Int32), s))
set_option maxHeartbeats 4000000 in
theorem x1_feed_ok {l : Launch} {g : Gh} {G : Wd} (hX1 : OKX1 g) {a : Nat} {s : Rec} (hGt : G.2 a = some (0, s)) {x1 : Int32} {x2 : Int32} {x3 : Int32} {x4 : Int32} {x5 : Int32} {r : Int32} {s' : Rec} (hf : x1_feed s x1 x2 x3 x4 x5 = some (r, s')) : MT l g yX1_feed cX1_feed 6 (some .int) 2 G [.ref a, .int x1, .int x2, .int x3, .int x4, .int x5] (some (.int r)) (wp G a 0 s') := by
  refine pv_start (by decide) (Nat.le_of_ble_eq_true rfl) ?_
  intro X hl hg hN hc hr _ _ _ hQ
  subst hl; subst hg
  have hn : ([a] : List Nat).Nodup := nd1 
  have hro := (wz_n : ∀ u ∈ ([] : List (Nat × Nat × Rec)), G.2 u.1 = some u.2)
  refine pv_G (wz_id (us := [(a, 0, s)]) (wz_c hGt wz_n)) ?_
  have h := hf
  unfold x1_feed at h
  show V X 0 0 _ [(0, .ref a), (1, .int x1), (2, .int x2), (3, .int x3), (4, .int x4), (5, .int x5)] [] 0
  refine pv_aload_n 0 hc dX1_feed_0 rfl rfl ?_
  refine gf_X1_146 hc hX1 (wz_at hn rfl 0 rfl) dX1_feed_1 ?_
  refine pv_bipush (20 : Int32) hc dX1_feed_4 rfl ?_
  refine pv_iadd hc dX1_feed_6 ?_
  refine pv_sipush (940 : Int32) hc dX1_feed_7 rfl ?_
  refine pv_icmp_le (tgt := 15) hc dX1_feed_10 (by decide) h (fun h => ?_) (fun h => ?_)
  · refine pv_aload_n 0 hc dX1_feed_15 rfl rfl ?_
    refine pv_iload_n 1 hc dX1_feed_16 rfl rfl ?_
    obtain ⟨s2, hf1, h⟩ := BD_el h
    refine ca_X1_149 hc hX1 (wz_at hn rfl 0 rfl) (x1_four_ok hX1 (wz_at hn rfl 0 rfl) hf1) (by decide) (Nat.le_of_ble_eq_true rfl) dX1_feed_17 ?_
    refine pv_G (wz_set (us := [(a, 0, s)]) (us' := [(a, 0, s2)]) hn rfl 0 rfl rfl).symm ?_
    refine pv_aload_n 0 hc dX1_feed_20 rfl rfl ?_
    refine pv_iload_n 2 hc dX1_feed_21 rfl rfl ?_
    obtain ⟨s4, hf3, h⟩ := BD_el h
    refine ca_X1_149 hc hX1 (wz_at hn rfl 0 rfl) (x1_four_ok hX1 (wz_at hn rfl 0 rfl) hf3) (by decide) (Nat.le_of_ble_eq_true rfl) dX1_feed_22 ?_
    refine pv_G (wz_set (us := [(a, 0, s2)]) (us' := [(a, 0, s4)]) hn rfl 0 rfl rfl).symm ?_
    refine pv_aload_n 0 hc dX1_feed_25 rfl rfl ?_
    refine pv_iload_n 3 hc dX1_feed_26 rfl rfl ?_
    obtain ⟨s6, hf5, h⟩ := BD_el h
    refine ca_X1_149 hc hX1 (wz_at hn rfl 0 rfl) (x1_four_ok hX1 (wz_at hn rfl 0 rfl) hf5) (by decide) (Nat.le_of_ble_eq_true rfl) dX1_feed_27 ?_
    refine pv_G (wz_set (us := [(a, 0, s4)]) (us' := [(a, 0, s6)]) hn rfl 0 rfl rfl).symm ?_
    refine pv_aload_n 0 hc dX1_feed_30 rfl rfl ?_
    refine pv_iload 4 hc dX1_feed_31 rfl ?_
    obtain ⟨s8, hf7, h⟩ := BD_el h
    refine ca_X1_149 hc hX1 (wz_at hn rfl 0 rfl) (x1_four_ok hX1 (wz_at hn rfl 0 rfl) hf7) (by decide) (Nat.le_of_ble_eq_true rfl) dX1_feed_33 ?_
    refine pv_G (wz_set (us := [(a, 0, s6)]) (us' := [(a, 0, s8)]) hn rfl 0 rfl rfl).symm ?_
    refine pv_aload_n 0 hc dX1_feed_36 rfl rfl ?_
    refine pv_iload 5 hc dX1_feed_37 rfl ?_
    obtain ⟨s10, hf9, h⟩ := BD_el h
    refine ca_X1_149 hc hX1 (wz_at hn rfl 0 rfl) (x1_four_ok hX1 (wz_at hn rfl 0 rfl) hf9) (by decide) (Nat.le_of_ble_eq_true rfl) dX1_feed_39 ?_
    refine pv_G (wz_set (us := [(a, 0, s8)]) (us' := [(a, 0, s10)]) hn rfl 0 rfl rfl).symm ?_
    refine pv_aload_n 0 hc dX1_feed_42 rfl rfl ?_
    refine gf_X1_146 hc hX1 (wz_at hn rfl 0 rfl) dX1_feed_43 ?_
    exact pv_iret hc hr hQ (by cases h; rfl) (fin_z (ro := []) (vs := [(a, 0, s10)]) hro (by cases h; rfl)) dX1_feed_46
  · refine pv_iconst (-1 : Int32) hc dX1_feed_13 rfl ?_
    exact pv_iret hc hr hQ (by cases h; rfl) (fin_z (ro := []) (vs := [(a, 0, s)]) hro (by cases h; rfl)) dX1_feed_14
def x1_end (s : Rec) (x1 : Int32) : Option (Int32 × Rec) := (if x1 < 0 then some ((0 : Int32), s) else (if x1 ≤ (gI s 1) then LT (sI s 1 x1) (fun s1 => some ((1 : Int32), s1)) else some ((0 : Int32), s)))
set_option maxHeartbeats 4000000 in
theorem x1_end_ok {l : Launch} {g : Gh} {G : Wd} (hX1 : OKX1 g) {a : Nat} {s : Rec} (hGt : G.2 a = some (0, s)) {x1 : Int32} {r : Int32} {s' : Rec} (hf : x1_end s x1 = some (r, s')) : MT l g yX1_end cX1_end 2 (some .boolean) 1 G [.ref a, .int x1] (some (.int r)) (wp G a 0 s') := by
  refine pv_start (by decide) (Nat.le_of_ble_eq_true rfl) ?_
  intro X hl hg hN hc hr _ _ _ hQ
  subst hl; subst hg
  have hn : ([a] : List Nat).Nodup := nd1 
  have hro := (wz_n : ∀ u ∈ ([] : List (Nat × Nat × Rec)), G.2 u.1 = some u.2)
  refine pv_G (wz_id (us := [(a, 0, s)]) (wz_c hGt wz_n)) ?_
  have h := hf
  unfold x1_end at h
  show V X 0 0 _ [(0, .ref a), (1, .int x1)] [] 0
  refine pv_iload_n 1 hc dX1_end_0 rfl rfl ?_
  refine pv_if_lt (tgt := 12) hc dX1_end_1 (by decide) h (fun h => ?_) (fun h => ?_)
  · refine pv_iconst (0 : Int32) hc dX1_end_12 rfl ?_
    exact pv_zret hc hr hQ (by decide) (by cases h; rfl) (fin_z (ro := []) (vs := [(a, 0, s)]) hro (by cases h; rfl)) dX1_end_13
  · refine pv_iload_n 1 hc dX1_end_4 rfl rfl ?_
    refine pv_aload_n 0 hc dX1_end_5 rfl rfl ?_
    refine gf_X1_146 hc hX1 (wz_at hn rfl 0 rfl) dX1_end_6 ?_
    refine pv_icmp_le (tgt := 14) hc dX1_end_9 (by decide) h (fun h => ?_) (fun h => ?_)
    · refine pv_aload_n 0 hc dX1_end_14 rfl rfl ?_
      refine pv_iload_n 1 hc dX1_end_15 rfl rfl ?_
      obtain ⟨s1, hs1, h⟩ := LT_el h
      refine pf_X1_146 (G1 := (wz G [(a, 0, s1)])) hc hX1 (wz_at hn rfl 0 rfl) hs1 (wz_set hn rfl 0 rfl rfl) dX1_end_16 ?_
      refine pv_iconst (1 : Int32) hc dX1_end_19 rfl ?_
      exact pv_zret hc hr hQ (by decide) (by cases h; rfl) (fin_z (ro := []) (vs := [(a, 0, s1)]) hro (by cases h; rfl)) dX1_end_20
    · refine pv_iconst (0 : Int32) hc dX1_end_12 rfl ?_
      exact pv_zret hc hr hQ (by decide) (by cases h; rfl) (fin_z (ro := []) (vs := [(a, 0, s)]) hro (by cases h; rfl)) dX1_end_13
def x1_taken (s : Rec) : Option Rec := LT (sI s 2 (gI s 1)) (fun s1 => LT (sI s1 1 (0 : Int32)) (fun s2 => some s2))
set_option maxHeartbeats 4000000 in
theorem x1_taken_ok {l : Launch} {g : Gh} {G : Wd} (hX1 : OKX1 g) {a : Nat} {s : Rec} (hGt : G.2 a = some (0, s)) {s' : Rec} (hf : x1_taken s = some s') : MT l g yX1_taken cX1_taken 1 none 1 G [.ref a] none (wp G a 0 s') := by
  refine pv_start (by decide) (Nat.le_of_ble_eq_true rfl) ?_
  intro X hl hg hN hc hr _ _ _ hQ
  subst hl; subst hg
  have hn : ([a] : List Nat).Nodup := nd1 
  have hro := (wz_n : ∀ u ∈ ([] : List (Nat × Nat × Rec)), G.2 u.1 = some u.2)
  refine pv_G (wz_id (us := [(a, 0, s)]) (wz_c hGt wz_n)) ?_
  have h := hf
  unfold x1_taken at h
  show V X 0 0 _ [(0, .ref a)] [] 0
  refine pv_aload_n 0 hc dX1_taken_0 rfl rfl ?_
  refine pv_aload_n 0 hc dX1_taken_1 rfl rfl ?_
  refine gf_X1_146 hc hX1 (wz_at hn rfl 0 rfl) dX1_taken_2 ?_
  obtain ⟨s1, hs1, h⟩ := LT_el h
  refine pf_X1_153 (G1 := (wz G [(a, 0, s1)])) hc hX1 (wz_at hn rfl 0 rfl) hs1 (wz_set hn rfl 0 rfl rfl) dX1_taken_5 ?_
  refine pv_aload_n 0 hc dX1_taken_8 rfl rfl ?_
  refine pv_iconst (0 : Int32) hc dX1_taken_9 rfl ?_
  obtain ⟨s2, hs2, h⟩ := LT_el h
  refine pf_X1_146 (G1 := (wz G [(a, 0, s2)])) hc hX1 (wz_at hn rfl 0 rfl) hs2 (wz_set hn rfl 0 rfl rfl) dX1_taken_10 ?_
  exact pv_vret hc hr hQ rfl (fin_z (ro := []) (vs := [(a, 0, s2)]) hro (by cases h; rfl)) dX1_taken_13
def x1_one (s : Rec) (x1 : Int32) : Option Int32 := IX x1 940 (fun i1 => some ((gA s 0 i1) &&& (255 : Int32)))
set_option maxHeartbeats 4000000 in
theorem x1_one_ok {l : Launch} {g : Gh} {G : Wd} (hX1 : OKX1 g) {a : Nat} {s : Rec} (hGt : G.2 a = some (0, s)) {x1 : Int32} {r : Int32} (hf : x1_one s x1 = some r) : MT l g yX1_one cX1_one 2 (some .int) 1 G [.ref a, .int x1] (some (.int r)) G := by
  refine pv_start (by decide) (Nat.le_of_ble_eq_true rfl) ?_
  intro X hl hg hN hc hr _ _ _ hQ
  subst hl; subst hg
  have hn : ([a] : List Nat).Nodup := nd1 
  have hro := ((wz_c hGt wz_n) : ∀ u ∈ ([(a, 0, s)] : List (Nat × Nat × Rec)), G.2 u.1 = some u.2)
  refine pv_G (wz_id (us := [(a, 0, s)]) (wz_c hGt wz_n)) ?_
  have h := hf
  unfold x1_one at h
  show V X 0 0 _ [(0, .ref a), (1, .int x1)] [] 0
  refine pv_aload_n 0 hc dX1_one_0 rfl rfl ?_
  refine gf_X1_9 hc hX1 (wz_at hn rfl 0 rfl) dX1_one_1 ?_
  refine pv_iload_n 1 hc dX1_one_4 rfl rfl ?_
  obtain ⟨i1, hi1, h⟩ := IX_el h
  refine al_X1_tape hc hX1 (wz_at hn rfl 0 rfl) hi1 dX1_one_5 ?_
  refine pv_sipush (255 : Int32) hc dX1_one_6 rfl ?_
  refine pv_iand hc dX1_one_9 ?_
  exact pv_iret hc hr hQ (by cases h; rfl) (wz_id hro).symm dX1_one_10
def x1_fault (s : Rec) : Option Int32 := some (gI s 11)
set_option maxHeartbeats 4000000 in
theorem x1_fault_ok {l : Launch} {g : Gh} {G : Wd} (hX1 : OKX1 g) {a : Nat} {s : Rec} (hGt : G.2 a = some (0, s)) {r : Int32} (hf : x1_fault s = some r) : MT l g yX1_fault cX1_fault 1 (some .int) 1 G [.ref a] (some (.int r)) G := by
  refine pv_start (by decide) (Nat.le_of_ble_eq_true rfl) ?_
  intro X hl hg hN hc hr _ _ _ hQ
  subst hl; subst hg
  have hn : ([a] : List Nat).Nodup := nd1 
  have hro := ((wz_c hGt wz_n) : ∀ u ∈ ([(a, 0, s)] : List (Nat × Nat × Rec)), G.2 u.1 = some u.2)
  refine pv_G (wz_id (us := [(a, 0, s)]) (wz_c hGt wz_n)) ?_
  have h := hf
  unfold x1_fault at h
  show V X 0 0 _ [(0, .ref a)] [] 0
  refine pv_aload_n 0 hc dX1_fault_0 rfl rfl ?_
  refine gf_X1_162 hc hX1 (wz_at hn rfl 0 rfl) dX1_fault_1 ?_
  exact pv_iret hc hr hQ (by cases h; rfl) (wz_id hro).symm dX1_fault_4
def x1_isParlour (s : Rec) (b : Nat) (e : Rec) (x1 : Int32) : Option Int32 := PG (gP s 6) b (BD (x1_isIn x1 (0 : Int32) ((gI e 7) - (1 : Int32))) (fun v3 => BZ v3 (some v3)))
set_option maxHeartbeats 4000000 in
theorem x1_isParlour_ok {l : Launch} {g : Gh} {G : Wd} (hX1 : OKX1 g) (hX3 : OKX3 g) {a : Nat} {s : Rec} (hGt : G.2 a = some (0, s)) {b : Nat} {e : Rec} (hGh : G.2 b = some (2, e)) {x1 : Int32} {r : Int32} (hf : x1_isParlour s b e x1 = some r) : MT l g yX1_isParlour cX1_isParlour 2 (some .boolean) 2 G [.ref a, .int x1] (some (.int r)) G := by
  refine pv_start (by decide) (Nat.le_of_ble_eq_true rfl) ?_
  intro X hl hg hN hc hr _ _ _ hQ
  subst hl; subst hg
  have hn : ([b, a] : List Nat).Nodup := nd2 (kd_ne hGh hGt (by decide))
  have hro := ((wz_c hGh (wz_c hGt wz_n)) : ∀ u ∈ ([(b, 2, e), (a, 0, s)] : List (Nat × Nat × Rec)), G.2 u.1 = some u.2)
  refine pv_G (wz_id (us := [(b, 2, e), (a, 0, s)]) (wz_c hGh (wz_c hGt wz_n))) ?_
  have h := hf
  unfold x1_isParlour at h
  show V X 0 0 _ [(0, .ref a), (1, .int x1)] [] 0
  refine pv_iload_n 1 hc dX1_isParlour_0 rfl rfl ?_
  refine pv_iconst (0 : Int32) hc dX1_isParlour_1 rfl ?_
  refine pv_aload_n 0 hc dX1_isParlour_2 rfl rfl ?_
  obtain ⟨hp1, h⟩ := PG_el h
  refine gp_X1_76 hc hX1 (wz_at hn rfl 1 rfl) hp1 dX1_isParlour_3 ?_
  refine gf_X1_182 hc hX3 (wz_at hn rfl 0 rfl) dX1_isParlour_6 ?_
  refine pv_iconst (1 : Int32) hc dX1_isParlour_9 rfl ?_
  refine pv_isub hc dX1_isParlour_10 ?_
  obtain ⟨v3, hf2, h⟩ := BD_el h
  refine ca_X1_185 hc (x1_isIn_ok   hf2) (by decide) (Nat.le_of_ble_eq_true rfl) dX1_isParlour_11 ?_
  obtain ⟨hb4, h⟩ := BZ_el h
  exact pv_zret hc hr hQ hb4 (by cases h; rfl) (wz_id hro).symm dX1_isParlour_14
def x1_isPlant (s : Rec) (b : Nat) (e : Rec) (x1 : Int32) : Option Int32 := PG (gP s 6) b (BD (x1_isIn x1 (0 : Int32) ((gI e 8) - (1 : Int32))) (fun v3 => BZ v3 (some v3)))
set_option maxHeartbeats 4000000 in
theorem x1_isPlant_ok {l : Launch} {g : Gh} {G : Wd} (hX1 : OKX1 g) (hX3 : OKX3 g) {a : Nat} {s : Rec} (hGt : G.2 a = some (0, s)) {b : Nat} {e : Rec} (hGh : G.2 b = some (2, e)) {x1 : Int32} {r : Int32} (hf : x1_isPlant s b e x1 = some r) : MT l g yX1_isPlant cX1_isPlant 2 (some .boolean) 2 G [.ref a, .int x1] (some (.int r)) G := by
  refine pv_start (by decide) (Nat.le_of_ble_eq_true rfl) ?_
  intro X hl hg hN hc hr _ _ _ hQ
  subst hl; subst hg
  have hn : ([b, a] : List Nat).Nodup := nd2 (kd_ne hGh hGt (by decide))
  have hro := ((wz_c hGh (wz_c hGt wz_n)) : ∀ u ∈ ([(b, 2, e), (a, 0, s)] : List (Nat × Nat × Rec)), G.2 u.1 = some u.2)
  refine pv_G (wz_id (us := [(b, 2, e), (a, 0, s)]) (wz_c hGh (wz_c hGt wz_n))) ?_
  have h := hf
  unfold x1_isPlant at h
  show V X 0 0 _ [(0, .ref a), (1, .int x1)] [] 0
  refine pv_iload_n 1 hc dX1_isPlant_0 rfl rfl ?_
  refine pv_iconst (0 : Int32) hc dX1_isPlant_1 rfl ?_
  refine pv_aload_n 0 hc dX1_isPlant_2 rfl rfl ?_
  obtain ⟨hp1, h⟩ := PG_el h
  refine gp_X1_76 hc hX1 (wz_at hn rfl 1 rfl) hp1 dX1_isPlant_3 ?_
  refine gf_X1_189 hc hX3 (wz_at hn rfl 0 rfl) dX1_isPlant_6 ?_
  refine pv_iconst (1 : Int32) hc dX1_isPlant_9 rfl ?_
  refine pv_isub hc dX1_isPlant_10 ?_
  obtain ⟨v3, hf2, h⟩ := BD_el h
  refine ca_X1_185 hc (x1_isIn_ok   hf2) (by decide) (Nat.le_of_ble_eq_true rfl) dX1_isPlant_11 ?_
  obtain ⟨hb4, h⟩ := BZ_el h
  exact pv_zret hc hr hQ hb4 (by cases h; rfl) (wz_id hro).symm dX1_isPlant_14
def x1_isPerson (s : Rec) (b : Nat) (e : Rec) (x1 : Int32) : Option Int32 := PG (gP s 6) b (BD (x1_isIn x1 (0 : Int32) ((gI e 9) - (1 : Int32))) (fun v3 => BZ v3 (some v3)))
set_option maxHeartbeats 4000000 in
theorem x1_isPerson_ok {l : Launch} {g : Gh} {G : Wd} (hX1 : OKX1 g) (hX3 : OKX3 g) {a : Nat} {s : Rec} (hGt : G.2 a = some (0, s)) {b : Nat} {e : Rec} (hGh : G.2 b = some (2, e)) {x1 : Int32} {r : Int32} (hf : x1_isPerson s b e x1 = some r) : MT l g yX1_isPerson cX1_isPerson 2 (some .boolean) 2 G [.ref a, .int x1] (some (.int r)) G := by
  refine pv_start (by decide) (Nat.le_of_ble_eq_true rfl) ?_
  intro X hl hg hN hc hr _ _ _ hQ
  subst hl; subst hg
  have hn : ([b, a] : List Nat).Nodup := nd2 (kd_ne hGh hGt (by decide))
  have hro := ((wz_c hGh (wz_c hGt wz_n)) : ∀ u ∈ ([(b, 2, e), (a, 0, s)] : List (Nat × Nat × Rec)), G.2 u.1 = some u.2)
  refine pv_G (wz_id (us := [(b, 2, e), (a, 0, s)]) (wz_c hGh (wz_c hGt wz_n))) ?_
  have h := hf
  unfold x1_isPerson at h
  show V X 0 0 _ [(0, .ref a), (1, .int x1)] [] 0
  refine pv_iload_n 1 hc dX1_isPerson_0 rfl rfl ?_
  refine pv_iconst (0 : Int32) hc dX1_isPerson_1 rfl ?_
  refine pv_aload_n 0 hc dX1_isPerson_2 rfl rfl ?_
  obtain ⟨hp1, h⟩ := PG_el h
  refine gp_X1_76 hc hX1 (wz_at hn rfl 1 rfl) hp1 dX1_isPerson_3 ?_
  refine gf_X1_192 hc hX3 (wz_at hn rfl 0 rfl) dX1_isPerson_6 ?_
  refine pv_iconst (1 : Int32) hc dX1_isPerson_9 rfl ?_
  refine pv_isub hc dX1_isPerson_10 ?_
  obtain ⟨v3, hf2, h⟩ := BD_el h
  refine ca_X1_185 hc (x1_isIn_ok   hf2) (by decide) (Nat.le_of_ble_eq_true rfl) dX1_isPerson_11 ?_
  obtain ⟨hb4, h⟩ := BZ_el h
  exact pv_zret hc hr hQ hb4 (by cases h; rfl) (wz_id hro).symm dX1_isPerson_14
def x1_isDeed (s : Rec) (b : Nat) (e : Rec) (x1 : Int32) : Option Int32 := PG (gP s 6) b (BD (x1_isIn x1 (0 : Int32) ((gI e 10) - (1 : Int32))) (fun v3 => BZ v3 (some v3)))
set_option maxHeartbeats 4000000 in
theorem x1_isDeed_ok {l : Launch} {g : Gh} {G : Wd} (hX1 : OKX1 g) (hX3 : OKX3 g) {a : Nat} {s : Rec} (hGt : G.2 a = some (0, s)) {b : Nat} {e : Rec} (hGh : G.2 b = some (2, e)) {x1 : Int32} {r : Int32} (hf : x1_isDeed s b e x1 = some r) : MT l g yX1_isDeed cX1_isDeed 2 (some .boolean) 2 G [.ref a, .int x1] (some (.int r)) G := by
  refine pv_start (by decide) (Nat.le_of_ble_eq_true rfl) ?_
  intro X hl hg hN hc hr _ _ _ hQ
  subst hl; subst hg
  have hn : ([b, a] : List Nat).Nodup := nd2 (kd_ne hGh hGt (by decide))
  have hro := ((wz_c hGh (wz_c hGt wz_n)) : ∀ u ∈ ([(b, 2, e), (a, 0, s)] : List (Nat × Nat × Rec)), G.2 u.1 = some u.2)
  refine pv_G (wz_id (us := [(b, 2, e), (a, 0, s)]) (wz_c hGh (wz_c hGt wz_n))) ?_
  have h := hf
  unfold x1_isDeed at h
  show V X 0 0 _ [(0, .ref a), (1, .int x1)] [] 0
  refine pv_iload_n 1 hc dX1_isDeed_0 rfl rfl ?_
  refine pv_iconst (0 : Int32) hc dX1_isDeed_1 rfl ?_
  refine pv_aload_n 0 hc dX1_isDeed_2 rfl rfl ?_
  obtain ⟨hp1, h⟩ := PG_el h
  refine gp_X1_76 hc hX1 (wz_at hn rfl 1 rfl) hp1 dX1_isDeed_3 ?_
  refine gf_X1_195 hc hX3 (wz_at hn rfl 0 rfl) dX1_isDeed_6 ?_
  refine pv_iconst (1 : Int32) hc dX1_isDeed_9 rfl ?_
  refine pv_isub hc dX1_isDeed_10 ?_
  obtain ⟨v3, hf2, h⟩ := BD_el h
  refine ca_X1_185 hc (x1_isIn_ok   hf2) (by decide) (Nat.le_of_ble_eq_true rfl) dX1_isDeed_11 ?_
  obtain ⟨hb4, h⟩ := BZ_el h
  exact pv_zret hc hr hQ hb4 (by cases h; rfl) (wz_id hro).symm dX1_isDeed_14
def x1_isAct (s : Rec) (z : Rec) (x1 : Int32) : Option Int32 := BD (x1_isIn x1 (0 : Int32) ((gI z 8) - (1 : Int32))) (fun v2 => BZ v2 (some v2))
set_option maxHeartbeats 4000000 in
theorem x1_isAct_ok {l : Launch} {g : Gh} {G : Wd} (hX1 : OKX1 g) (hX4 : OKX4 g) {a : Nat} {s : Rec} (hGt : G.2 a = some (0, s)) {z : Rec} (hGz : G.2 (a + 13) = some (3, z)) {x1 : Int32} {r : Int32} (hf : x1_isAct s z x1 = some r) : MT l g yX1_isAct cX1_isAct 2 (some .boolean) 2 G [.ref a, .int x1] (some (.int r)) G := by
  refine pv_start (by decide) (Nat.le_of_ble_eq_true rfl) ?_
  intro X hl hg hN hc hr _ _ _ hQ
  subst hl; subst hg
  have hn : ([(a + 13), a] : List Nat).Nodup := nd2 (kd_ne hGz hGt (by decide))
  have hro := ((wz_c hGz (wz_c hGt wz_n)) : ∀ u ∈ ([((a + 13), 3, z), (a, 0, s)] : List (Nat × Nat × Rec)), G.2 u.1 = some u.2)
  refine pv_G (wz_id (us := [((a + 13), 3, z), (a, 0, s)]) (wz_c hGz (wz_c hGt wz_n))) ?_
  have h := hf
  unfold x1_isAct at h
  show V X 0 0 _ [(0, .ref a), (1, .int x1)] [] 0
  refine pv_iload_n 1 hc dX1_isAct_0 rfl rfl ?_
  refine pv_iconst (0 : Int32) hc dX1_isAct_1 rfl ?_
  refine pv_aload_n 0 hc dX1_isAct_2 rfl rfl ?_
  refine gf_X1_83 hc hX1 (wz_at hn rfl 1 rfl) dX1_isAct_3 ?_
  refine gf_X1_198 hc hX4 (wz_at hn rfl 0 rfl) dX1_isAct_6 ?_
  refine pv_iconst (1 : Int32) hc dX1_isAct_9 rfl ?_
  refine pv_isub hc dX1_isAct_10 ?_
  obtain ⟨v2, hf1, h⟩ := BD_el h
  refine ca_X1_185 hc (x1_isIn_ok   hf1) (by decide) (Nat.le_of_ble_eq_true rfl) dX1_isAct_11 ?_
  obtain ⟨hb3, h⟩ := BZ_el h
  exact pv_zret hc hr hQ hb3 (by cases h; rfl) (wz_id hro).symm dX1_isAct_14
def x1_comes (s : Rec) (b : Nat) (e : Rec) (z : Rec) (x1 : Int32) (x2 : Int32) : Option Int32 := BD (x1_isPlant s b e x1) (fun v2 => (if v2 = 0 then some (-1 : Int32) else BD (x1_isAct s z x2) (fun v4 => (if v4 = 0 then some (-1 : Int32) else BD (x4_comes z x1 x2) (fun v6 => some v6)))))
set_option maxHeartbeats 4000000 in
theorem x1_comes_ok {l : Launch} {g : Gh} {G : Wd} (hX1 : OKX1 g) (hX3 : OKX3 g) (hX4 : OKX4 g) {a : Nat} {s : Rec} (hGt : G.2 a = some (0, s)) {b : Nat} {e : Rec} (hGh : G.2 b = some (2, e)) {z : Rec} (hGz : G.2 (a + 13) = some (3, z)) {x1 : Int32} {x2 : Int32} {r : Int32} (hf : x1_comes s b e z x1 x2 = some r) : MT l g yX1_comes cX1_comes 3 (some .int) 3 G [.ref a, .int x1, .int x2] (some (.int r)) G := by
  refine pv_start (by decide) (Nat.le_of_ble_eq_true rfl) ?_
  intro X hl hg hN hc hr _ _ _ hQ
  subst hl; subst hg
  have hn : ([b, (a + 13), a] : List Nat).Nodup := nd3 (kd_ne hGh hGz (by decide)) (kd_ne hGh hGt (by decide)) (kd_ne hGz hGt (by decide))
  have hro := ((wz_c hGh (wz_c hGz (wz_c hGt wz_n))) : ∀ u ∈ ([(b, 2, e), ((a + 13), 3, z), (a, 0, s)] : List (Nat × Nat × Rec)), G.2 u.1 = some u.2)
  refine pv_G (wz_id (us := [(b, 2, e), ((a + 13), 3, z), (a, 0, s)]) (wz_c hGh (wz_c hGz (wz_c hGt wz_n)))) ?_
  have h := hf
  unfold x1_comes at h
  show V X 0 0 _ [(0, .ref a), (1, .int x1), (2, .int x2)] [] 0
  refine pv_aload_n 0 hc dX1_comes_0 rfl rfl ?_
  refine pv_iload_n 1 hc dX1_comes_1 rfl rfl ?_
  obtain ⟨v2, hf1, h⟩ := BD_el h
  refine ca_X1_201 hc hX1 (wz_at hn rfl 2 rfl) (x1_isPlant_ok hX1 hX3 (wz_at hn rfl 2 rfl) (wz_at hn rfl 0 rfl) hf1) (by decide) (Nat.le_of_ble_eq_true rfl) dX1_comes_2 ?_
  refine pv_if_eq (tgt := 28) hc dX1_comes_5 (by decide) h (fun h => ?_) (fun h => ?_)
  · refine pv_iconst (-1 : Int32) hc dX1_comes_28 rfl ?_
    exact pv_iret hc hr hQ (by cases h; rfl) (wz_id hro).symm dX1_comes_29
  · refine pv_aload_n 0 hc dX1_comes_8 rfl rfl ?_
    refine pv_iload_n 2 hc dX1_comes_9 rfl rfl ?_
    obtain ⟨v4, hf3, h⟩ := BD_el h
    refine ca_X1_233 hc hX1 (wz_at hn rfl 2 rfl) (x1_isAct_ok hX1 hX4 (wz_at hn rfl 2 rfl) (wz_at hn rfl 1 rfl) hf3) (by decide) (Nat.le_of_ble_eq_true rfl) dX1_comes_10 ?_
    refine pv_if_eq (tgt := 28) hc dX1_comes_13 (by decide) h (fun h => ?_) (fun h => ?_)
    · refine pv_iconst (-1 : Int32) hc dX1_comes_28 rfl ?_
      exact pv_iret hc hr hQ (by cases h; rfl) (wz_id hro).symm dX1_comes_29
    · refine pv_aload_n 0 hc dX1_comes_16 rfl rfl ?_
      refine gf_X1_83 hc hX1 (wz_at hn rfl 2 rfl) dX1_comes_17 ?_
      refine pv_iload_n 1 hc dX1_comes_20 rfl rfl ?_
      refine pv_iload_n 2 hc dX1_comes_21 rfl rfl ?_
      obtain ⟨v6, hf5, h⟩ := BD_el h
      refine ca_X1_256 hc hX4 (wz_at hn rfl 1 rfl) (x4_comes_ok hX4 (wz_at hn rfl 1 rfl) hf5) (by decide) (Nat.le_of_ble_eq_true rfl) dX1_comes_22 ?_
      refine pv_goto (tgt := 29) hc dX1_comes_25 (by decide) ?_
      exact pv_iret hc hr hQ (by cases h; rfl) (wz_id hro).symm dX1_comes_29
def x1_sights (s : Rec) (b : Nat) (e : Rec) (x1 : Int32) : Option Int32 := BD (x1_isParlour s b e x1) (fun v2 => (if v2 = 0 then some (-1 : Int32) else PG (gP s 6) b (IX x1 5 (fun i4 => some (gA e 4 i4)))))
set_option maxHeartbeats 4000000 in
theorem x1_sights_ok {l : Launch} {g : Gh} {G : Wd} (hX1 : OKX1 g) (hX3 : OKX3 g) {a : Nat} {s : Rec} (hGt : G.2 a = some (0, s)) {b : Nat} {e : Rec} (hGh : G.2 b = some (2, e)) {x1 : Int32} {r : Int32} (hf : x1_sights s b e x1 = some r) : MT l g yX1_sights cX1_sights 2 (some .int) 3 G [.ref a, .int x1] (some (.int r)) G := by
  refine pv_start (by decide) (Nat.le_of_ble_eq_true rfl) ?_
  intro X hl hg hN hc hr _ _ _ hQ
  subst hl; subst hg
  have hn : ([b, a] : List Nat).Nodup := nd2 (kd_ne hGh hGt (by decide))
  have hro := ((wz_c hGh (wz_c hGt wz_n)) : ∀ u ∈ ([(b, 2, e), (a, 0, s)] : List (Nat × Nat × Rec)), G.2 u.1 = some u.2)
  refine pv_G (wz_id (us := [(b, 2, e), (a, 0, s)]) (wz_c hGh (wz_c hGt wz_n))) ?_
  have h := hf
  unfold x1_sights at h
  show V X 0 0 _ [(0, .ref a), (1, .int x1)] [] 0
  refine pv_aload_n 0 hc dX1_sights_0 rfl rfl ?_
  refine pv_iload_n 1 hc dX1_sights_1 rfl rfl ?_
  obtain ⟨v2, hf1, h⟩ := BD_el h
  refine ca_X1_260 hc hX1 (wz_at hn rfl 1 rfl) (x1_isParlour_ok hX1 hX3 (wz_at hn rfl 1 rfl) (wz_at hn rfl 0 rfl) hf1) (by decide) (Nat.le_of_ble_eq_true rfl) dX1_sights_2 ?_
  refine pv_if_eq (tgt := 20) hc dX1_sights_5 (by decide) h (fun h => ?_) (fun h => ?_)
  · refine pv_iconst (-1 : Int32) hc dX1_sights_20 rfl ?_
    exact pv_iret hc hr hQ (by cases h; rfl) (wz_id hro).symm dX1_sights_21
  · refine pv_aload_n 0 hc dX1_sights_8 rfl rfl ?_
    obtain ⟨hp3, h⟩ := PG_el h
    refine gp_X1_76 hc hX1 (wz_at hn rfl 1 rfl) hp3 dX1_sights_9 ?_
    refine gf_X1_263 hc hX3 (wz_at hn rfl 0 rfl) dX1_sights_12 ?_
    refine pv_iload_n 1 hc dX1_sights_15 rfl rfl ?_
    obtain ⟨i4, hi4, h⟩ := IX_el h
    refine al_X3_4 hc hX3 (wz_at hn rfl 0 rfl) hi4 dX1_sights_16 ?_
    refine pv_goto (tgt := 21) hc dX1_sights_17 (by decide) ?_
    exact pv_iret hc hr hQ (by cases h; rfl) (wz_id hro).symm dX1_sights_21
def x1_now (s : Rec) (b : Nat) (e : Rec) (z : Rec) (x1 : Int32) : Option Int32 := LP6 (fun (rec7 : Int32 → Int32 → Int32 → Int32 → Int32 → Int32 → Option Int32) (v1 : Int32) (v2 : Int32) (v3 : Int32) (v4 : Int32) (v5 : Int32) (v6 : Int32) => PG (gP s 6) b ((if (gI e 8) ≤ v6 then (if x1 = (0 : Int32) then some (gI z 7) else if x1 = (1 : Int32) then some (gI z 8) else if x1 = (2 : Int32) then PG (gP s 6) b (BD (x4_proved z e) (fun v13 => some v13)) else if x1 = (3 : Int32) then some v1 else if x1 = (4 : Int32) then some v2 else if x1 = (5 : Int32) then some v3 else if x1 = (6 : Int32) then some v4 else if x1 = (7 : Int32) then PG (gP s 6) b (BD (x3_all e) (fun v21 => some (v21 &&& (v5 ^^^ (-1 : Int32))))) else some (-1 : Int32)) else PG (gP s 6) b (BD (x4_sees z e v6) (fun v25 => JN1 (fun (v26 : Int32) => IX v6 6 (fun i28 => JN1 (fun (v29 : Int32) => BD (x4_leaves z v6 (1 : Int32)) (fun v32 => BD (x4_leaves z v6 (0 : Int32)) (fun v34 => PG (gP s 6) b (BD (x4_sees z e v6) (fun v37 => rec7 v26 v29 (v3 + v32) (v4 + v34) (v5 ||| v37) (v6 + (1 : Int32))))))) (fun (j30 : Int32 → Option Int32) => (if (gA z 1 i28) ≤ 0 then j30 v2 else j30 (v2 ||| ((1 : Int32) <<< (v6 &&& 31))))))) (fun (j27 : Int32 → Option Int32) => (if v25 = 0 then j27 v1 else j27 (v1 ||| ((1 : Int32) <<< (v6 &&& 31)))))))))) FU (0 : Int32) (0 : Int32) (0 : Int32) (0 : Int32) (0 : Int32) (0 : Int32)
set_option maxHeartbeats 4000000 in
theorem x1_now_ok {l : Launch} {g : Gh} {G : Wd} (hX1 : OKX1 g) (hX3 : OKX3 g) (hX4 : OKX4 g) {a : Nat} {s : Rec} (hGt : G.2 a = some (0, s)) {b : Nat} {e : Rec} (hGh : G.2 b = some (2, e)) {z : Rec} (hGz : G.2 (a + 13) = some (3, z)) {x1 : Int32} {r : Int32} (hf : x1_now s b e z x1 = some r) : MT l g yX1_now cX1_now 8 (some .int) 6 G [.ref a, .int x1] (some (.int r)) G := by
  refine pv_start (by decide) (Nat.le_of_ble_eq_true rfl) ?_
  intro X hl hg hN hc hr _ _ _ hQ
  subst hl; subst hg
  have hn : ([b, (a + 13), a] : List Nat).Nodup := nd3 (kd_ne hGh hGz (by decide)) (kd_ne hGh hGt (by decide)) (kd_ne hGz hGt (by decide))
  have hro := ((wz_c hGh (wz_c hGz (wz_c hGt wz_n))) : ∀ u ∈ ([(b, 2, e), ((a + 13), 3, z), (a, 0, s)] : List (Nat × Nat × Rec)), G.2 u.1 = some u.2)
  refine pv_G (wz_id (us := [(b, 2, e), ((a + 13), 3, z), (a, 0, s)]) (wz_c hGh (wz_c hGz (wz_c hGt wz_n)))) ?_
  have h := hf
  unfold x1_now at h
  show V X 0 0 _ [(0, .ref a), (1, .int x1)] [] 0
  refine pv_iconst (0 : Int32) hc dX1_now_0 rfl ?_
  refine pv_istore_n (L' := [(2, .int (0 : Int32)), (0, .ref a), (1, .int x1)]) hc dX1_now_1 rfl hN (by decide) rfl ?_
  refine pv_iconst (0 : Int32) hc dX1_now_2 rfl ?_
  refine pv_istore_n (L' := [(3, .int (0 : Int32)), (2, .int (0 : Int32)), (0, .ref a), (1, .int x1)]) hc dX1_now_3 rfl hN (by decide) rfl ?_
  refine pv_iconst (0 : Int32) hc dX1_now_4 rfl ?_
  refine pv_istore (L' := [(4, .int (0 : Int32)), (3, .int (0 : Int32)), (2, .int (0 : Int32)), (0, .ref a), (1, .int x1)]) hc dX1_now_5 hN (by decide) rfl ?_
  refine pv_iconst (0 : Int32) hc dX1_now_7 rfl ?_
  refine pv_istore (L' := [(5, .int (0 : Int32)), (4, .int (0 : Int32)), (3, .int (0 : Int32)), (2, .int (0 : Int32)), (0, .ref a), (1, .int x1)]) hc dX1_now_8 hN (by decide) rfl ?_
  refine pv_iconst (0 : Int32) hc dX1_now_10 rfl ?_
  refine pv_istore (L' := [(6, .int (0 : Int32)), (5, .int (0 : Int32)), (4, .int (0 : Int32)), (3, .int (0 : Int32)), (2, .int (0 : Int32)), (0, .ref a), (1, .int x1)]) hc dX1_now_11 hN (by decide) rfl ?_
  refine pv_iconst (0 : Int32) hc dX1_now_13 rfl ?_
  refine pv_istore (L' := [(7, .int (0 : Int32)), (6, .int (0 : Int32)), (5, .int (0 : Int32)), (4, .int (0 : Int32)), (3, .int (0 : Int32)), (2, .int (0 : Int32)), (0, .ref a), (1, .int x1)]) hc dX1_now_14 hN (by decide) rfl ?_
  refine pv_sub [6, 7, 5, 4, 3, 2, 1, 0] rfl ?_
  refine LP6_el (P := fun v1 v2 v3 v4 v5 v6 => V X 0 0 (wz G [(b, 2, e), ((a + 13), 3, z), (a, 0, s)]) [(0, .ref a), (1, .int x1), (2, .int v1), (3, .int v2), (4, .int v3), (5, .int v4), (6, .int v5), (7, .int v6)] [] 16) ?_ FU _ _ _ _ _ _ h
  intro rec7 hrec7 v1 v2 v3 v4 v5 v6 h
  refine pv_iload 7 hc dX1_now_16 rfl ?_
  refine pv_aload_n 0 hc dX1_now_18 rfl rfl ?_
  obtain ⟨hp8, h⟩ := PG_el h
  refine gp_X1_76 hc hX1 (wz_at hn rfl 2 rfl) hp8 dX1_now_19 ?_
  refine gf_X1_189 hc hX3 (wz_at hn rfl 0 rfl) dX1_now_22 ?_
  refine pv_icmp_ge (tgt := 125) hc dX1_now_25 (by decide) h (fun h => ?_) (fun h => ?_)
  · refine pv_iload_n 1 hc dX1_now_125 rfl rfl ?_
    refine pv_tsw (tgt := 172) (c := 0) (off := 46) hc dX1_now_126 (by decide) (by decide) (by decide) (by decide) h (fun h => ?_) (fun hx9 h => ?_)
    · refine pv_aload_n 0 hc dX1_now_172 rfl rfl ?_
      refine gf_X1_83 hc hX1 (wz_at hn rfl 2 rfl) dX1_now_173 ?_
      refine gf_X1_266 hc hX4 (wz_at hn rfl 1 rfl) dX1_now_176 ?_
      exact pv_iret hc hr hQ (by cases h; rfl) (wz_id hro).symm dX1_now_179
    refine pv_tsw (tgt := 180) (c := 1) (off := 54) hc dX1_now_126 (by decide) (by decide) (by decide) (by decide) h (fun h => ?_) (fun hx10 h => ?_)
    · refine pv_aload_n 0 hc dX1_now_180 rfl rfl ?_
      refine gf_X1_83 hc hX1 (wz_at hn rfl 2 rfl) dX1_now_181 ?_
      refine gf_X1_198 hc hX4 (wz_at hn rfl 1 rfl) dX1_now_184 ?_
      exact pv_iret hc hr hQ (by cases h; rfl) (wz_id hro).symm dX1_now_187
    refine pv_tsw (tgt := 188) (c := 2) (off := 62) hc dX1_now_126 (by decide) (by decide) (by decide) (by decide) h (fun h => ?_) (fun hx14 h => ?_)
    · refine pv_aload_n 0 hc dX1_now_188 rfl rfl ?_
      refine gf_X1_83 hc hX1 (wz_at hn rfl 2 rfl) dX1_now_189 ?_
      refine pv_aload_n 0 hc dX1_now_192 rfl rfl ?_
      obtain ⟨hp11, h⟩ := PG_el h
      refine gp_X1_76 hc hX1 (wz_at hn rfl 2 rfl) hp11 dX1_now_193 ?_
      obtain ⟨v13, hf12, h⟩ := BD_el h
      refine ca_X1_268 hc hX4 (wz_at hn rfl 1 rfl) (x4_proved_ok hX3 hX4 (wz_at hn rfl 1 rfl) (wz_at hn rfl 0 rfl) hf12) (by decide) (Nat.le_of_ble_eq_true rfl) dX1_now_196 ?_
      exact pv_iret hc hr hQ (by cases h; rfl) (wz_id hro).symm dX1_now_199
    refine pv_tsw (tgt := 200) (c := 3) (off := 74) hc dX1_now_126 (by decide) (by decide) (by decide) (by decide) h (fun h => ?_) (fun hx15 h => ?_)
    · refine pv_iload_n 2 hc dX1_now_200 rfl rfl ?_
      exact pv_iret hc hr hQ (by cases h; rfl) (wz_id hro).symm dX1_now_201
    refine pv_tsw (tgt := 202) (c := 4) (off := 76) hc dX1_now_126 (by decide) (by decide) (by decide) (by decide) h (fun h => ?_) (fun hx16 h => ?_)
    · refine pv_iload_n 3 hc dX1_now_202 rfl rfl ?_
      exact pv_iret hc hr hQ (by cases h; rfl) (wz_id hro).symm dX1_now_203
    refine pv_tsw (tgt := 204) (c := 5) (off := 78) hc dX1_now_126 (by decide) (by decide) (by decide) (by decide) h (fun h => ?_) (fun hx17 h => ?_)
    · refine pv_iload 4 hc dX1_now_204 rfl ?_
      exact pv_iret hc hr hQ (by cases h; rfl) (wz_id hro).symm dX1_now_206
    refine pv_tsw (tgt := 207) (c := 6) (off := 81) hc dX1_now_126 (by decide) (by decide) (by decide) (by decide) h (fun h => ?_) (fun hx18 h => ?_)
    · refine pv_iload 5 hc dX1_now_207 rfl ?_
      exact pv_iret hc hr hQ (by cases h; rfl) (wz_id hro).symm dX1_now_209
    refine pv_tsw (tgt := 210) (c := 7) (off := 84) hc dX1_now_126 (by decide) (by decide) (by decide) (by decide) h (fun h => ?_) (fun hx22 h => ?_)
    · refine pv_aload_n 0 hc dX1_now_210 rfl rfl ?_
      obtain ⟨hp19, h⟩ := PG_el h
      refine gp_X1_76 hc hX1 (wz_at hn rfl 2 rfl) hp19 dX1_now_211 ?_
      obtain ⟨v21, hf20, h⟩ := BD_el h
      refine ca_X1_271 hc hX3 (wz_at hn rfl 0 rfl) (x3_all_ok hX3 (wz_at hn rfl 0 rfl) hf20) (by decide) (Nat.le_of_ble_eq_true rfl) dX1_now_214 ?_
      refine pv_iload 6 hc dX1_now_217 rfl ?_
      refine pv_iconst (-1 : Int32) hc dX1_now_219 rfl ?_
      refine pv_ixor hc dX1_now_220 ?_
      refine pv_iand hc dX1_now_221 ?_
      exact pv_iret hc hr hQ (by cases h; rfl) (wz_id hro).symm dX1_now_222
    refine pv_tableOut (tgt := 223) hc dX1_now_126 (tsw_out 0 [0, 1, 2, 3, 4, 5, 6, 7] (ne_c hx9 (ne_c hx10 (ne_c hx14 (ne_c hx15 (ne_c hx16 (ne_c hx17 (ne_c hx18 (ne_c hx22 ne_n)))))))) 7 (by decide)) (by decide) ?_
    refine pv_iconst (-1 : Int32) hc dX1_now_223 rfl ?_
    exact pv_iret hc hr hQ (by cases h; rfl) (wz_id hro).symm dX1_now_224
  · refine pv_aload_n 0 hc dX1_now_28 rfl rfl ?_
    refine gf_X1_83 hc hX1 (wz_at hn rfl 2 rfl) dX1_now_29 ?_
    refine pv_aload_n 0 hc dX1_now_32 rfl rfl ?_
    obtain ⟨hp23, h⟩ := PG_el h
    refine gp_X1_76 hc hX1 (wz_at hn rfl 2 rfl) hp23 dX1_now_33 ?_
    refine pv_iload 7 hc dX1_now_36 rfl ?_
    obtain ⟨v25, hf24, h⟩ := BD_el h
    refine ca_X1_223 hc hX4 (wz_at hn rfl 1 rfl) (x4_sees_ok hX3 hX4 (wz_at hn rfl 1 rfl) (wz_at hn rfl 0 rfl) hf24) (by decide) (Nat.le_of_ble_eq_true rfl) dX1_now_38 ?_
    obtain ⟨j27, hj27, h⟩ := JN1_el (P := fun v26 => V X 0 0 (wz G [(b, 2, e), ((a + 13), 3, z), (a, 0, s)]) [(0, .ref a), (1, .int x1), (2, .int v26), (3, .int v2), (4, .int v3), (5, .int v4), (6, .int v5), (7, .int v6)] [] 51) h (by
        intro v26 h
        refine pv_aload_n 0 hc dX1_now_51 rfl rfl ?_
        refine gf_X1_83 hc hX1 (wz_at hn rfl 2 rfl) dX1_now_52 ?_
        refine gf_X1_221 hc hX4 (wz_at hn rfl 1 rfl) dX1_now_55 ?_
        refine pv_iload 7 hc dX1_now_58 rfl ?_
        obtain ⟨i28, hi28, h⟩ := IX_el h
        refine al_X4_1 hc hX4 (wz_at hn rfl 1 rfl) hi28 dX1_now_60 ?_
        obtain ⟨j30, hj30, h⟩ := JN1_el (P := fun v29 => V X 0 0 (wz G [(b, 2, e), ((a + 13), 3, z), (a, 0, s)]) [(0, .ref a), (1, .int x1), (2, .int v26), (3, .int v29), (4, .int v3), (5, .int v4), (6, .int v5), (7, .int v6)] [] 71) h (by
            intro v29 h
            refine pv_iload 4 hc dX1_now_71 rfl ?_
            refine pv_aload_n 0 hc dX1_now_73 rfl rfl ?_
            refine gf_X1_83 hc hX1 (wz_at hn rfl 2 rfl) dX1_now_74 ?_
            refine pv_iload 7 hc dX1_now_77 rfl ?_
            refine pv_iconst (1 : Int32) hc dX1_now_79 rfl ?_
            obtain ⟨v32, hf31, h⟩ := BD_el h
            refine ca_X1_226 hc hX4 (wz_at hn rfl 1 rfl) (x4_leaves_ok hX4 (wz_at hn rfl 1 rfl) hf31) (by decide) (Nat.le_of_ble_eq_true rfl) dX1_now_80 ?_
            refine pv_iadd hc dX1_now_83 ?_
            refine pv_istore (L' := [(4, .int (v3 + v32)), (0, .ref a), (1, .int x1), (2, .int v26), (3, .int v29), (5, .int v4), (6, .int v5), (7, .int v6)]) hc dX1_now_84 hN (by decide) rfl ?_
            refine pv_iload 5 hc dX1_now_86 rfl ?_
            refine pv_aload_n 1 hc dX1_now_88 rfl rfl ?_
            refine gf_X1_83 hc hX1 (wz_at hn rfl 2 rfl) dX1_now_89 ?_
            refine pv_iload 7 hc dX1_now_92 rfl ?_
            refine pv_iconst (0 : Int32) hc dX1_now_94 rfl ?_
            obtain ⟨v34, hf33, h⟩ := BD_el h
            refine ca_X1_226 hc hX4 (wz_at hn rfl 1 rfl) (x4_leaves_ok hX4 (wz_at hn rfl 1 rfl) hf33) (by decide) (Nat.le_of_ble_eq_true rfl) dX1_now_95 ?_
            refine pv_iadd hc dX1_now_98 ?_
            refine pv_istore (L' := [(5, .int (v4 + v34)), (4, .int (v3 + v32)), (0, .ref a), (1, .int x1), (2, .int v26), (3, .int v29), (6, .int v5), (7, .int v6)]) hc dX1_now_99 hN (by decide) rfl ?_
            refine pv_iload 6 hc dX1_now_101 rfl ?_
            refine pv_aload_n 2 hc dX1_now_103 rfl rfl ?_
            refine gf_X1_83 hc hX1 (wz_at hn rfl 2 rfl) dX1_now_104 ?_
            refine pv_aload_n 2 hc dX1_now_107 rfl rfl ?_
            obtain ⟨hp35, h⟩ := PG_el h
            refine gp_X1_76 hc hX1 (wz_at hn rfl 2 rfl) hp35 dX1_now_108 ?_
            refine pv_iload 7 hc dX1_now_111 rfl ?_
            obtain ⟨v37, hf36, h⟩ := BD_el h
            refine ca_X1_223 hc hX4 (wz_at hn rfl 1 rfl) (x4_sees_ok hX3 hX4 (wz_at hn rfl 1 rfl) (wz_at hn rfl 0 rfl) hf36) (by decide) (Nat.le_of_ble_eq_true rfl) dX1_now_113 ?_
            refine pv_ior hc dX1_now_116 ?_
            refine pv_istore (L' := [(6, .int (v5 ||| v37)), (5, .int (v4 + v34)), (4, .int (v3 + v32)), (0, .ref a), (1, .int x1), (2, .int v26), (3, .int v29), (7, .int v6)]) hc dX1_now_117 hN (by decide) rfl ?_
            refine pv_iinc (L' := [(7, .int (v6 + (1 : Int32))), (6, .int (v5 ||| v37)), (5, .int (v4 + v34)), (4, .int (v3 + v32)), (0, .ref a), (1, .int x1), (2, .int v26), (3, .int v29)]) 7 (v6 + (1 : Int32)) hc dX1_now_119 rfl rfl hN (by decide) rfl ?_
            refine pv_goto (tgt := 16) hc dX1_now_122 (by decide) ?_
            refine pv_sub [4, 5, 6, 7, 3, 2, 1, 0] rfl ?_
            exact hrec7 _ _ _ _ _ _ h)
        refine pv_if_le (tgt := 71) hc dX1_now_61 (by decide) h (fun h => ?_) (fun h => ?_)
        · exact hj30 _ h
        · refine pv_iload_n 3 hc dX1_now_64 rfl rfl ?_
          refine pv_iconst (1 : Int32) hc dX1_now_65 rfl ?_
          refine pv_iload 7 hc dX1_now_66 rfl ?_
          refine pv_ishl hc dX1_now_68 ?_
          refine pv_ior hc dX1_now_69 ?_
          refine pv_istore_n (L' := [(3, .int (v2 ||| ((1 : Int32) <<< (v6 &&& 31)))), (0, .ref a), (1, .int x1), (2, .int v26), (4, .int v3), (5, .int v4), (6, .int v5), (7, .int v6)]) hc dX1_now_70 rfl hN (by decide) rfl ?_
          refine pv_sub [1, 2, 3, 0, 4, 5, 6, 7] rfl ?_
          exact hj30 _ h)
    refine pv_if_eq (tgt := 51) hc dX1_now_41 (by decide) h (fun h => ?_) (fun h => ?_)
    · exact hj27 _ h
    · refine pv_iload_n 2 hc dX1_now_44 rfl rfl ?_
      refine pv_iconst (1 : Int32) hc dX1_now_45 rfl ?_
      refine pv_iload 7 hc dX1_now_46 rfl ?_
      refine pv_ishl hc dX1_now_48 ?_
      refine pv_ior hc dX1_now_49 ?_
      refine pv_istore_n (L' := [(2, .int (v1 ||| ((1 : Int32) <<< (v6 &&& 31)))), (0, .ref a), (1, .int x1), (3, .int v2), (4, .int v3), (5, .int v4), (6, .int v5), (7, .int v6)]) hc dX1_now_50 rfl hN (by decide) rfl ?_
      refine pv_sub [1, 2, 0, 3, 4, 5, 6, 7] rfl ?_
      exact hj27 _ h
def x1_guilty (s : Rec) (b : Nat) (e : Rec) (z : Rec) (x1 : Int32) (x2 : Int32) : Option Int32 := BD (x1_isPerson s b e x1) (fun v2 => (if v2 = 0 then some (-1 : Int32) else BD (x1_isDeed s b e x2) (fun v4 => (if v4 = 0 then some (-1 : Int32) else LP1 (fun (rec6 : Int32 → Option Int32) (v5 : Int32) => (if (gI z 8) ≤ v5 then some (0 : Int32) else IX v5 12 (fun i7 => (if (gA z 2 i7) = x1 then (if (gA z 3 i7) = x2 then PG (gP s 6) b (BD (x4_isProved z e v5) (fun v10 => (if v10 = 0 then rec6 (v5 + (1 : Int32)) else some (1 : Int32)))) else rec6 (v5 + (1 : Int32))) else rec6 (v5 + (1 : Int32)))))) FU (0 : Int32)))))
set_option maxHeartbeats 4000000 in
theorem x1_guilty_ok {l : Launch} {g : Gh} {G : Wd} (hX1 : OKX1 g) (hX3 : OKX3 g) (hX4 : OKX4 g) {a : Nat} {s : Rec} (hGt : G.2 a = some (0, s)) {b : Nat} {e : Rec} (hGh : G.2 b = some (2, e)) {z : Rec} (hGz : G.2 (a + 13) = some (3, z)) {x1 : Int32} {x2 : Int32} {r : Int32} (hf : x1_guilty s b e z x1 x2 = some r) : MT l g yX1_guilty cX1_guilty 4 (some .int) 5 G [.ref a, .int x1, .int x2] (some (.int r)) G := by
  refine pv_start (by decide) (Nat.le_of_ble_eq_true rfl) ?_
  intro X hl hg hN hc hr _ _ _ hQ
  subst hl; subst hg
  have hn : ([b, (a + 13), a] : List Nat).Nodup := nd3 (kd_ne hGh hGz (by decide)) (kd_ne hGh hGt (by decide)) (kd_ne hGz hGt (by decide))
  have hro := ((wz_c hGh (wz_c hGz (wz_c hGt wz_n))) : ∀ u ∈ ([(b, 2, e), ((a + 13), 3, z), (a, 0, s)] : List (Nat × Nat × Rec)), G.2 u.1 = some u.2)
  refine pv_G (wz_id (us := [(b, 2, e), ((a + 13), 3, z), (a, 0, s)]) (wz_c hGh (wz_c hGz (wz_c hGt wz_n)))) ?_
  have h := hf
  unfold x1_guilty at h
  show V X 0 0 _ [(0, .ref a), (1, .int x1), (2, .int x2)] [] 0
  refine pv_aload_n 0 hc dX1_guilty_0 rfl rfl ?_
  refine pv_iload_n 1 hc dX1_guilty_1 rfl rfl ?_
  obtain ⟨v2, hf1, h⟩ := BD_el h
  refine ca_X1_285 hc hX1 (wz_at hn rfl 2 rfl) (x1_isPerson_ok hX1 hX3 (wz_at hn rfl 2 rfl) (wz_at hn rfl 0 rfl) hf1) (by decide) (Nat.le_of_ble_eq_true rfl) dX1_guilty_2 ?_
  refine pv_if_eq (tgt := 16) hc dX1_guilty_5 (by decide) h (fun h => ?_) (fun h => ?_)
  · refine pv_iconst (-1 : Int32) hc dX1_guilty_16 rfl ?_
    exact pv_iret hc hr hQ (by cases h; rfl) (wz_id hro).symm dX1_guilty_17
  · refine pv_aload_n 0 hc dX1_guilty_8 rfl rfl ?_
    refine pv_iload_n 2 hc dX1_guilty_9 rfl rfl ?_
    obtain ⟨v4, hf3, h⟩ := BD_el h
    refine ca_X1_288 hc hX1 (wz_at hn rfl 2 rfl) (x1_isDeed_ok hX1 hX3 (wz_at hn rfl 2 rfl) (wz_at hn rfl 0 rfl) hf3) (by decide) (Nat.le_of_ble_eq_true rfl) dX1_guilty_10 ?_
    refine pv_if_ne (tgt := 18) hc dX1_guilty_13 (by decide) h (fun h => ?_) (fun h => ?_)
    · refine pv_iconst (0 : Int32) hc dX1_guilty_18 rfl ?_
      refine pv_istore_n (L' := [(3, .int (0 : Int32)), (0, .ref a), (1, .int x1), (2, .int x2)]) hc dX1_guilty_19 rfl hN (by decide) rfl ?_
      refine pv_sub [1, 2, 3, 0] rfl ?_
      refine LP1_el (P := fun v5 => V X 0 0 (wz G [(b, 2, e), ((a + 13), 3, z), (a, 0, s)]) [(0, .ref a), (1, .int x1), (2, .int x2), (3, .int v5)] [] 20) ?_ FU _ h
      intro rec6 hrec6 v5 h
      refine pv_iload_n 3 hc dX1_guilty_20 rfl rfl ?_
      refine pv_aload_n 0 hc dX1_guilty_21 rfl rfl ?_
      refine gf_X1_83 hc hX1 (wz_at hn rfl 2 rfl) dX1_guilty_22 ?_
      refine gf_X1_198 hc hX4 (wz_at hn rfl 1 rfl) dX1_guilty_25 ?_
      refine pv_icmp_ge (tgt := 80) hc dX1_guilty_28 (by decide) h (fun h => ?_) (fun h => ?_)
      · refine pv_iconst (0 : Int32) hc dX1_guilty_80 rfl ?_
        exact pv_iret hc hr hQ (by cases h; rfl) (wz_id hro).symm dX1_guilty_81
      · refine pv_aload_n 0 hc dX1_guilty_31 rfl rfl ?_
        refine gf_X1_83 hc hX1 (wz_at hn rfl 2 rfl) dX1_guilty_32 ?_
        refine gf_X1_236 hc hX4 (wz_at hn rfl 1 rfl) dX1_guilty_35 ?_
        refine pv_iload_n 3 hc dX1_guilty_38 rfl rfl ?_
        obtain ⟨i7, hi7, h⟩ := IX_el h
        refine al_X4_2 hc hX4 (wz_at hn rfl 1 rfl) hi7 dX1_guilty_39 ?_
        refine pv_iload_n 1 hc dX1_guilty_40 rfl rfl ?_
        refine pv_icmp_ne (tgt := 74) hc dX1_guilty_41 (by decide) h (fun h => ?_) (fun h => ?_)
        · refine pv_iinc (L' := [(3, .int (v5 + (1 : Int32))), (0, .ref a), (1, .int x1), (2, .int x2)]) 3 (v5 + (1 : Int32)) hc dX1_guilty_74 rfl rfl hN (by decide) rfl ?_
          refine pv_goto (tgt := 20) hc dX1_guilty_77 (by decide) ?_
          refine pv_sub [1, 2, 3, 0] rfl ?_
          exact hrec6 _ h
        · refine pv_aload_n 0 hc dX1_guilty_44 rfl rfl ?_
          refine gf_X1_83 hc hX1 (wz_at hn rfl 2 rfl) dX1_guilty_45 ?_
          refine gf_X1_239 hc hX4 (wz_at hn rfl 1 rfl) dX1_guilty_48 ?_
          refine pv_iload_n 3 hc dX1_guilty_51 rfl rfl ?_
          refine al_X4_3 hc hX4 (wz_at hn rfl 1 rfl) hi7 dX1_guilty_52 ?_
          refine pv_iload_n 2 hc dX1_guilty_53 rfl rfl ?_
          refine pv_icmp_ne (tgt := 74) hc dX1_guilty_54 (by decide) h (fun h => ?_) (fun h => ?_)
          · refine pv_iinc (L' := [(3, .int (v5 + (1 : Int32))), (0, .ref a), (1, .int x1), (2, .int x2)]) 3 (v5 + (1 : Int32)) hc dX1_guilty_74 rfl rfl hN (by decide) rfl ?_
            refine pv_goto (tgt := 20) hc dX1_guilty_77 (by decide) ?_
            refine pv_sub [1, 2, 3, 0] rfl ?_
            exact hrec6 _ h
          · refine pv_aload_n 0 hc dX1_guilty_57 rfl rfl ?_
            refine gf_X1_83 hc hX1 (wz_at hn rfl 2 rfl) dX1_guilty_58 ?_
            refine pv_aload_n 0 hc dX1_guilty_61 rfl rfl ?_
            obtain ⟨hp8, h⟩ := PG_el h
            refine gp_X1_76 hc hX1 (wz_at hn rfl 2 rfl) hp8 dX1_guilty_62 ?_
            refine pv_iload_n 3 hc dX1_guilty_65 rfl rfl ?_
            obtain ⟨v10, hf9, h⟩ := BD_el h
            refine ca_X1_252 hc hX4 (wz_at hn rfl 1 rfl) (x4_isProved_ok hX3 hX4 (wz_at hn rfl 1 rfl) (wz_at hn rfl 0 rfl) hf9) (by decide) (Nat.le_of_ble_eq_true rfl) dX1_guilty_66 ?_
            refine pv_if_eq (tgt := 74) hc dX1_guilty_69 (by decide) h (fun h => ?_) (fun h => ?_)
            · refine pv_iinc (L' := [(3, .int (v5 + (1 : Int32))), (0, .ref a), (1, .int x1), (2, .int x2)]) 3 (v5 + (1 : Int32)) hc dX1_guilty_74 rfl rfl hN (by decide) rfl ?_
              refine pv_goto (tgt := 20) hc dX1_guilty_77 (by decide) ?_
              refine pv_sub [1, 2, 3, 0] rfl ?_
              exact hrec6 _ h
            · refine pv_iconst (1 : Int32) hc dX1_guilty_72 rfl ?_
              exact pv_iret hc hr hQ (by cases h; rfl) (wz_id hro).symm dX1_guilty_73
    · refine pv_iconst (-1 : Int32) hc dX1_guilty_16 rfl ?_
      exact pv_iret hc hr hQ (by cases h; rfl) (wz_id hro).symm dX1_guilty_17
def x1_proves (s : Rec) (b : Nat) (e : Rec) (z : Rec) (x1 : Int32) : Option Int32 := BD (x1_isAct s z x1) (fun v2 => (if v2 = 0 then some (-1 : Int32) else IX x1 12 (fun i3 => LP1 (fun (rec5 : Int32 → Option Int32) (v4 : Int32) => (if (400 : Int32) < v4 then some (-1 : Int32) else LP2 (fun (rec8 : Int32 → Int32 → Option Int32) (v6 : Int32) (v7 : Int32) => PG (gP s 6) b ((if (gI e 8) ≤ v7 then PG (gP s 6) b ((if v6 < (gI e 13) then rec5 (v4 + (1 : Int32)) else some v4)) else BD (x4_comes z v7 x1) (fun v12 => (if v12 = (-1 : Int32) then rec8 v6 (v7 + (1 : Int32)) else BD (x4_comes z v7 x1) (fun v14 => (if v4 < v14 then rec8 v6 (v7 + (1 : Int32)) else rec8 (v6 + (1 : Int32)) (v7 + (1 : Int32))))))))) FU (0 : Int32) (0 : Int32))) FU (gA z 5 i3))))
set_option maxHeartbeats 4000000 in
theorem x1_proves_ok {l : Launch} {g : Gh} {G : Wd} (hX1 : OKX1 g) (hX3 : OKX3 g) (hX4 : OKX4 g) {a : Nat} {s : Rec} (hGt : G.2 a = some (0, s)) {b : Nat} {e : Rec} (hGh : G.2 b = some (2, e)) {z : Rec} (hGz : G.2 (a + 13) = some (3, z)) {x1 : Int32} {r : Int32} (hf : x1_proves s b e z x1 = some r) : MT l g yX1_proves cX1_proves 5 (some .int) 3 G [.ref a, .int x1] (some (.int r)) G := by
  refine pv_start (by decide) (Nat.le_of_ble_eq_true rfl) ?_
  intro X hl hg hN hc hr _ _ _ hQ
  subst hl; subst hg
  have hn : ([b, (a + 13), a] : List Nat).Nodup := nd3 (kd_ne hGh hGz (by decide)) (kd_ne hGh hGt (by decide)) (kd_ne hGz hGt (by decide))
  have hro := ((wz_c hGh (wz_c hGz (wz_c hGt wz_n))) : ∀ u ∈ ([(b, 2, e), ((a + 13), 3, z), (a, 0, s)] : List (Nat × Nat × Rec)), G.2 u.1 = some u.2)
  refine pv_G (wz_id (us := [(b, 2, e), ((a + 13), 3, z), (a, 0, s)]) (wz_c hGh (wz_c hGz (wz_c hGt wz_n)))) ?_
  have h := hf
  unfold x1_proves at h
  show V X 0 0 _ [(0, .ref a), (1, .int x1)] [] 0
  refine pv_aload_n 0 hc dX1_proves_0 rfl rfl ?_
  refine pv_iload_n 1 hc dX1_proves_1 rfl rfl ?_
  obtain ⟨v2, hf1, h⟩ := BD_el h
  refine ca_X1_233 hc hX1 (wz_at hn rfl 2 rfl) (x1_isAct_ok hX1 hX4 (wz_at hn rfl 2 rfl) (wz_at hn rfl 1 rfl) hf1) (by decide) (Nat.le_of_ble_eq_true rfl) dX1_proves_2 ?_
  refine pv_if_ne (tgt := 10) hc dX1_proves_5 (by decide) h (fun h => ?_) (fun h => ?_)
  · refine pv_aload_n 0 hc dX1_proves_10 rfl rfl ?_
    refine gf_X1_83 hc hX1 (wz_at hn rfl 2 rfl) dX1_proves_11 ?_
    refine gf_X1_245 hc hX4 (wz_at hn rfl 1 rfl) dX1_proves_14 ?_
    refine pv_iload_n 1 hc dX1_proves_17 rfl rfl ?_
    obtain ⟨i3, hi3, h⟩ := IX_el h
    refine al_X4_5 hc hX4 (wz_at hn rfl 1 rfl) hi3 dX1_proves_18 ?_
    refine pv_istore_n (L' := [(2, .int (gA z 5 i3)), (0, .ref a), (1, .int x1)]) hc dX1_proves_19 rfl hN (by decide) rfl ?_
    refine pv_sub [1, 2, 0] rfl ?_
    refine LP1_el (P := fun v4 => V X 0 0 (wz G [(b, 2, e), ((a + 13), 3, z), (a, 0, s)]) [(0, .ref a), (1, .int x1), (2, .int v4)] [] 20) ?_ FU _ h
    intro rec5 hrec5 v4 h
    refine pv_iload_n 2 hc dX1_proves_20 rfl rfl ?_
    refine pv_sipush (400 : Int32) hc dX1_proves_21 rfl ?_
    refine pv_icmp_gt (tgt := 100) hc dX1_proves_24 (by decide) h (fun h => ?_) (fun h => ?_)
    · refine pv_iconst (-1 : Int32) hc dX1_proves_100 rfl ?_
      exact pv_iret hc hr hQ (by cases h; rfl) (wz_id hro).symm dX1_proves_101
    · refine pv_iconst (0 : Int32) hc dX1_proves_27 rfl ?_
      refine pv_istore_n (L' := [(3, .int (0 : Int32)), (0, .ref a), (1, .int x1), (2, .int v4)]) hc dX1_proves_28 rfl hN (by decide) rfl ?_
      refine pv_iconst (0 : Int32) hc dX1_proves_29 rfl ?_
      refine pv_istore (L' := [(4, .int (0 : Int32)), (3, .int (0 : Int32)), (0, .ref a), (1, .int x1), (2, .int v4)]) hc dX1_proves_30 hN (by decide) rfl ?_
      refine pv_sub [2, 3, 4, 1, 0] rfl ?_
      refine LP2_el (P := fun v6 v7 => V X 0 0 (wz G [(b, 2, e), ((a + 13), 3, z), (a, 0, s)]) [(0, .ref a), (1, .int x1), (2, .int v4), (3, .int v6), (4, .int v7)] [] 32) ?_ FU _ _ h
      intro rec8 hrec8 v6 v7 h
      refine pv_iload 4 hc dX1_proves_32 rfl ?_
      refine pv_aload_n 0 hc dX1_proves_34 rfl rfl ?_
      obtain ⟨hp9, h⟩ := PG_el h
      refine gp_X1_76 hc hX1 (wz_at hn rfl 2 rfl) hp9 dX1_proves_35 ?_
      refine gf_X1_189 hc hX3 (wz_at hn rfl 0 rfl) dX1_proves_38 ?_
      refine pv_icmp_ge (tgt := 81) hc dX1_proves_41 (by decide) h (fun h => ?_) (fun h => ?_)
      · refine pv_iload_n 3 hc dX1_proves_81 rfl rfl ?_
        refine pv_aload_n 0 hc dX1_proves_82 rfl rfl ?_
        obtain ⟨hp10, h⟩ := PG_el h
        refine gp_X1_76 hc hX1 (wz_at hn rfl 2 rfl) hp10 dX1_proves_83 ?_
        refine gf_X1_309 hc hX3 (wz_at hn rfl 0 rfl) dX1_proves_86 ?_
        refine pv_icmp_lt (tgt := 94) hc dX1_proves_89 (by decide) h (fun h => ?_) (fun h => ?_)
        · refine pv_iinc (L' := [(2, .int (v4 + (1 : Int32))), (0, .ref a), (1, .int x1), (3, .int v6), (4, .int v7)]) 2 (v4 + (1 : Int32)) hc dX1_proves_94 rfl rfl hN (by decide) rfl ?_
          refine pv_goto (tgt := 20) hc dX1_proves_97 (by decide) ?_
          refine pv_sub [1, 2, 0] rfl ?_
          exact hrec5 _ h
        · refine pv_iload_n 2 hc dX1_proves_92 rfl rfl ?_
          exact pv_iret hc hr hQ (by cases h; rfl) (wz_id hro).symm dX1_proves_93
      · refine pv_aload_n 0 hc dX1_proves_44 rfl rfl ?_
        refine gf_X1_83 hc hX1 (wz_at hn rfl 2 rfl) dX1_proves_45 ?_
        refine pv_iload 4 hc dX1_proves_48 rfl ?_
        refine pv_iload_n 1 hc dX1_proves_50 rfl rfl ?_
        obtain ⟨v12, hf11, h⟩ := BD_el h
        refine ca_X1_256 hc hX4 (wz_at hn rfl 1 rfl) (x4_comes_ok hX4 (wz_at hn rfl 1 rfl) hf11) (by decide) (Nat.le_of_ble_eq_true rfl) dX1_proves_51 ?_
        refine pv_iconst (-1 : Int32) hc dX1_proves_54 rfl ?_
        refine pv_icmp_eq (tgt := 75) hc dX1_proves_55 (by decide) h (fun h => ?_) (fun h => ?_)
        · refine pv_iinc (L' := [(4, .int (v7 + (1 : Int32))), (0, .ref a), (1, .int x1), (2, .int v4), (3, .int v6)]) 4 (v7 + (1 : Int32)) hc dX1_proves_75 rfl rfl hN (by decide) rfl ?_
          refine pv_goto (tgt := 32) hc dX1_proves_78 (by decide) ?_
          refine pv_sub [1, 2, 3, 4, 0] rfl ?_
          exact hrec8 _ _ h
        · refine pv_aload_n 0 hc dX1_proves_58 rfl rfl ?_
          refine gf_X1_83 hc hX1 (wz_at hn rfl 2 rfl) dX1_proves_59 ?_
          refine pv_iload 4 hc dX1_proves_62 rfl ?_
          refine pv_iload_n 1 hc dX1_proves_64 rfl rfl ?_
          obtain ⟨v14, hf13, h⟩ := BD_el h
          refine ca_X1_256 hc hX4 (wz_at hn rfl 1 rfl) (x4_comes_ok hX4 (wz_at hn rfl 1 rfl) hf13) (by decide) (Nat.le_of_ble_eq_true rfl) dX1_proves_65 ?_
          refine pv_iload_n 2 hc dX1_proves_68 rfl rfl ?_
          refine pv_icmp_gt (tgt := 75) hc dX1_proves_69 (by decide) h (fun h => ?_) (fun h => ?_)
          · refine pv_iinc (L' := [(4, .int (v7 + (1 : Int32))), (0, .ref a), (1, .int x1), (2, .int v4), (3, .int v6)]) 4 (v7 + (1 : Int32)) hc dX1_proves_75 rfl rfl hN (by decide) rfl ?_
            refine pv_goto (tgt := 32) hc dX1_proves_78 (by decide) ?_
            refine pv_sub [1, 2, 3, 4, 0] rfl ?_
            exact hrec8 _ _ h
          · refine pv_iinc (L' := [(3, .int (v6 + (1 : Int32))), (0, .ref a), (1, .int x1), (2, .int v4), (4, .int v7)]) 3 (v6 + (1 : Int32)) hc dX1_proves_72 rfl rfl hN (by decide) rfl ?_
            refine pv_iinc (L' := [(4, .int (v7 + (1 : Int32))), (3, .int (v6 + (1 : Int32))), (0, .ref a), (1, .int x1), (2, .int v4)]) 4 (v7 + (1 : Int32)) hc dX1_proves_75 rfl rfl hN (by decide) rfl ?_
            refine pv_goto (tgt := 32) hc dX1_proves_78 (by decide) ?_
            refine pv_sub [2, 3, 4, 1, 0] rfl ?_
            exact hrec8 _ _ h
  · refine pv_iconst (-1 : Int32) hc dX1_proves_8 rfl ?_
    exact pv_iret hc hr hQ (by cases h; rfl) (wz_id hro).symm dX1_proves_9
def x1_isHidden (s : Rec) (b : Nat) (e : Rec) (z : Rec) (x1 : Int32) (x2 : Int32) : Option Int32 := LP1 (fun (rec2 : Int32 → Option Int32) (v1 : Int32) => PG (gP s 6) b ((if (gI e 8) ≤ v1 then some (1 : Int32) else PG (gP s 6) b (BD (x4_sees z e v1) (fun v6 => BD (x1_has v6 x1) (fun v8 => (if v8 = 0 then rec2 (v1 + (1 : Int32)) else PG (gP s 6) b (BD (x4_next z e v1) (fun v11 => (if ((gI z 7) + x2) < v11 then rec2 (v1 + (1 : Int32)) else some (0 : Int32))))))))))) FU (0 : Int32)
set_option maxHeartbeats 4000000 in
theorem x1_isHidden_ok {l : Launch} {g : Gh} {G : Wd} (hX1 : OKX1 g) (hX3 : OKX3 g) (hX4 : OKX4 g) {a : Nat} {s : Rec} (hGt : G.2 a = some (0, s)) {b : Nat} {e : Rec} (hGh : G.2 b = some (2, e)) {z : Rec} (hGz : G.2 (a + 13) = some (3, z)) {x1 : Int32} {x2 : Int32} {r : Int32} (hf : x1_isHidden s b e z x1 x2 = some r) : MT l g yX1_isHidden cX1_isHidden 4 (some .boolean) 4 G [.ref a, .int x1, .int x2] (some (.int r)) G := by
  refine pv_start (by decide) (Nat.le_of_ble_eq_true rfl) ?_
  intro X hl hg hN hc hr _ _ _ hQ
  subst hl; subst hg
  have hn : ([b, (a + 13), a] : List Nat).Nodup := nd3 (kd_ne hGh hGz (by decide)) (kd_ne hGh hGt (by decide)) (kd_ne hGz hGt (by decide))
  have hro := ((wz_c hGh (wz_c hGz (wz_c hGt wz_n))) : ∀ u ∈ ([(b, 2, e), ((a + 13), 3, z), (a, 0, s)] : List (Nat × Nat × Rec)), G.2 u.1 = some u.2)
  refine pv_G (wz_id (us := [(b, 2, e), ((a + 13), 3, z), (a, 0, s)]) (wz_c hGh (wz_c hGz (wz_c hGt wz_n)))) ?_
  have h := hf
  unfold x1_isHidden at h
  show V X 0 0 _ [(0, .ref a), (1, .int x1), (2, .int x2)] [] 0
  refine pv_iconst (0 : Int32) hc dX1_isHidden_0 rfl ?_
  refine pv_istore_n (L' := [(3, .int (0 : Int32)), (0, .ref a), (1, .int x1), (2, .int x2)]) hc dX1_isHidden_1 rfl hN (by decide) rfl ?_
  refine pv_sub [1, 2, 3, 0] rfl ?_
  refine LP1_el (P := fun v1 => V X 0 0 (wz G [(b, 2, e), ((a + 13), 3, z), (a, 0, s)]) [(0, .ref a), (1, .int x1), (2, .int x2), (3, .int v1)] [] 2) ?_ FU _ h
  intro rec2 hrec2 v1 h
  refine pv_iload_n 3 hc dX1_isHidden_2 rfl rfl ?_
  refine pv_aload_n 0 hc dX1_isHidden_3 rfl rfl ?_
  obtain ⟨hp3, h⟩ := PG_el h
  refine gp_X1_76 hc hX1 (wz_at hn rfl 2 rfl) hp3 dX1_isHidden_4 ?_
  refine gf_X1_189 hc hX3 (wz_at hn rfl 0 rfl) dX1_isHidden_7 ?_
  refine pv_icmp_ge (tgt := 64) hc dX1_isHidden_10 (by decide) h (fun h => ?_) (fun h => ?_)
  · refine pv_iconst (1 : Int32) hc dX1_isHidden_64 rfl ?_
    exact pv_zret hc hr hQ (by decide) (by cases h; rfl) (wz_id hro).symm dX1_isHidden_65
  · refine pv_aload_n 0 hc dX1_isHidden_13 rfl rfl ?_
    refine gf_X1_83 hc hX1 (wz_at hn rfl 2 rfl) dX1_isHidden_14 ?_
    refine pv_aload_n 0 hc dX1_isHidden_17 rfl rfl ?_
    obtain ⟨hp4, h⟩ := PG_el h
    refine gp_X1_76 hc hX1 (wz_at hn rfl 2 rfl) hp4 dX1_isHidden_18 ?_
    refine pv_iload_n 3 hc dX1_isHidden_21 rfl rfl ?_
    obtain ⟨v6, hf5, h⟩ := BD_el h
    refine ca_X1_223 hc hX4 (wz_at hn rfl 1 rfl) (x4_sees_ok hX3 hX4 (wz_at hn rfl 1 rfl) (wz_at hn rfl 0 rfl) hf5) (by decide) (Nat.le_of_ble_eq_true rfl) dX1_isHidden_22 ?_
    refine pv_iload_n 1 hc dX1_isHidden_25 rfl rfl ?_
    obtain ⟨v8, hf7, h⟩ := BD_el h
    refine ca_X1_217 hc (x1_has_ok   hf7) (by decide) (Nat.le_of_ble_eq_true rfl) dX1_isHidden_26 ?_
    refine pv_if_eq (tgt := 58) hc dX1_isHidden_29 (by decide) h (fun h => ?_) (fun h => ?_)
    · refine pv_iinc (L' := [(3, .int (v1 + (1 : Int32))), (0, .ref a), (1, .int x1), (2, .int x2)]) 3 (v1 + (1 : Int32)) hc dX1_isHidden_58 rfl rfl hN (by decide) rfl ?_
      refine pv_goto (tgt := 2) hc dX1_isHidden_61 (by decide) ?_
      refine pv_sub [1, 2, 3, 0] rfl ?_
      exact hrec2 _ h
    · refine pv_aload_n 0 hc dX1_isHidden_32 rfl rfl ?_
      refine gf_X1_83 hc hX1 (wz_at hn rfl 2 rfl) dX1_isHidden_33 ?_
      refine pv_aload_n 0 hc dX1_isHidden_36 rfl rfl ?_
      obtain ⟨hp9, h⟩ := PG_el h
      refine gp_X1_76 hc hX1 (wz_at hn rfl 2 rfl) hp9 dX1_isHidden_37 ?_
      refine pv_iload_n 3 hc dX1_isHidden_40 rfl rfl ?_
      obtain ⟨v11, hf10, h⟩ := BD_el h
      refine ca_X1_311 hc hX4 (wz_at hn rfl 1 rfl) (x4_next_ok hX3 hX4 (wz_at hn rfl 1 rfl) (wz_at hn rfl 0 rfl) hf10) (by decide) (Nat.le_of_ble_eq_true rfl) dX1_isHidden_41 ?_
      refine pv_aload_n 0 hc dX1_isHidden_44 rfl rfl ?_
      refine gf_X1_83 hc hX1 (wz_at hn rfl 2 rfl) dX1_isHidden_45 ?_
      refine gf_X1_266 hc hX4 (wz_at hn rfl 1 rfl) dX1_isHidden_48 ?_
      refine pv_iload_n 2 hc dX1_isHidden_51 rfl rfl ?_
      refine pv_iadd hc dX1_isHidden_52 ?_
      refine pv_icmp_gt (tgt := 58) hc dX1_isHidden_53 (by decide) h (fun h => ?_) (fun h => ?_)
      · refine pv_iinc (L' := [(3, .int (v1 + (1 : Int32))), (0, .ref a), (1, .int x1), (2, .int x2)]) 3 (v1 + (1 : Int32)) hc dX1_isHidden_58 rfl rfl hN (by decide) rfl ?_
        refine pv_goto (tgt := 2) hc dX1_isHidden_61 (by decide) ?_
        refine pv_sub [1, 2, 3, 0] rfl ?_
        exact hrec2 _ h
      · refine pv_iconst (0 : Int32) hc dX1_isHidden_56 rfl ?_
        exact pv_zret hc hr hQ (by decide) (by cases h; rfl) (wz_id hro).symm dX1_isHidden_57
def x1_hides (s : Rec) (b : Nat) (e : Rec) (z : Rec) (x1 : Int32) : Option Int32 := BD (x1_isIn x1 (0 : Int32) (60 : Int32)) (fun v2 => (if v2 = 0 then some (-1 : Int32) else LP2 (fun (rec5 : Int32 → Int32 → Option Int32) (v3 : Int32) (v4 : Int32) => PG (gP s 6) b ((if (gI e 7) ≤ v4 then some v3 else BD (x1_isHidden s b e z v4 x1) (fun v8 => (if v8 = 0 then rec5 v3 (v4 + (1 : Int32)) else rec5 (v3 ||| ((1 : Int32) <<< (v4 &&& 31))) (v4 + (1 : Int32))))))) FU (0 : Int32) (0 : Int32)))
set_option maxHeartbeats 4000000 in
theorem x1_hides_ok {l : Launch} {g : Gh} {G : Wd} (hX1 : OKX1 g) (hX3 : OKX3 g) (hX4 : OKX4 g) {a : Nat} {s : Rec} (hGt : G.2 a = some (0, s)) {b : Nat} {e : Rec} (hGh : G.2 b = some (2, e)) {z : Rec} (hGz : G.2 (a + 13) = some (3, z)) {x1 : Int32} {r : Int32} (hf : x1_hides s b e z x1 = some r) : MT l g yX1_hides cX1_hides 4 (some .int) 5 G [.ref a, .int x1] (some (.int r)) G := by
  refine pv_start (by decide) (Nat.le_of_ble_eq_true rfl) ?_
  intro X hl hg hN hc hr _ _ _ hQ
  subst hl; subst hg
  have hn : ([b, (a + 13), a] : List Nat).Nodup := nd3 (kd_ne hGh hGz (by decide)) (kd_ne hGh hGt (by decide)) (kd_ne hGz hGt (by decide))
  have hro := ((wz_c hGh (wz_c hGz (wz_c hGt wz_n))) : ∀ u ∈ ([(b, 2, e), ((a + 13), 3, z), (a, 0, s)] : List (Nat × Nat × Rec)), G.2 u.1 = some u.2)
  refine pv_G (wz_id (us := [(b, 2, e), ((a + 13), 3, z), (a, 0, s)]) (wz_c hGh (wz_c hGz (wz_c hGt wz_n)))) ?_
  have h := hf
  unfold x1_hides at h
  show V X 0 0 _ [(0, .ref a), (1, .int x1)] [] 0
  refine pv_iload_n 1 hc dX1_hides_0 rfl rfl ?_
  refine pv_iconst (0 : Int32) hc dX1_hides_1 rfl ?_
  refine pv_bipush (60 : Int32) hc dX1_hides_2 rfl ?_
  obtain ⟨v2, hf1, h⟩ := BD_el h
  refine ca_X1_185 hc (x1_isIn_ok   hf1) (by decide) (Nat.le_of_ble_eq_true rfl) dX1_hides_4 ?_
  refine pv_if_ne (tgt := 12) hc dX1_hides_7 (by decide) h (fun h => ?_) (fun h => ?_)
  · refine pv_iconst (0 : Int32) hc dX1_hides_12 rfl ?_
    refine pv_istore_n (L' := [(2, .int (0 : Int32)), (0, .ref a), (1, .int x1)]) hc dX1_hides_13 rfl hN (by decide) rfl ?_
    refine pv_iconst (0 : Int32) hc dX1_hides_14 rfl ?_
    refine pv_istore_n (L' := [(3, .int (0 : Int32)), (2, .int (0 : Int32)), (0, .ref a), (1, .int x1)]) hc dX1_hides_15 rfl hN (by decide) rfl ?_
    refine pv_sub [2, 3, 1, 0] rfl ?_
    refine LP2_el (P := fun v3 v4 => V X 0 0 (wz G [(b, 2, e), ((a + 13), 3, z), (a, 0, s)]) [(0, .ref a), (1, .int x1), (2, .int v3), (3, .int v4)] [] 16) ?_ FU _ _ h
    intro rec5 hrec5 v3 v4 h
    refine pv_iload_n 3 hc dX1_hides_16 rfl rfl ?_
    refine pv_aload_n 0 hc dX1_hides_17 rfl rfl ?_
    obtain ⟨hp6, h⟩ := PG_el h
    refine gp_X1_76 hc hX1 (wz_at hn rfl 2 rfl) hp6 dX1_hides_18 ?_
    refine gf_X1_182 hc hX3 (wz_at hn rfl 0 rfl) dX1_hides_21 ?_
    refine pv_icmp_ge (tgt := 48) hc dX1_hides_24 (by decide) h (fun h => ?_) (fun h => ?_)
    · refine pv_iload_n 2 hc dX1_hides_48 rfl rfl ?_
      exact pv_iret hc hr hQ (by cases h; rfl) (wz_id hro).symm dX1_hides_49
    · refine pv_aload_n 0 hc dX1_hides_27 rfl rfl ?_
      refine pv_iload_n 3 hc dX1_hides_28 rfl rfl ?_
      refine pv_iload_n 1 hc dX1_hides_29 rfl rfl ?_
      obtain ⟨v8, hf7, h⟩ := BD_el h
      refine ca_X1_314 hc hX1 (wz_at hn rfl 2 rfl) (x1_isHidden_ok hX1 hX3 hX4 (wz_at hn rfl 2 rfl) (wz_at hn rfl 0 rfl) (wz_at hn rfl 1 rfl) hf7) (by decide) (Nat.le_of_ble_eq_true rfl) dX1_hides_30 ?_
      refine pv_if_eq (tgt := 42) hc dX1_hides_33 (by decide) h (fun h => ?_) (fun h => ?_)
      · refine pv_iinc (L' := [(3, .int (v4 + (1 : Int32))), (0, .ref a), (1, .int x1), (2, .int v3)]) 3 (v4 + (1 : Int32)) hc dX1_hides_42 rfl rfl hN (by decide) rfl ?_
        refine pv_goto (tgt := 16) hc dX1_hides_45 (by decide) ?_
        refine pv_sub [1, 2, 3, 0] rfl ?_
        exact hrec5 _ _ h
      · refine pv_iload_n 2 hc dX1_hides_36 rfl rfl ?_
        refine pv_iconst (1 : Int32) hc dX1_hides_37 rfl ?_
        refine pv_iload_n 3 hc dX1_hides_38 rfl rfl ?_
        refine pv_ishl hc dX1_hides_39 ?_
        refine pv_ior hc dX1_hides_40 ?_
        refine pv_istore_n (L' := [(2, .int (v3 ||| ((1 : Int32) <<< (v4 &&& 31)))), (0, .ref a), (1, .int x1), (3, .int v4)]) hc dX1_hides_41 rfl hN (by decide) rfl ?_
        refine pv_iinc (L' := [(3, .int (v4 + (1 : Int32))), (2, .int (v3 ||| ((1 : Int32) <<< (v4 &&& 31)))), (0, .ref a), (1, .int x1)]) 3 (v4 + (1 : Int32)) hc dX1_hides_42 rfl rfl hN (by decide) rfl ?_
        refine pv_goto (tgt := 16) hc dX1_hides_45 (by decide) ?_
        refine pv_sub [2, 3, 1, 0] rfl ?_
        exact hrec5 _ _ h
  · refine pv_iconst (-1 : Int32) hc dX1_hides_10 rfl ?_
    exact pv_iret hc hr hQ (by cases h; rfl) (wz_id hro).symm dX1_hides_11
def x1_dark (s : Rec) (b : Nat) (e : Rec) (z : Rec) (x1 : Int32) : Option Int32 := BD (x1_isParlour s b e x1) (fun v2 => (if v2 = 0 then some (-1 : Int32) else LP2 (fun (rec5 : Int32 → Int32 → Option Int32) (v3 : Int32) (v4 : Int32) => PG (gP s 6) b ((if (gI e 8) ≤ v4 then (if ((gI z 7) + v3) ≤ (400 : Int32) then some v3 else some (-1 : Int32)) else PG (gP s 6) b (BD (x4_sees z e v4) (fun v9 => BD (x1_has v9 x1) (fun v11 => (if v11 = 0 then rec5 v3 (v4 + (1 : Int32)) else PG (gP s 6) b (IX v4 6 (fun i13 => rec5 (if v3 < ((gI e 12) - (gA z 1 i13)) then ((gI e 12) - (gA z 1 i13)) else v3) (v4 + (1 : Int32))))))))))) FU (0 : Int32) (0 : Int32)))
set_option maxHeartbeats 4000000 in
theorem x1_dark_ok {l : Launch} {g : Gh} {G : Wd} (hX1 : OKX1 g) (hX3 : OKX3 g) (hX4 : OKX4 g) {a : Nat} {s : Rec} (hGt : G.2 a = some (0, s)) {b : Nat} {e : Rec} (hGh : G.2 b = some (2, e)) {z : Rec} (hGz : G.2 (a + 13) = some (3, z)) {x1 : Int32} {r : Int32} (hf : x1_dark s b e z x1 = some r) : MT l g yX1_dark cX1_dark 4 (some .int) 4 G [.ref a, .int x1] (some (.int r)) G := by
  refine pv_start (by decide) (Nat.le_of_ble_eq_true rfl) ?_
  intro X hl hg hN hc hr _ _ _ hQ
  subst hl; subst hg
  have hn : ([b, (a + 13), a] : List Nat).Nodup := nd3 (kd_ne hGh hGz (by decide)) (kd_ne hGh hGt (by decide)) (kd_ne hGz hGt (by decide))
  have hro := ((wz_c hGh (wz_c hGz (wz_c hGt wz_n))) : ∀ u ∈ ([(b, 2, e), ((a + 13), 3, z), (a, 0, s)] : List (Nat × Nat × Rec)), G.2 u.1 = some u.2)
  refine pv_G (wz_id (us := [(b, 2, e), ((a + 13), 3, z), (a, 0, s)]) (wz_c hGh (wz_c hGz (wz_c hGt wz_n)))) ?_
  have h := hf
  unfold x1_dark at h
  show V X 0 0 _ [(0, .ref a), (1, .int x1)] [] 0
  refine pv_aload_n 0 hc dX1_dark_0 rfl rfl ?_
  refine pv_iload_n 1 hc dX1_dark_1 rfl rfl ?_
  obtain ⟨v2, hf1, h⟩ := BD_el h
  refine ca_X1_260 hc hX1 (wz_at hn rfl 2 rfl) (x1_isParlour_ok hX1 hX3 (wz_at hn rfl 2 rfl) (wz_at hn rfl 0 rfl) hf1) (by decide) (Nat.le_of_ble_eq_true rfl) dX1_dark_2 ?_
  refine pv_if_ne (tgt := 10) hc dX1_dark_5 (by decide) h (fun h => ?_) (fun h => ?_)
  · refine pv_iconst (0 : Int32) hc dX1_dark_10 rfl ?_
    refine pv_istore_n (L' := [(2, .int (0 : Int32)), (0, .ref a), (1, .int x1)]) hc dX1_dark_11 rfl hN (by decide) rfl ?_
    refine pv_iconst (0 : Int32) hc dX1_dark_12 rfl ?_
    refine pv_istore_n (L' := [(3, .int (0 : Int32)), (2, .int (0 : Int32)), (0, .ref a), (1, .int x1)]) hc dX1_dark_13 rfl hN (by decide) rfl ?_
    refine pv_sub [2, 3, 1, 0] rfl ?_
    refine LP2_el (P := fun v3 v4 => V X 0 0 (wz G [(b, 2, e), ((a + 13), 3, z), (a, 0, s)]) [(0, .ref a), (1, .int x1), (2, .int v3), (3, .int v4)] [] 14) ?_ FU _ _ h
    intro rec5 hrec5 v3 v4 h
    refine pv_iload_n 3 hc dX1_dark_14 rfl rfl ?_
    refine pv_aload_n 0 hc dX1_dark_15 rfl rfl ?_
    obtain ⟨hp6, h⟩ := PG_el h
    refine gp_X1_76 hc hX1 (wz_at hn rfl 2 rfl) hp6 dX1_dark_16 ?_
    refine gf_X1_189 hc hX3 (wz_at hn rfl 0 rfl) dX1_dark_19 ?_
    refine pv_icmp_ge (tgt := 72) hc dX1_dark_22 (by decide) h (fun h => ?_) (fun h => ?_)
    · refine pv_aload_n 0 hc dX1_dark_72 rfl rfl ?_
      refine gf_X1_83 hc hX1 (wz_at hn rfl 2 rfl) dX1_dark_73 ?_
      refine gf_X1_266 hc hX4 (wz_at hn rfl 1 rfl) dX1_dark_76 ?_
      refine pv_iload_n 2 hc dX1_dark_79 rfl rfl ?_
      refine pv_iadd hc dX1_dark_80 ?_
      refine pv_sipush (400 : Int32) hc dX1_dark_81 rfl ?_
      refine pv_icmp_le (tgt := 91) hc dX1_dark_84 (by decide) h (fun h => ?_) (fun h => ?_)
      · refine pv_iload_n 2 hc dX1_dark_91 rfl rfl ?_
        exact pv_iret hc hr hQ (by cases h; rfl) (wz_id hro).symm dX1_dark_92
      · refine pv_iconst (-1 : Int32) hc dX1_dark_87 rfl ?_
        refine pv_goto (tgt := 92) hc dX1_dark_88 (by decide) ?_
        exact pv_iret hc hr hQ (by cases h; rfl) (wz_id hro).symm dX1_dark_92
    · refine pv_aload_n 0 hc dX1_dark_25 rfl rfl ?_
      refine gf_X1_83 hc hX1 (wz_at hn rfl 2 rfl) dX1_dark_26 ?_
      refine pv_aload_n 0 hc dX1_dark_29 rfl rfl ?_
      obtain ⟨hp7, h⟩ := PG_el h
      refine gp_X1_76 hc hX1 (wz_at hn rfl 2 rfl) hp7 dX1_dark_30 ?_
      refine pv_iload_n 3 hc dX1_dark_33 rfl rfl ?_
      obtain ⟨v9, hf8, h⟩ := BD_el h
      refine ca_X1_223 hc hX4 (wz_at hn rfl 1 rfl) (x4_sees_ok hX3 hX4 (wz_at hn rfl 1 rfl) (wz_at hn rfl 0 rfl) hf8) (by decide) (Nat.le_of_ble_eq_true rfl) dX1_dark_34 ?_
      refine pv_iload_n 1 hc dX1_dark_37 rfl rfl ?_
      obtain ⟨v11, hf10, h⟩ := BD_el h
      refine ca_X1_217 hc (x1_has_ok   hf10) (by decide) (Nat.le_of_ble_eq_true rfl) dX1_dark_38 ?_
      refine pv_if_eq (tgt := 66) hc dX1_dark_41 (by decide) h (fun h => ?_) (fun h => ?_)
      · refine pv_iinc (L' := [(3, .int (v4 + (1 : Int32))), (0, .ref a), (1, .int x1), (2, .int v3)]) 3 (v4 + (1 : Int32)) hc dX1_dark_66 rfl rfl hN (by decide) rfl ?_
        refine pv_goto (tgt := 14) hc dX1_dark_69 (by decide) ?_
        refine pv_sub [1, 2, 3, 0] rfl ?_
        exact hrec5 _ _ h
      · refine pv_iload_n 2 hc dX1_dark_44 rfl rfl ?_
        refine pv_aload_n 0 hc dX1_dark_45 rfl rfl ?_
        obtain ⟨hp12, h⟩ := PG_el h
        refine gp_X1_76 hc hX1 (wz_at hn rfl 2 rfl) hp12 dX1_dark_46 ?_
        refine gf_X1_317 hc hX3 (wz_at hn rfl 0 rfl) dX1_dark_49 ?_
        refine pv_aload_n 0 hc dX1_dark_52 rfl rfl ?_
        refine gf_X1_83 hc hX1 (wz_at hn rfl 2 rfl) dX1_dark_53 ?_
        refine gf_X1_221 hc hX4 (wz_at hn rfl 1 rfl) dX1_dark_56 ?_
        refine pv_iload_n 3 hc dX1_dark_59 rfl rfl ?_
        obtain ⟨i13, hi13, h⟩ := IX_el h
        refine al_X4_1 hc hX4 (wz_at hn rfl 1 rfl) hi13 dX1_dark_60 ?_
        refine pv_isub hc dX1_dark_61 ?_
        refine pv_mmax hc q1007 q951 q130 q952 rfl (by decide) (Nat.le_of_ble_eq_true rfl) dX1_dark_62 ?_
        refine pv_istore_n (L' := [(2, .int (if v3 < ((gI e 12) - (gA z 1 i13)) then ((gI e 12) - (gA z 1 i13)) else v3)), (0, .ref a), (1, .int x1), (3, .int v4)]) hc dX1_dark_65 rfl hN (by decide) rfl ?_
        refine pv_iinc (L' := [(3, .int (v4 + (1 : Int32))), (2, .int (if v3 < ((gI e 12) - (gA z 1 i13)) then ((gI e 12) - (gA z 1 i13)) else v3)), (0, .ref a), (1, .int x1)]) 3 (v4 + (1 : Int32)) hc dX1_dark_66 rfl rfl hN (by decide) rfl ?_
        refine pv_goto (tgt := 14) hc dX1_dark_69 (by decide) ?_
        refine pv_sub [2, 3, 1, 0] rfl ?_
        exact hrec5 _ _ h
  · refine pv_iconst (-1 : Int32) hc dX1_dark_8 rfl ?_
    exact pv_iret hc hr hQ (by cases h; rfl) (wz_id hro).symm dX1_dark_9
def x1_offBy (s : Rec) (b : Nat) (e : Rec) (z : Rec) (x1 : Int32) (x2 : Int32) : Option Int32 := BD (j9_bitCount x1) (fun v2 => PG (gP s 6) b (BD (x4_sees z e x2) (fun v5 => BD (j9_bitCount (x1 &&& v5)) (fun v7 => some (if 0 ≤ (v2 - ((2 : Int32) * v7)) then (v2 - ((2 : Int32) * v7)) else 0 - (v2 - ((2 : Int32) * v7)))))))
set_option maxHeartbeats 4000000 in
theorem x1_offBy_ok {l : Launch} {g : Gh} {G : Wd} (hX1 : OKX1 g) (hX3 : OKX3 g) (hX4 : OKX4 g) {a : Nat} {s : Rec} (hGt : G.2 a = some (0, s)) {b : Nat} {e : Rec} (hGh : G.2 b = some (2, e)) {z : Rec} (hGz : G.2 (a + 13) = some (3, z)) {x1 : Int32} {x2 : Int32} {r : Int32} (hf : x1_offBy s b e z x1 x2 = some r) : MT l g yX1_offBy cX1_offBy 3 (some .int) 4 G [.ref a, .int x1, .int x2] (some (.int r)) G := by
  refine pv_start (by decide) (Nat.le_of_ble_eq_true rfl) ?_
  intro X hl hg hN hc hr _ _ _ hQ
  subst hl; subst hg
  have hn : ([b, (a + 13), a] : List Nat).Nodup := nd3 (kd_ne hGh hGz (by decide)) (kd_ne hGh hGt (by decide)) (kd_ne hGz hGt (by decide))
  have hro := ((wz_c hGh (wz_c hGz (wz_c hGt wz_n))) : ∀ u ∈ ([(b, 2, e), ((a + 13), 3, z), (a, 0, s)] : List (Nat × Nat × Rec)), G.2 u.1 = some u.2)
  refine pv_G (wz_id (us := [(b, 2, e), ((a + 13), 3, z), (a, 0, s)]) (wz_c hGh (wz_c hGz (wz_c hGt wz_n)))) ?_
  have h := hf
  unfold x1_offBy at h
  show V X 0 0 _ [(0, .ref a), (1, .int x1), (2, .int x2)] [] 0
  refine pv_iload_n 1 hc dX1_offBy_0 rfl rfl ?_
  obtain ⟨v2, hf1, h⟩ := BD_el h
  refine ca_X1_324 hc (j9_bitCount_ok   hf1) (by decide) (Nat.le_of_ble_eq_true rfl) dX1_offBy_1 ?_
  refine pv_iconst (2 : Int32) hc dX1_offBy_4 rfl ?_
  refine pv_iload_n 1 hc dX1_offBy_5 rfl rfl ?_
  refine pv_aload_n 0 hc dX1_offBy_6 rfl rfl ?_
  refine gf_X1_83 hc hX1 (wz_at hn rfl 2 rfl) dX1_offBy_7 ?_
  refine pv_aload_n 0 hc dX1_offBy_10 rfl rfl ?_
  obtain ⟨hp3, h⟩ := PG_el h
  refine gp_X1_76 hc hX1 (wz_at hn rfl 2 rfl) hp3 dX1_offBy_11 ?_
  refine pv_iload_n 2 hc dX1_offBy_14 rfl rfl ?_
  obtain ⟨v5, hf4, h⟩ := BD_el h
  refine ca_X1_223 hc hX4 (wz_at hn rfl 1 rfl) (x4_sees_ok hX3 hX4 (wz_at hn rfl 1 rfl) (wz_at hn rfl 0 rfl) hf4) (by decide) (Nat.le_of_ble_eq_true rfl) dX1_offBy_15 ?_
  refine pv_iand hc dX1_offBy_18 ?_
  obtain ⟨v7, hf6, h⟩ := BD_el h
  refine ca_X1_324 hc (j9_bitCount_ok   hf6) (by decide) (Nat.le_of_ble_eq_true rfl) dX1_offBy_19 ?_
  refine pv_imul hc dX1_offBy_22 ?_
  refine pv_isub hc dX1_offBy_23 ?_
  refine pv_mabs hc q1021 q1022 q130 q1023 rfl (by decide) (Nat.le_of_ble_eq_true rfl) dX1_offBy_24 ?_
  exact pv_iret hc hr hQ (by cases h; rfl) (wz_id hro).symm dX1_offBy_27
def x1_fits (s : Rec) (b : Nat) (e : Rec) (z : Rec) : Option (Int32 × Rec) := BD (x1_taken s) (fun s2 => BD (x1_isIn (gI s2 2) (2 : Int32) (12 : Int32)) (fun v4 => (if v4 = 0 then some ((-1 : Int32), s2) else NZ (2 : Int32) ((if ((gI s2 2) - (gI s2 2) / (2 : Int32) * (2 : Int32)) = (1 : Int32) then some ((-1 : Int32), s2) else PG (gP s2 6) b (BD (x3_all e) (fun v8 => LP2 (fun (rec11 : Int32 → Int32 → Option (Int32 × Rec)) (v9 : Int32) (v10 : Int32) => (if (gI s2 2) ≤ v10 then (if v9 = 0 then some ((0 : Int32), s2) else LT (sI s2 15 (1 : Int32)) (fun s12 => LT (sI s12 14 (0 : Int32)) (fun s13 => LP2 (fun (rec16 : Int32 → Rec → Option (Int32 × Rec)) (v14 : Int32) (s15 : Rec) => PG (gP s15 6) b ((if (gI e 8) ≤ v14 then some (v9, s15) else BD (x1_offBy s15 b e z v9 v14) (fun v19 => BD (x1_offBy s15 b e z v9 (gI s15 14)) (fun v21 => (if v21 ≤ v19 then rec16 (v14 + (1 : Int32)) s15 else LT (sI s15 14 v14) (fun s22 => rec16 (v14 + (1 : Int32)) s22))))))) FU (1 : Int32) s13))) else BD (x1_one s2 v10) (fun v24 => BD (x1_isPlant s2 b e v24) (fun v26 => (if v26 = 0 then some ((-1 : Int32), s2) else BD (x1_one s2 (v10 + (1 : Int32))) (fun v28 => (if v28 ≤ (1 : Int32) then PG (gP s2 6) b (BD (x1_one s2 v10) (fun v31 => BD (x4_sees z e v31) (fun v33 => BD (x1_one s2 (v10 + (1 : Int32))) (fun v35 => (if v35 = (1 : Int32) then rec11 (v9 &&& v33) (v10 + (2 : Int32)) else rec11 (v9 &&& (v33 ^^^ (-1 : Int32))) (v10 + (2 : Int32))))))) else some ((-1 : Int32), s2)))))))) FU v8 (0 : Int32))))))))
set_option maxHeartbeats 4000000 in
theorem x1_fits_ok {l : Launch} {g : Gh} {G : Wd} (hX1 : OKX1 g) (hX3 : OKX3 g) (hX4 : OKX4 g) {a : Nat} {s : Rec} (hGt : G.2 a = some (0, s)) {b : Nat} {e : Rec} (hGh : G.2 b = some (2, e)) {z : Rec} (hGz : G.2 (a + 13) = some (3, z)) {r : Int32} {s' : Rec} (hf : x1_fits s b e z = some (r, s')) : MT l g yX1_fits cX1_fits 4 (some .int) 5 G [.ref a] (some (.int r)) (wp G a 0 s') := by
  refine pv_start (by decide) (Nat.le_of_ble_eq_true rfl) ?_
  intro X hl hg hN hc hr _ _ _ hQ
  subst hl; subst hg
  have hn : ([b, (a + 13), a] : List Nat).Nodup := nd3 (kd_ne hGh hGz (by decide)) (kd_ne hGh hGt (by decide)) (kd_ne hGz hGt (by decide))
  have hro := ((wz_c hGh (wz_c hGz wz_n)) : ∀ u ∈ ([(b, 2, e), ((a + 13), 3, z)] : List (Nat × Nat × Rec)), G.2 u.1 = some u.2)
  refine pv_G (wz_id (us := [(b, 2, e), ((a + 13), 3, z), (a, 0, s)]) (wz_c hGh (wz_c hGz (wz_c hGt wz_n)))) ?_
  have h := hf
  unfold x1_fits at h
  show V X 0 0 _ [(0, .ref a)] [] 0
  refine pv_aload_n 0 hc dX1_fits_0 rfl rfl ?_
  obtain ⟨s2, hf1, h⟩ := BD_el h
  refine ca_X1_159 hc hX1 (wz_at hn rfl 2 rfl) (x1_taken_ok hX1 (wz_at hn rfl 2 rfl) hf1) (by decide) (Nat.le_of_ble_eq_true rfl) dX1_fits_1 ?_
  refine pv_G (wz_set (us := [(b, 2, e), ((a + 13), 3, z), (a, 0, s)]) (us' := [(b, 2, e), ((a + 13), 3, z), (a, 0, s2)]) hn rfl 2 rfl rfl).symm ?_
  refine pv_aload_n 0 hc dX1_fits_4 rfl rfl ?_
  refine gf_X1_153 hc hX1 (wz_at hn rfl 2 rfl) dX1_fits_5 ?_
  refine pv_iconst (2 : Int32) hc dX1_fits_8 rfl ?_
  refine pv_bipush (12 : Int32) hc dX1_fits_9 rfl ?_
  obtain ⟨v4, hf3, h⟩ := BD_el h
  refine ca_X1_185 hc (x1_isIn_ok   hf3) (by decide) (Nat.le_of_ble_eq_true rfl) dX1_fits_11 ?_
  refine pv_if_eq (tgt := 27) hc dX1_fits_14 (by decide) h (fun h => ?_) (fun h => ?_)
  · refine pv_iconst (-1 : Int32) hc dX1_fits_27 rfl ?_
    exact pv_iret hc hr hQ (by cases h; rfl) (fin_z (ro := [(b, 2, e), ((a + 13), 3, z)]) (vs := [(a, 0, s2)]) hro (by cases h; rfl)) dX1_fits_28
  · refine pv_aload_n 0 hc dX1_fits_17 rfl rfl ?_
    refine gf_X1_153 hc hX1 (wz_at hn rfl 2 rfl) dX1_fits_18 ?_
    refine pv_iconst (2 : Int32) hc dX1_fits_21 rfl ?_
    obtain ⟨hz5, h⟩ := NZ_el h
    refine pv_irem hc dX1_fits_22 hz5 ?_
    refine pv_iconst (1 : Int32) hc dX1_fits_23 rfl ?_
    refine pv_icmp_ne (tgt := 29) hc dX1_fits_24 (by decide) h (fun h => ?_) (fun h => ?_)
    · refine pv_aload_n 0 hc dX1_fits_29 rfl rfl ?_
      obtain ⟨hp6, h⟩ := PG_el h
      refine gp_X1_76 hc hX1 (wz_at hn rfl 2 rfl) hp6 dX1_fits_30 ?_
      obtain ⟨v8, hf7, h⟩ := BD_el h
      refine ca_X1_271 hc hX3 (wz_at hn rfl 0 rfl) (x3_all_ok hX3 (wz_at hn rfl 0 rfl) hf7) (by decide) (Nat.le_of_ble_eq_true rfl) dX1_fits_33 ?_
      refine pv_istore_n (L' := [(1, .int v8), (0, .ref a)]) hc dX1_fits_36 rfl hN (by decide) rfl ?_
      refine pv_iconst (0 : Int32) hc dX1_fits_37 rfl ?_
      refine pv_istore_n (L' := [(2, .int (0 : Int32)), (1, .int v8), (0, .ref a)]) hc dX1_fits_38 rfl hN (by decide) rfl ?_
      refine pv_sub [2, 1, 0] rfl ?_
      refine LP2_el (P := fun v9 v10 => V X 0 0 (wz G [(b, 2, e), ((a + 13), 3, z), (a, 0, s2)]) [(0, .ref a), (1, .int v9), (2, .int v10)] [] 39) ?_ FU _ _ h
      intro rec11 hrec11 v9 v10 h
      refine pv_iload_n 2 hc dX1_fits_39 rfl rfl ?_
      refine pv_aload_n 0 hc dX1_fits_40 rfl rfl ?_
      refine gf_X1_153 hc hX1 (wz_at hn rfl 2 rfl) dX1_fits_41 ?_
      refine pv_icmp_ge (tgt := 116) hc dX1_fits_44 (by decide) h (fun h => ?_) (fun h => ?_)
      · refine pv_iload_n 1 hc dX1_fits_116 rfl rfl ?_
        refine pv_if_ne (tgt := 122) hc dX1_fits_117 (by decide) h (fun h => ?_) (fun h => ?_)
        · refine pv_aload_n 0 hc dX1_fits_122 rfl rfl ?_
          refine pv_iconst (1 : Int32) hc dX1_fits_123 rfl ?_
          obtain ⟨s12, hs12, h⟩ := LT_el h
          refine pf_X1_335 (G1 := (wz G [(b, 2, e), ((a + 13), 3, z), (a, 0, s12)])) hc hX1 (wz_at hn rfl 2 rfl) (by decide) hs12 (wz_set hn rfl 2 rfl rfl) dX1_fits_124 ?_
          refine pv_aload_n 0 hc dX1_fits_127 rfl rfl ?_
          refine pv_iconst (0 : Int32) hc dX1_fits_128 rfl ?_
          obtain ⟨s13, hs13, h⟩ := LT_el h
          refine pf_X1_339 (G1 := (wz G [(b, 2, e), ((a + 13), 3, z), (a, 0, s13)])) hc hX1 (wz_at hn rfl 2 rfl) hs13 (wz_set hn rfl 2 rfl rfl) dX1_fits_129 ?_
          refine pv_iconst (1 : Int32) hc dX1_fits_132 rfl ?_
          refine pv_istore_n (L' := [(2, .int (1 : Int32)), (0, .ref a), (1, .int v9)]) hc dX1_fits_133 rfl hN (by decide) rfl ?_
          refine pv_sub [1, 2, 0] rfl ?_
          refine LP2_el (P := fun v14 s15 => V X 0 0 (wz G [(b, 2, e), ((a + 13), 3, z), (a, 0, s15)]) [(0, .ref a), (1, .int v9), (2, .int v14)] [] 134) ?_ FU _ _ h
          intro rec16 hrec16 v14 s15 h
          refine pv_iload_n 2 hc dX1_fits_134 rfl rfl ?_
          refine pv_aload_n 0 hc dX1_fits_135 rfl rfl ?_
          obtain ⟨hp17, h⟩ := PG_el h
          refine gp_X1_76 hc hX1 (wz_at hn rfl 2 rfl) hp17 dX1_fits_136 ?_
          refine gf_X1_189 hc hX3 (wz_at hn rfl 0 rfl) dX1_fits_139 ?_
          refine pv_icmp_ge (tgt := 174) hc dX1_fits_142 (by decide) h (fun h => ?_) (fun h => ?_)
          · refine pv_iload_n 1 hc dX1_fits_174 rfl rfl ?_
            exact pv_iret hc hr hQ (by cases h; rfl) (fin_z (ro := [(b, 2, e), ((a + 13), 3, z)]) (vs := [(a, 0, s15)]) hro (by cases h; rfl)) dX1_fits_175
          · refine pv_aload_n 0 hc dX1_fits_145 rfl rfl ?_
            refine pv_iload_n 1 hc dX1_fits_146 rfl rfl ?_
            refine pv_iload_n 2 hc dX1_fits_147 rfl rfl ?_
            obtain ⟨v19, hf18, h⟩ := BD_el h
            refine ca_X1_342 hc hX1 (wz_at hn rfl 2 rfl) (x1_offBy_ok hX1 hX3 hX4 (wz_at hn rfl 2 rfl) (wz_at hn rfl 0 rfl) (wz_at hn rfl 1 rfl) hf18) (by decide) (Nat.le_of_ble_eq_true rfl) dX1_fits_148 ?_
            refine pv_aload_n 0 hc dX1_fits_151 rfl rfl ?_
            refine pv_iload_n 1 hc dX1_fits_152 rfl rfl ?_
            refine pv_aload_n 0 hc dX1_fits_153 rfl rfl ?_
            refine gf_X1_339 hc hX1 (wz_at hn rfl 2 rfl) dX1_fits_154 ?_
            obtain ⟨v21, hf20, h⟩ := BD_el h
            refine ca_X1_342 hc hX1 (wz_at hn rfl 2 rfl) (x1_offBy_ok hX1 hX3 hX4 (wz_at hn rfl 2 rfl) (wz_at hn rfl 0 rfl) (wz_at hn rfl 1 rfl) hf20) (by decide) (Nat.le_of_ble_eq_true rfl) dX1_fits_157 ?_
            refine pv_icmp_ge (tgt := 168) hc dX1_fits_160 (by decide) h (fun h => ?_) (fun h => ?_)
            · refine pv_iinc (L' := [(2, .int (v14 + (1 : Int32))), (0, .ref a), (1, .int v9)]) 2 (v14 + (1 : Int32)) hc dX1_fits_168 rfl rfl hN (by decide) rfl ?_
              refine pv_goto (tgt := 134) hc dX1_fits_171 (by decide) ?_
              refine pv_sub [1, 2, 0] rfl ?_
              exact hrec16 _ _ h
            · refine pv_aload_n 0 hc dX1_fits_163 rfl rfl ?_
              refine pv_iload_n 2 hc dX1_fits_164 rfl rfl ?_
              obtain ⟨s22, hs22, h⟩ := LT_el h
              refine pf_X1_339 (G1 := (wz G [(b, 2, e), ((a + 13), 3, z), (a, 0, s22)])) hc hX1 (wz_at hn rfl 2 rfl) hs22 (wz_set hn rfl 2 rfl rfl) dX1_fits_165 ?_
              refine pv_iinc (L' := [(2, .int (v14 + (1 : Int32))), (0, .ref a), (1, .int v9)]) 2 (v14 + (1 : Int32)) hc dX1_fits_168 rfl rfl hN (by decide) rfl ?_
              refine pv_goto (tgt := 134) hc dX1_fits_171 (by decide) ?_
              refine pv_sub [1, 2, 0] rfl ?_
              exact hrec16 _ _ h
        · refine pv_iconst (0 : Int32) hc dX1_fits_120 rfl ?_
          exact pv_iret hc hr hQ (by cases h; rfl) (fin_z (ro := [(b, 2, e), ((a + 13), 3, z)]) (vs := [(a, 0, s2)]) hro (by cases h; rfl)) dX1_fits_121
      · refine pv_aload_n 0 hc dX1_fits_47 rfl rfl ?_
        refine pv_aload_n 0 hc dX1_fits_48 rfl rfl ?_
        refine pv_iload_n 2 hc dX1_fits_49 rfl rfl ?_
        obtain ⟨v24, hf23, h⟩ := BD_el h
        refine ca_X1_332 hc hX1 (wz_at hn rfl 2 rfl) (x1_one_ok hX1 (wz_at hn rfl 2 rfl) hf23) (by decide) (Nat.le_of_ble_eq_true rfl) dX1_fits_50 ?_
        obtain ⟨v26, hf25, h⟩ := BD_el h
        refine ca_X1_201 hc hX1 (wz_at hn rfl 2 rfl) (x1_isPlant_ok hX1 hX3 (wz_at hn rfl 2 rfl) (wz_at hn rfl 0 rfl) hf25) (by decide) (Nat.le_of_ble_eq_true rfl) dX1_fits_53 ?_
        refine pv_if_eq (tgt := 70) hc dX1_fits_56 (by decide) h (fun h => ?_) (fun h => ?_)
        · refine pv_iconst (-1 : Int32) hc dX1_fits_70 rfl ?_
          exact pv_iret hc hr hQ (by cases h; rfl) (fin_z (ro := [(b, 2, e), ((a + 13), 3, z)]) (vs := [(a, 0, s2)]) hro (by cases h; rfl)) dX1_fits_71
        · refine pv_aload_n 0 hc dX1_fits_59 rfl rfl ?_
          refine pv_iload_n 2 hc dX1_fits_60 rfl rfl ?_
          refine pv_iconst (1 : Int32) hc dX1_fits_61 rfl ?_
          refine pv_iadd hc dX1_fits_62 ?_
          obtain ⟨v28, hf27, h⟩ := BD_el h
          refine ca_X1_332 hc hX1 (wz_at hn rfl 2 rfl) (x1_one_ok hX1 (wz_at hn rfl 2 rfl) hf27) (by decide) (Nat.le_of_ble_eq_true rfl) dX1_fits_63 ?_
          refine pv_iconst (1 : Int32) hc dX1_fits_66 rfl ?_
          refine pv_icmp_le (tgt := 72) hc dX1_fits_67 (by decide) h (fun h => ?_) (fun h => ?_)
          · refine pv_aload_n 0 hc dX1_fits_72 rfl rfl ?_
            refine gf_X1_83 hc hX1 (wz_at hn rfl 2 rfl) dX1_fits_73 ?_
            refine pv_aload_n 0 hc dX1_fits_76 rfl rfl ?_
            obtain ⟨hp29, h⟩ := PG_el h
            refine gp_X1_76 hc hX1 (wz_at hn rfl 2 rfl) hp29 dX1_fits_77 ?_
            refine pv_aload_n 0 hc dX1_fits_80 rfl rfl ?_
            refine pv_iload_n 2 hc dX1_fits_81 rfl rfl ?_
            obtain ⟨v31, hf30, h⟩ := BD_el h
            refine ca_X1_332 hc hX1 (wz_at hn rfl 2 rfl) (x1_one_ok hX1 (wz_at hn rfl 2 rfl) hf30) (by decide) (Nat.le_of_ble_eq_true rfl) dX1_fits_82 ?_
            obtain ⟨v33, hf32, h⟩ := BD_el h
            refine ca_X1_223 hc hX4 (wz_at hn rfl 1 rfl) (x4_sees_ok hX3 hX4 (wz_at hn rfl 1 rfl) (wz_at hn rfl 0 rfl) hf32) (by decide) (Nat.le_of_ble_eq_true rfl) dX1_fits_85 ?_
            refine pv_istore_n (L' := [(3, .int v33), (0, .ref a), (1, .int v9), (2, .int v10)]) hc dX1_fits_88 rfl hN (by decide) rfl ?_
            refine pv_iload_n 2 hc dX1_fits_89 rfl rfl ?_
            refine pv_aload_n 1 hc dX1_fits_90 rfl rfl ?_
            refine pv_iload_n 3 hc dX1_fits_91 rfl rfl ?_
            refine pv_iconst (1 : Int32) hc dX1_fits_92 rfl ?_
            refine pv_iadd hc dX1_fits_93 ?_
            obtain ⟨v35, hf34, h⟩ := BD_el h
            refine ca_X1_332 hc hX1 (wz_at hn rfl 2 rfl) (x1_one_ok hX1 (wz_at hn rfl 2 rfl) hf34) (by decide) (Nat.le_of_ble_eq_true rfl) dX1_fits_94 ?_
            refine pv_iconst (1 : Int32) hc dX1_fits_97 rfl ?_
            refine pv_icmp_ne (tgt := 105) hc dX1_fits_98 (by decide) h (fun h => ?_) (fun h => ?_)
            · refine pv_iload_n 0 hc dX1_fits_105 rfl rfl ?_
              refine pv_iconst (-1 : Int32) hc dX1_fits_106 rfl ?_
              refine pv_ixor hc dX1_fits_107 ?_
              refine pv_iand hc dX1_fits_108 ?_
              refine pv_istore_n (L' := [(1, .int (v9 &&& (v33 ^^^ (-1 : Int32)))), (3, .int v33), (0, .ref a), (2, .int v10)]) hc dX1_fits_109 rfl hN (by decide) rfl ?_
              refine pv_iinc (L' := [(2, .int (v10 + (2 : Int32))), (1, .int (v9 &&& (v33 ^^^ (-1 : Int32)))), (3, .int v33), (0, .ref a)]) 3 (v10 + (2 : Int32)) hc dX1_fits_110 rfl rfl hN (by decide) rfl ?_
              refine pv_goto (tgt := 39) hc dX1_fits_113 (by decide) ?_
              refine pv_sub [3, 1, 0] rfl ?_
              exact hrec11 _ _ h
            · refine pv_iload_n 0 hc dX1_fits_101 rfl rfl ?_
              refine pv_goto (tgt := 108) hc dX1_fits_102 (by decide) ?_
              refine pv_iand hc dX1_fits_108 ?_
              refine pv_istore_n (L' := [(1, .int (v9 &&& v33)), (3, .int v33), (0, .ref a), (2, .int v10)]) hc dX1_fits_109 rfl hN (by decide) rfl ?_
              refine pv_iinc (L' := [(2, .int (v10 + (2 : Int32))), (1, .int (v9 &&& v33)), (3, .int v33), (0, .ref a)]) 3 (v10 + (2 : Int32)) hc dX1_fits_110 rfl rfl hN (by decide) rfl ?_
              refine pv_goto (tgt := 39) hc dX1_fits_113 (by decide) ?_
              refine pv_sub [3, 1, 0] rfl ?_
              exact hrec11 _ _ h
          · refine pv_iconst (-1 : Int32) hc dX1_fits_70 rfl ?_
            exact pv_iret hc hr hQ (by cases h; rfl) (fin_z (ro := [(b, 2, e), ((a + 13), 3, z)]) (vs := [(a, 0, s2)]) hro (by cases h; rfl)) dX1_fits_71
    · refine pv_iconst (-1 : Int32) hc dX1_fits_27 rfl ?_
      exact pv_iret hc hr hQ (by cases h; rfl) (fin_z (ro := [(b, 2, e), ((a + 13), 3, z)]) (vs := [(a, 0, s2)]) hro (by cases h; rfl)) dX1_fits_28
def x1_ask (s : Rec) : Option Int32 := (if (gI s 15) = 0 then some (-1 : Int32) else some (gI s 14))
set_option maxHeartbeats 4000000 in
theorem x1_ask_ok {l : Launch} {g : Gh} {G : Wd} (hX1 : OKX1 g) {a : Nat} {s : Rec} (hGt : G.2 a = some (0, s)) {r : Int32} (hf : x1_ask s = some r) : MT l g yX1_ask cX1_ask 1 (some .int) 1 G [.ref a] (some (.int r)) G := by
  refine pv_start (by decide) (Nat.le_of_ble_eq_true rfl) ?_
  intro X hl hg hN hc hr _ _ _ hQ
  subst hl; subst hg
  have hn : ([a] : List Nat).Nodup := nd1 
  have hro := ((wz_c hGt wz_n) : ∀ u ∈ ([(a, 0, s)] : List (Nat × Nat × Rec)), G.2 u.1 = some u.2)
  refine pv_G (wz_id (us := [(a, 0, s)]) (wz_c hGt wz_n)) ?_
  have h := hf
  unfold x1_ask at h
  show V X 0 0 _ [(0, .ref a)] [] 0
  refine pv_aload_n 0 hc dX1_ask_0 rfl rfl ?_
  refine gf_X1_335 hc hX1 (wz_at hn rfl 0 rfl) dX1_ask_1 ?_
  refine pv_if_eq (tgt := 14) hc dX1_ask_4 (by decide) h (fun h => ?_) (fun h => ?_)
  · refine pv_iconst (-1 : Int32) hc dX1_ask_14 rfl ?_
    exact pv_iret hc hr hQ (by cases h; rfl) (wz_id hro).symm dX1_ask_15
  · refine pv_aload_n 0 hc dX1_ask_7 rfl rfl ?_
    refine gf_X1_339 hc hX1 (wz_at hn rfl 0 rfl) dX1_ask_8 ?_
    refine pv_goto (tgt := 15) hc dX1_ask_11 (by decide) ?_
    exact pv_iret hc hr hQ (by cases h; rfl) (wz_id hro).symm dX1_ask_15
def x1_cover (s : Rec) (b : Nat) (e : Rec) : Option (Int32 × Rec) := PG (gP s 6) b (BD (x3_all e) (fun v3 => LP2 (fun (rec6 : Int32 → Int32 → Option (Int32 × Rec)) (v4 : Int32) (v5 : Int32) => PG (gP s 6) b (BD (x3_all e) (fun v9 => (if v9 ≤ v5 then LT (sI s 17 (1 : Int32)) (fun s10 => LT (sI s10 16 v4) (fun s11 => BD (j9_bitCount v4) (fun v13 => some (v13, s11)))) else PG (gP s 6) b (BD (x3_seenFrom e v5) (fun v16 => PG (gP s 6) b (BD (x3_all e) (fun v19 => (if v16 = v19 then BD (j9_bitCount v5) (fun v21 => BD (j9_bitCount v4) (fun v23 => (if v23 ≤ v21 then rec6 v4 (v5 + (1 : Int32)) else rec6 v5 (v5 + (1 : Int32))))) else rec6 v4 (v5 + (1 : Int32))))))))))) FU v3 (0 : Int32)))
set_option maxHeartbeats 4000000 in
theorem x1_cover_ok {l : Launch} {g : Gh} {G : Wd} (hX1 : OKX1 g) (hX3 : OKX3 g) {a : Nat} {s : Rec} (hGt : G.2 a = some (0, s)) {b : Nat} {e : Rec} (hGh : G.2 b = some (2, e)) {r : Int32} {s' : Rec} (hf : x1_cover s b e = some (r, s')) : MT l g yX1_cover cX1_cover 3 (some .int) 3 G [.ref a] (some (.int r)) (wp G a 0 s') := by
  refine pv_start (by decide) (Nat.le_of_ble_eq_true rfl) ?_
  intro X hl hg hN hc hr _ _ _ hQ
  subst hl; subst hg
  have hn : ([b, a] : List Nat).Nodup := nd2 (kd_ne hGh hGt (by decide))
  have hro := ((wz_c hGh wz_n) : ∀ u ∈ ([(b, 2, e)] : List (Nat × Nat × Rec)), G.2 u.1 = some u.2)
  refine pv_G (wz_id (us := [(b, 2, e), (a, 0, s)]) (wz_c hGh (wz_c hGt wz_n))) ?_
  have h := hf
  unfold x1_cover at h
  show V X 0 0 _ [(0, .ref a)] [] 0
  refine pv_aload_n 0 hc dX1_cover_0 rfl rfl ?_
  obtain ⟨hp1, h⟩ := PG_el h
  refine gp_X1_76 hc hX1 (wz_at hn rfl 1 rfl) hp1 dX1_cover_1 ?_
  obtain ⟨v3, hf2, h⟩ := BD_el h
  refine ca_X1_271 hc hX3 (wz_at hn rfl 0 rfl) (x3_all_ok hX3 (wz_at hn rfl 0 rfl) hf2) (by decide) (Nat.le_of_ble_eq_true rfl) dX1_cover_4 ?_
  refine pv_istore_n (L' := [(1, .int v3), (0, .ref a)]) hc dX1_cover_7 rfl hN (by decide) rfl ?_
  refine pv_iconst (0 : Int32) hc dX1_cover_8 rfl ?_
  refine pv_istore_n (L' := [(2, .int (0 : Int32)), (1, .int v3), (0, .ref a)]) hc dX1_cover_9 rfl hN (by decide) rfl ?_
  refine pv_sub [2, 1, 0] rfl ?_
  refine LP2_el (P := fun v4 v5 => V X 0 0 (wz G [(b, 2, e), (a, 0, s)]) [(0, .ref a), (1, .int v4), (2, .int v5)] [] 10) ?_ FU _ _ h
  intro rec6 hrec6 v4 v5 h
  refine pv_iload_n 2 hc dX1_cover_10 rfl rfl ?_
  refine pv_aload_n 0 hc dX1_cover_11 rfl rfl ?_
  obtain ⟨hp7, h⟩ := PG_el h
  refine gp_X1_76 hc hX1 (wz_at hn rfl 1 rfl) hp7 dX1_cover_12 ?_
  obtain ⟨v9, hf8, h⟩ := BD_el h
  refine ca_X1_271 hc hX3 (wz_at hn rfl 0 rfl) (x3_all_ok hX3 (wz_at hn rfl 0 rfl) hf8) (by decide) (Nat.le_of_ble_eq_true rfl) dX1_cover_15 ?_
  refine pv_icmp_ge (tgt := 58) hc dX1_cover_18 (by decide) h (fun h => ?_) (fun h => ?_)
  · refine pv_aload_n 0 hc dX1_cover_58 rfl rfl ?_
    refine pv_iconst (1 : Int32) hc dX1_cover_59 rfl ?_
    obtain ⟨s10, hs10, h⟩ := LT_el h
    refine pf_X1_348 (G1 := (wz G [(b, 2, e), (a, 0, s10)])) hc hX1 (wz_at hn rfl 1 rfl) (by decide) hs10 (wz_set hn rfl 1 rfl rfl) dX1_cover_60 ?_
    refine pv_aload_n 0 hc dX1_cover_63 rfl rfl ?_
    refine pv_iload_n 1 hc dX1_cover_64 rfl rfl ?_
    obtain ⟨s11, hs11, h⟩ := LT_el h
    refine pf_X1_351 (G1 := (wz G [(b, 2, e), (a, 0, s11)])) hc hX1 (wz_at hn rfl 1 rfl) hs11 (wz_set hn rfl 1 rfl rfl) dX1_cover_65 ?_
    refine pv_iload_n 1 hc dX1_cover_68 rfl rfl ?_
    obtain ⟨v13, hf12, h⟩ := BD_el h
    refine ca_X1_324 hc (j9_bitCount_ok   hf12) (by decide) (Nat.le_of_ble_eq_true rfl) dX1_cover_69 ?_
    exact pv_iret hc hr hQ (by cases h; rfl) (fin_z (ro := [(b, 2, e)]) (vs := [(a, 0, s11)]) hro (by cases h; rfl)) dX1_cover_72
  · refine pv_aload_n 0 hc dX1_cover_21 rfl rfl ?_
    obtain ⟨hp14, h⟩ := PG_el h
    refine gp_X1_76 hc hX1 (wz_at hn rfl 1 rfl) hp14 dX1_cover_22 ?_
    refine pv_iload_n 2 hc dX1_cover_25 rfl rfl ?_
    obtain ⟨v16, hf15, h⟩ := BD_el h
    refine ca_X1_345 hc hX3 (wz_at hn rfl 0 rfl) (x3_seenFrom_ok hX3 (wz_at hn rfl 0 rfl) hf15) (by decide) (Nat.le_of_ble_eq_true rfl) dX1_cover_26 ?_
    refine pv_aload_n 0 hc dX1_cover_29 rfl rfl ?_
    obtain ⟨hp17, h⟩ := PG_el h
    refine gp_X1_76 hc hX1 (wz_at hn rfl 1 rfl) hp17 dX1_cover_30 ?_
    obtain ⟨v19, hf18, h⟩ := BD_el h
    refine ca_X1_271 hc hX3 (wz_at hn rfl 0 rfl) (x3_all_ok hX3 (wz_at hn rfl 0 rfl) hf18) (by decide) (Nat.le_of_ble_eq_true rfl) dX1_cover_33 ?_
    refine pv_icmp_ne (tgt := 52) hc dX1_cover_36 (by decide) h (fun h => ?_) (fun h => ?_)
    · refine pv_iinc (L' := [(2, .int (v5 + (1 : Int32))), (0, .ref a), (1, .int v4)]) 2 (v5 + (1 : Int32)) hc dX1_cover_52 rfl rfl hN (by decide) rfl ?_
      refine pv_goto (tgt := 10) hc dX1_cover_55 (by decide) ?_
      refine pv_sub [1, 2, 0] rfl ?_
      exact hrec6 _ _ h
    · refine pv_iload_n 2 hc dX1_cover_39 rfl rfl ?_
      obtain ⟨v21, hf20, h⟩ := BD_el h
      refine ca_X1_324 hc (j9_bitCount_ok   hf20) (by decide) (Nat.le_of_ble_eq_true rfl) dX1_cover_40 ?_
      refine pv_iload_n 1 hc dX1_cover_43 rfl rfl ?_
      obtain ⟨v23, hf22, h⟩ := BD_el h
      refine ca_X1_324 hc (j9_bitCount_ok   hf22) (by decide) (Nat.le_of_ble_eq_true rfl) dX1_cover_44 ?_
      refine pv_icmp_ge (tgt := 52) hc dX1_cover_47 (by decide) h (fun h => ?_) (fun h => ?_)
      · refine pv_iinc (L' := [(2, .int (v5 + (1 : Int32))), (0, .ref a), (1, .int v4)]) 2 (v5 + (1 : Int32)) hc dX1_cover_52 rfl rfl hN (by decide) rfl ?_
        refine pv_goto (tgt := 10) hc dX1_cover_55 (by decide) ?_
        refine pv_sub [1, 2, 0] rfl ?_
        exact hrec6 _ _ h
      · refine pv_iload_n 2 hc dX1_cover_50 rfl rfl ?_
        refine pv_istore_n (L' := [(1, .int v5), (0, .ref a), (2, .int v5)]) hc dX1_cover_51 rfl hN (by decide) rfl ?_
        refine pv_iinc (L' := [(2, .int (v5 + (1 : Int32))), (1, .int v5), (0, .ref a)]) 2 (v5 + (1 : Int32)) hc dX1_cover_52 rfl rfl hN (by decide) rfl ?_
        refine pv_goto (tgt := 10) hc dX1_cover_55 (by decide) ?_
        refine pv_sub [2, 1, 0] rfl ?_
        exact hrec6 _ _ h
def x1_covering (s : Rec) : Option Int32 := (if (gI s 17) = 0 then some (-1 : Int32) else some (gI s 16))
set_option maxHeartbeats 4000000 in
theorem x1_covering_ok {l : Launch} {g : Gh} {G : Wd} (hX1 : OKX1 g) {a : Nat} {s : Rec} (hGt : G.2 a = some (0, s)) {r : Int32} (hf : x1_covering s = some r) : MT l g yX1_covering cX1_covering 1 (some .int) 1 G [.ref a] (some (.int r)) G := by
  refine pv_start (by decide) (Nat.le_of_ble_eq_true rfl) ?_
  intro X hl hg hN hc hr _ _ _ hQ
  subst hl; subst hg
  have hn : ([a] : List Nat).Nodup := nd1 
  have hro := ((wz_c hGt wz_n) : ∀ u ∈ ([(a, 0, s)] : List (Nat × Nat × Rec)), G.2 u.1 = some u.2)
  refine pv_G (wz_id (us := [(a, 0, s)]) (wz_c hGt wz_n)) ?_
  have h := hf
  unfold x1_covering at h
  show V X 0 0 _ [(0, .ref a)] [] 0
  refine pv_aload_n 0 hc dX1_covering_0 rfl rfl ?_
  refine gf_X1_348 hc hX1 (wz_at hn rfl 0 rfl) dX1_covering_1 ?_
  refine pv_if_eq (tgt := 14) hc dX1_covering_4 (by decide) h (fun h => ?_) (fun h => ?_)
  · refine pv_iconst (-1 : Int32) hc dX1_covering_14 rfl ?_
    exact pv_iret hc hr hQ (by cases h; rfl) (wz_id hro).symm dX1_covering_15
  · refine pv_aload_n 0 hc dX1_covering_7 rfl rfl ?_
    refine gf_X1_351 hc hX1 (wz_at hn rfl 0 rfl) dX1_covering_8 ?_
    refine pv_goto (tgt := 15) hc dX1_covering_11 (by decide) ?_
    exact pv_iret hc hr hQ (by cases h; rfl) (wz_id hro).symm dX1_covering_15
def x1_leftBy (s : Rec) (x1 : Int32) (x2 : Int32) : Option Int32 := IX (x1 ||| ((1 : Int32) <<< (x2 &&& 31))) 32 (fun i1 => IX x2 5 (fun i2 => some (gA s (200 + i1) i2)))
set_option maxHeartbeats 4000000 in
theorem x1_leftBy_ok {l : Launch} {g : Gh} {G : Wd} (hX1 : OKX1 g) {a : Nat} {s : Rec} (hGt : G.2 a = some (0, s)) {x1 : Int32} {x2 : Int32} {r : Int32} (hf : x1_leftBy s x1 x2 = some r) : MT l g yX1_leftBy cX1_leftBy 3 (some .int) 1 G [.ref a, .int x1, .int x2] (some (.int r)) G := by
  refine pv_start (by decide) (Nat.le_of_ble_eq_true rfl) ?_
  intro X hl hg hN hc hr _ _ _ hQ
  subst hl; subst hg
  have hn : ([a] : List Nat).Nodup := nd1 
  have hro := ((wz_c hGt wz_n) : ∀ u ∈ ([(a, 0, s)] : List (Nat × Nat × Rec)), G.2 u.1 = some u.2)
  refine pv_G (wz_id (us := [(a, 0, s)]) (wz_c hGt wz_n)) ?_
  have h := hf
  unfold x1_leftBy at h
  show V X 0 0 _ [(0, .ref a), (1, .int x1), (2, .int x2)] [] 0
  refine pv_aload_n 0 hc dX1_leftBy_0 rfl rfl ?_
  refine gf_X1_116 hc hX1 (wz_at hn rfl 0 rfl) dX1_leftBy_1 ?_
  refine pv_iload_n 1 hc dX1_leftBy_4 rfl rfl ?_
  refine pv_iconst (1 : Int32) hc dX1_leftBy_5 rfl ?_
  refine pv_iload_n 2 hc dX1_leftBy_6 rfl rfl ?_
  refine pv_ishl hc dX1_leftBy_7 ?_
  refine pv_ior hc dX1_leftBy_8 ?_
  obtain ⟨i1, hi1, h⟩ := IX_el h
  refine pv_aaldI hc (wz_at hn rfl 0 rfl) (v_left hX1) 8 (xt8 hX1) hi1 rfl dX1_leftBy_9 ?_
  refine pv_iload_n 2 hc dX1_leftBy_10 rfl rfl ?_
  obtain ⟨i2, hi2, h⟩ := IX_el h
  refine pv_iald hc (wz_at hn rfl 0 rfl) (v_rows hX1 (ix_lt hi1)) 0 (xt0 hX1) hi2 dX1_leftBy_11 ?_
  exact pv_iret hc hr hQ (by cases h; rfl) (wz_id hro).symm dX1_leftBy_12
def x1_layLeft (s : Rec) (b : Nat) (e : Rec) (x1 : Int32) : Option Rec := LP2 (fun (rec3 : Int32 → Rec → Option Rec) (v1 : Int32) (s2 : Rec) => PG (gP s2 6) b (BD (x3_all e) (fun v6 => (if v6 < v1 then LP2 (fun (rec9 : Int32 → Rec → Option Rec) (v7 : Int32) (s8 : Rec) => (if v7 = 0 then some s8 else LP3 (fun (rec13 : Int32 → Int32 → Rec → Option Rec) (v10 : Int32) (v11 : Int32) (s12 : Rec) => PG (gP s12 6) b (BD (x3_all e) (fun v16 => (if v16 < v11 then rec9 v10 s12 else LP3 (fun (rec20 : Int32 → Int32 → Rec → Option Rec) (v17 : Int32) (v18 : Int32) (s19 : Rec) => PG (gP s19 6) b ((if (gI e 7) ≤ v18 then rec13 v17 (v11 + (1 : Int32)) s19 else LP3 (fun (rec25 : Int32 → Int32 → Rec → Option Rec) (v22 : Int32) (v23 : Int32) (s24 : Rec) => PG (gP s24 6) b ((if (gI e 7) ≤ v23 then rec20 v22 (v18 + (1 : Int32)) s24 else PG (gP s24 6) b (IX v18 5 (fun i28 => BD (x1_has (gA e 4 i28) v23) (fun v30 => (if v30 = 0 then rec25 v22 (v23 + (1 : Int32)) s24 else BD (x1_leftBy s24 v11 v23) (fun v32 => IX v11 32 (fun i33 => (if (v32 + (1 : Int32)) < (gA s24 (200 + i33) i28) then BD (x1_leftBy s24 v11 v23) (fun v35 => LT (sA s24 (200 + i33) i28 (v35 + (1 : Int32))) (fun s36 => rec25 (1 : Int32) (v23 + (1 : Int32)) s36)) else rec25 v22 (v23 + (1 : Int32)) s24)))))))))) FU v17 (0 : Int32) s19))) FU v10 (0 : Int32) s12)))) FU (0 : Int32) (0 : Int32) s8)) FU (1 : Int32) s2 else LP2 (fun (rec39 : Int32 → Rec → Option Rec) (v37 : Int32) (s38 : Rec) => PG (gP s38 6) b ((if (gI e 7) ≤ v37 then rec3 (v1 + (1 : Int32)) s38 else IX v1 32 (fun i41 => (if (x1 &&& (v1 ^^^ (-1 : Int32))) = 0 then IX v37 5 (fun i44 => LT (sA s38 (200 + i41) i44 (0 : Int32)) (fun s45 => rec39 (v37 + (1 : Int32)) s45)) else IX v37 5 (fun i42 => LT (sA s38 (200 + i41) i42 (100000 : Int32)) (fun s43 => rec39 (v37 + (1 : Int32)) s43))))))) FU (0 : Int32) s2)))) FU (0 : Int32) s
set_option maxHeartbeats 4000000 in
theorem x1_layLeft_ok {l : Launch} {g : Gh} {G : Wd} (hX1 : OKX1 g) (hX3 : OKX3 g) {a : Nat} {s : Rec} (hGt : G.2 a = some (0, s)) {b : Nat} {e : Rec} (hGh : G.2 b = some (2, e)) {x1 : Int32} {s' : Rec} (hf : x1_layLeft s b e x1 = some s') : MT l g yX1_layLeft cX1_layLeft 6 none 2 G [.ref a, .int x1] none (wp G a 0 s') := by
  refine pv_start (by decide) (Nat.le_of_ble_eq_true rfl) ?_
  intro X hl hg hN hc hr _ _ _ hQ
  subst hl; subst hg
  have hn : ([b, a] : List Nat).Nodup := nd2 (kd_ne hGh hGt (by decide))
  have hro := ((wz_c hGh wz_n) : ∀ u ∈ ([(b, 2, e)] : List (Nat × Nat × Rec)), G.2 u.1 = some u.2)
  refine pv_G (wz_id (us := [(b, 2, e), (a, 0, s)]) (wz_c hGh (wz_c hGt wz_n))) ?_
  have h := hf
  unfold x1_layLeft at h
  show V X 0 0 _ [(0, .ref a), (1, .int x1)] [] 0
  refine pv_iconst (0 : Int32) hc dX1_layLeft_0 rfl ?_
  refine pv_istore_n (L' := [(2, .int (0 : Int32)), (0, .ref a), (1, .int x1)]) hc dX1_layLeft_1 rfl hN (by decide) rfl ?_
  refine pv_sub [1, 2, 0] rfl ?_
  refine LP2_el (P := fun v1 s2 => V X 0 0 (wz G [(b, 2, e), (a, 0, s2)]) [(0, .ref a), (1, .int x1), (2, .int v1)] [] 2) ?_ FU _ _ h
  intro rec3 hrec3 v1 s2 h
  refine pv_iload_n 2 hc dX1_layLeft_2 rfl rfl ?_
  refine pv_aload_n 0 hc dX1_layLeft_3 rfl rfl ?_
  obtain ⟨hp4, h⟩ := PG_el h
  refine gp_X1_76 hc hX1 (wz_at hn rfl 1 rfl) hp4 dX1_layLeft_4 ?_
  obtain ⟨v6, hf5, h⟩ := BD_el h
  refine ca_X1_271 hc hX3 (wz_at hn rfl 0 rfl) (x3_all_ok hX3 (wz_at hn rfl 0 rfl) hf5) (by decide) (Nat.le_of_ble_eq_true rfl) dX1_layLeft_7 ?_
  refine pv_icmp_gt (tgt := 61) hc dX1_layLeft_10 (by decide) h (fun h => ?_) (fun h => ?_)
  · refine pv_iconst (1 : Int32) hc dX1_layLeft_61 rfl ?_
    refine pv_istore_n (L' := [(2, .int (1 : Int32)), (0, .ref a), (1, .int x1)]) hc dX1_layLeft_62 rfl hN (by decide) rfl ?_
    refine pv_sub [1, 0] rfl ?_
    refine LP2_el (P := fun v7 s8 => V X 0 0 (wz G [(b, 2, e), (a, 0, s8)]) [(0, .ref a), (2, .int v7)] [] 63) ?_ FU _ _ h
    intro rec9 hrec9 v7 s8 h
    refine pv_iload_n 1 hc dX1_layLeft_63 rfl rfl ?_
    refine pv_if_eq (tgt := 195) hc dX1_layLeft_64 (by decide) h (fun h => ?_) (fun h => ?_)
    · exact pv_vret hc hr hQ rfl (fin_z (ro := [(b, 2, e)]) (vs := [(a, 0, s8)]) hro (by cases h; rfl)) dX1_layLeft_195
    · refine pv_iconst (0 : Int32) hc dX1_layLeft_67 rfl ?_
      refine pv_istore_n (L' := [(2, .int (0 : Int32)), (0, .ref a)]) hc dX1_layLeft_68 rfl hN (by decide) rfl ?_
      refine pv_iconst (0 : Int32) hc dX1_layLeft_69 rfl ?_
      refine pv_istore_n (L' := [(3, .int (0 : Int32)), (2, .int (0 : Int32)), (0, .ref a)]) hc dX1_layLeft_70 rfl hN (by decide) rfl ?_
      refine pv_sub [2, 1, 0] rfl ?_
      refine LP3_el (P := fun v10 v11 s12 => V X 0 0 (wz G [(b, 2, e), (a, 0, s12)]) [(0, .ref a), (2, .int v10), (3, .int v11)] [] 71) ?_ FU _ _ _ h
      intro rec13 hrec13 v10 v11 s12 h
      refine pv_iload_n 2 hc dX1_layLeft_71 rfl rfl ?_
      refine pv_aload_n 0 hc dX1_layLeft_72 rfl rfl ?_
      obtain ⟨hp14, h⟩ := PG_el h
      refine gp_X1_76 hc hX1 (wz_at hn rfl 1 rfl) hp14 dX1_layLeft_73 ?_
      obtain ⟨v16, hf15, h⟩ := BD_el h
      refine ca_X1_271 hc hX3 (wz_at hn rfl 0 rfl) (x3_all_ok hX3 (wz_at hn rfl 0 rfl) hf15) (by decide) (Nat.le_of_ble_eq_true rfl) dX1_layLeft_76 ?_
      refine pv_icmp_gt (tgt := 192) hc dX1_layLeft_79 (by decide) h (fun h => ?_) (fun h => ?_)
      · refine pv_goto (tgt := 63) hc dX1_layLeft_192 (by decide) ?_
        refine pv_sub [0, 1] rfl ?_
        exact hrec9 _ _ h
      · refine pv_iconst (0 : Int32) hc dX1_layLeft_82 rfl ?_
        refine pv_istore (L' := [(4, .int (0 : Int32)), (0, .ref a), (2, .int v10), (3, .int v11)]) hc dX1_layLeft_83 hN (by decide) rfl ?_
        refine pv_sub [1, 2, 3, 0] rfl ?_
        refine LP3_el (P := fun v17 v18 s19 => V X 0 0 (wz G [(b, 2, e), (a, 0, s19)]) [(0, .ref a), (2, .int v17), (3, .int v11), (4, .int v18)] [] 85) ?_ FU _ _ _ h
        intro rec20 hrec20 v17 v18 s19 h
        refine pv_iload 3 hc dX1_layLeft_85 rfl ?_
        refine pv_aload_n 0 hc dX1_layLeft_87 rfl rfl ?_
        obtain ⟨hp21, h⟩ := PG_el h
        refine gp_X1_76 hc hX1 (wz_at hn rfl 1 rfl) hp21 dX1_layLeft_88 ?_
        refine gf_X1_182 hc hX3 (wz_at hn rfl 0 rfl) dX1_layLeft_91 ?_
        refine pv_icmp_ge (tgt := 186) hc dX1_layLeft_94 (by decide) h (fun h => ?_) (fun h => ?_)
        · refine pv_iinc (L' := [(3, .int (v11 + (1 : Int32))), (0, .ref a), (2, .int v17), (4, .int v18)]) 2 (v11 + (1 : Int32)) hc dX1_layLeft_186 rfl rfl hN (by decide) rfl ?_
          refine pv_goto (tgt := 71) hc dX1_layLeft_189 (by decide) ?_
          refine pv_sub [1, 2, 0] rfl ?_
          exact hrec13 _ _ _ h
        · refine pv_iconst (0 : Int32) hc dX1_layLeft_97 rfl ?_
          refine pv_istore (L' := [(5, .int (0 : Int32)), (0, .ref a), (2, .int v17), (3, .int v11), (4, .int v18)]) hc dX1_layLeft_98 hN (by decide) rfl ?_
          refine pv_sub [1, 2, 3, 4, 0] rfl ?_
          refine LP3_el (P := fun v22 v23 s24 => V X 0 0 (wz G [(b, 2, e), (a, 0, s24)]) [(0, .ref a), (2, .int v22), (3, .int v11), (4, .int v18), (5, .int v23)] [] 100) ?_ FU _ _ _ h
          intro rec25 hrec25 v22 v23 s24 h
          refine pv_iload 4 hc dX1_layLeft_100 rfl ?_
          refine pv_aload_n 0 hc dX1_layLeft_102 rfl rfl ?_
          obtain ⟨hp26, h⟩ := PG_el h
          refine gp_X1_76 hc hX1 (wz_at hn rfl 1 rfl) hp26 dX1_layLeft_103 ?_
          refine gf_X1_182 hc hX3 (wz_at hn rfl 0 rfl) dX1_layLeft_106 ?_
          refine pv_icmp_ge (tgt := 180) hc dX1_layLeft_109 (by decide) h (fun h => ?_) (fun h => ?_)
          · refine pv_iinc (L' := [(4, .int (v18 + (1 : Int32))), (0, .ref a), (2, .int v22), (3, .int v11), (5, .int v23)]) 3 (v18 + (1 : Int32)) hc dX1_layLeft_180 rfl rfl hN (by decide) rfl ?_
            refine pv_goto (tgt := 85) hc dX1_layLeft_183 (by decide) ?_
            refine pv_sub [1, 2, 3, 0] rfl ?_
            exact hrec20 _ _ _ h
          · refine pv_aload_n 0 hc dX1_layLeft_112 rfl rfl ?_
            obtain ⟨hp27, h⟩ := PG_el h
            refine gp_X1_76 hc hX1 (wz_at hn rfl 1 rfl) hp27 dX1_layLeft_113 ?_
            refine gf_X1_263 hc hX3 (wz_at hn rfl 0 rfl) dX1_layLeft_116 ?_
            refine pv_iload 3 hc dX1_layLeft_119 rfl ?_
            obtain ⟨i28, hi28, h⟩ := IX_el h
            refine al_X3_4 hc hX3 (wz_at hn rfl 0 rfl) hi28 dX1_layLeft_121 ?_
            refine pv_iload 4 hc dX1_layLeft_122 rfl ?_
            obtain ⟨v30, hf29, h⟩ := BD_el h
            refine ca_X1_217 hc (x1_has_ok   hf29) (by decide) (Nat.le_of_ble_eq_true rfl) dX1_layLeft_124 ?_
            refine pv_if_eq (tgt := 174) hc dX1_layLeft_127 (by decide) h (fun h => ?_) (fun h => ?_)
            · refine pv_iinc (L' := [(5, .int (v23 + (1 : Int32))), (0, .ref a), (2, .int v22), (3, .int v11), (4, .int v18)]) 4 (v23 + (1 : Int32)) hc dX1_layLeft_174 rfl rfl hN (by decide) rfl ?_
              refine pv_goto (tgt := 100) hc dX1_layLeft_177 (by decide) ?_
              refine pv_sub [1, 2, 3, 4, 0] rfl ?_
              exact hrec25 _ _ _ h
            · refine pv_aload_n 0 hc dX1_layLeft_130 rfl rfl ?_
              refine pv_iload_n 2 hc dX1_layLeft_131 rfl rfl ?_
              refine pv_iload 4 hc dX1_layLeft_132 rfl ?_
              obtain ⟨v32, hf31, h⟩ := BD_el h
              refine ca_X1_355 hc hX1 (wz_at hn rfl 1 rfl) (x1_leftBy_ok hX1 (wz_at hn rfl 1 rfl) hf31) (by decide) (Nat.le_of_ble_eq_true rfl) dX1_layLeft_134 ?_
              refine pv_iconst (1 : Int32) hc dX1_layLeft_137 rfl ?_
              refine pv_iadd hc dX1_layLeft_138 ?_
              refine pv_aload_n 0 hc dX1_layLeft_139 rfl rfl ?_
              refine gf_X1_116 hc hX1 (wz_at hn rfl 1 rfl) dX1_layLeft_140 ?_
              refine pv_iload_n 2 hc dX1_layLeft_143 rfl rfl ?_
              obtain ⟨i33, hi33, h⟩ := IX_el h
              refine pv_aaldI hc (wz_at hn rfl 1 rfl) (v_left hX1) 8 (xt8 hX1) hi33 rfl dX1_layLeft_144 ?_
              refine pv_iload 3 hc dX1_layLeft_145 rfl ?_
              refine pv_iald hc (wz_at hn rfl 1 rfl) (v_rows hX1 (ix_lt hi33)) 0 (xt0 hX1) hi28 dX1_layLeft_147 ?_
              refine pv_icmp_lt (tgt := 154) hc dX1_layLeft_148 (by decide) h (fun h => ?_) (fun h => ?_)
              · refine pv_aload_n 0 hc dX1_layLeft_154 rfl rfl ?_
                refine gf_X1_116 hc hX1 (wz_at hn rfl 1 rfl) dX1_layLeft_155 ?_
                refine pv_iload_n 2 hc dX1_layLeft_158 rfl rfl ?_
                refine pv_aaldI hc (wz_at hn rfl 1 rfl) (v_left hX1) 8 (xt8 hX1) hi33 rfl dX1_layLeft_159 ?_
                refine pv_iload 3 hc dX1_layLeft_160 rfl ?_
                refine pv_aload_n 0 hc dX1_layLeft_162 rfl rfl ?_
                refine pv_iload_n 2 hc dX1_layLeft_163 rfl rfl ?_
                refine pv_iload 4 hc dX1_layLeft_164 rfl ?_
                obtain ⟨v35, hf34, h⟩ := BD_el h
                refine ca_X1_355 hc hX1 (wz_at hn rfl 1 rfl) (x1_leftBy_ok hX1 (wz_at hn rfl 1 rfl) hf34) (by decide) (Nat.le_of_ble_eq_true rfl) dX1_layLeft_166 ?_
                refine pv_iconst (1 : Int32) hc dX1_layLeft_169 rfl ?_
                refine pv_iadd hc dX1_layLeft_170 ?_
                obtain ⟨s36, hs36, h⟩ := LT_el h
                refine as_rows (G1 := (wz G [(b, 2, e), (a, 0, s36)])) hc hX1 (wz_at hn rfl 1 rfl) (ix_lt hi33) hi28 hs36 (wz_set hn rfl 1 rfl rfl) dX1_layLeft_171 ?_
                refine pv_iconst (1 : Int32) hc dX1_layLeft_172 rfl ?_
                refine pv_istore_n (L' := [(2, .int (1 : Int32)), (0, .ref a), (3, .int v11), (4, .int v18), (5, .int v23)]) hc dX1_layLeft_173 rfl hN (by decide) rfl ?_
                refine pv_iinc (L' := [(5, .int (v23 + (1 : Int32))), (2, .int (1 : Int32)), (0, .ref a), (3, .int v11), (4, .int v18)]) 4 (v23 + (1 : Int32)) hc dX1_layLeft_174 rfl rfl hN (by decide) rfl ?_
                refine pv_goto (tgt := 100) hc dX1_layLeft_177 (by decide) ?_
                refine pv_sub [2, 1, 3, 4, 0] rfl ?_
                exact hrec25 _ _ _ h
              · refine pv_goto (tgt := 174) hc dX1_layLeft_151 (by decide) ?_
                refine pv_iinc (L' := [(5, .int (v23 + (1 : Int32))), (0, .ref a), (2, .int v22), (3, .int v11), (4, .int v18)]) 4 (v23 + (1 : Int32)) hc dX1_layLeft_174 rfl rfl hN (by decide) rfl ?_
                refine pv_goto (tgt := 100) hc dX1_layLeft_177 (by decide) ?_
                refine pv_sub [1, 2, 3, 4, 0] rfl ?_
                exact hrec25 _ _ _ h
  · refine pv_iconst (0 : Int32) hc dX1_layLeft_13 rfl ?_
    refine pv_istore_n (L' := [(3, .int (0 : Int32)), (0, .ref a), (1, .int x1), (2, .int v1)]) hc dX1_layLeft_14 rfl hN (by decide) rfl ?_
    refine pv_sub [1, 2, 3, 0] rfl ?_
    refine LP2_el (P := fun v37 s38 => V X 0 0 (wz G [(b, 2, e), (a, 0, s38)]) [(0, .ref a), (1, .int x1), (2, .int v1), (3, .int v37)] [] 15) ?_ FU _ _ h
    intro rec39 hrec39 v37 s38 h
    refine pv_iload_n 3 hc dX1_layLeft_15 rfl rfl ?_
    refine pv_aload_n 0 hc dX1_layLeft_16 rfl rfl ?_
    obtain ⟨hp40, h⟩ := PG_el h
    refine gp_X1_76 hc hX1 (wz_at hn rfl 1 rfl) hp40 dX1_layLeft_17 ?_
    refine gf_X1_182 hc hX3 (wz_at hn rfl 0 rfl) dX1_layLeft_20 ?_
    refine pv_icmp_ge (tgt := 55) hc dX1_layLeft_23 (by decide) h (fun h => ?_) (fun h => ?_)
    · refine pv_iinc (L' := [(2, .int (v1 + (1 : Int32))), (0, .ref a), (1, .int x1), (3, .int v37)]) 2 (v1 + (1 : Int32)) hc dX1_layLeft_55 rfl rfl hN (by decide) rfl ?_
      refine pv_goto (tgt := 2) hc dX1_layLeft_58 (by decide) ?_
      refine pv_sub [1, 2, 0] rfl ?_
      exact hrec3 _ _ h
    · refine pv_aload_n 0 hc dX1_layLeft_26 rfl rfl ?_
      refine gf_X1_116 hc hX1 (wz_at hn rfl 1 rfl) dX1_layLeft_27 ?_
      refine pv_iload_n 2 hc dX1_layLeft_30 rfl rfl ?_
      obtain ⟨i41, hi41, h⟩ := IX_el h
      refine pv_aaldI hc (wz_at hn rfl 1 rfl) (v_left hX1) 8 (xt8 hX1) hi41 rfl dX1_layLeft_31 ?_
      refine pv_iload_n 3 hc dX1_layLeft_32 rfl rfl ?_
      refine pv_iload_n 1 hc dX1_layLeft_33 rfl rfl ?_
      refine pv_iload_n 2 hc dX1_layLeft_34 rfl rfl ?_
      refine pv_iconst (-1 : Int32) hc dX1_layLeft_35 rfl ?_
      refine pv_ixor hc dX1_layLeft_36 ?_
      refine pv_iand hc dX1_layLeft_37 ?_
      refine pv_if_ne (tgt := 45) hc dX1_layLeft_38 (by decide) h (fun h => ?_) (fun h => ?_)
      · refine pv_ldcw hc q1045 dX1_layLeft_45 ?_
        obtain ⟨i42, hi42, h⟩ := IX_el h
        obtain ⟨s43, hs43, h⟩ := LT_el h
        refine as_rows (G1 := (wz G [(b, 2, e), (a, 0, s43)])) hc hX1 (wz_at hn rfl 1 rfl) (ix_lt hi41) hi42 hs43 (wz_set hn rfl 1 rfl rfl) dX1_layLeft_48 ?_
        refine pv_iinc (L' := [(3, .int (v37 + (1 : Int32))), (0, .ref a), (1, .int x1), (2, .int v1)]) 3 (v37 + (1 : Int32)) hc dX1_layLeft_49 rfl rfl hN (by decide) rfl ?_
        refine pv_goto (tgt := 15) hc dX1_layLeft_52 (by decide) ?_
        refine pv_sub [1, 2, 3, 0] rfl ?_
        exact hrec39 _ _ h
      · refine pv_iconst (0 : Int32) hc dX1_layLeft_41 rfl ?_
        refine pv_goto (tgt := 48) hc dX1_layLeft_42 (by decide) ?_
        obtain ⟨i44, hi44, h⟩ := IX_el h
        obtain ⟨s45, hs45, h⟩ := LT_el h
        refine as_rows (G1 := (wz G [(b, 2, e), (a, 0, s45)])) hc hX1 (wz_at hn rfl 1 rfl) (ix_lt hi41) hi44 hs45 (wz_set hn rfl 1 rfl rfl) dX1_layLeft_48 ?_
        refine pv_iinc (L' := [(3, .int (v37 + (1 : Int32))), (0, .ref a), (1, .int x1), (2, .int v1)]) 3 (v37 + (1 : Int32)) hc dX1_layLeft_49 rfl rfl hN (by decide) rfl ?_
        refine pv_goto (tgt := 15) hc dX1_layLeft_52 (by decide) ?_
        refine pv_sub [1, 2, 3, 0] rfl ?_
        exact hrec39 _ _ h
def x1_round (s : Rec) (b : Nat) (e : Rec) (z : Rec) (x1 : Int32) : Option (Int32 × Rec) := BD (x1_isParlour s b e x1) (fun v2 => (if v2 = 0 then some ((-1 : Int32), s) else LP2 (fun (rec5 : Int32 → Int32 → Option (Int32 × Rec)) (v3 : Int32) (v4 : Int32) => PG (gP s 6) b ((if (gI e 8) ≤ v4 then BD (x1_layLeft s b e v3) (fun s8 => IX ((1 : Int32) <<< (x1 &&& 31)) 32 (fun i9 => IX x1 5 (fun i10 => (if (gA s8 (200 + i9) i10) < (100000 : Int32) then LT (sI s8 20 (gA s8 (200 + i9) i10)) (fun s11 => LP4 (fun (rec16 : Int32 → Int32 → Int32 → Rec → Option (Int32 × Rec)) (v12 : Int32) (v13 : Int32) (v14 : Int32) (s15 : Rec) => (if (gA s8 (200 + i9) i10) ≤ v14 then some ((gA s8 (200 + i9) i10), s15) else LP1 (fun (rec18 : Int32 → Option (Int32 × Rec)) (v17 : Int32) => PG (gP s15 6) b (IX v13 5 (fun i20 => BD (x1_has (gA e 4 i20) v17) (fun v22 => (if v22 = 0 then rec18 (v17 + (1 : Int32)) else BD (x1_leftBy s15 v12 v17) (fun v24 => (if v24 = (((gA s8 (200 + i9) i10) - v14) - (1 : Int32)) then IX v14 40 (fun i25 => LT (sA s15 19 i25 v17) (fun s26 => rec16 (v12 ||| ((1 : Int32) <<< (v17 &&& 31))) v17 (v14 + (1 : Int32)) s26)) else rec18 (v17 + (1 : Int32))))))))) FU (0 : Int32))) FU ((1 : Int32) <<< (x1 &&& 31)) x1 (0 : Int32) s11) else some ((-1 : Int32), s8))))) else IX v4 6 (fun i27 => (if (gA z 1 i27) ≤ 0 then rec5 v3 (v4 + (1 : Int32)) else rec5 (v3 ||| ((1 : Int32) <<< ((gA z 0 i27) &&& 31))) (v4 + (1 : Int32))))))) FU (0 : Int32) (0 : Int32)))
set_option maxHeartbeats 4000000 in
theorem x1_round_ok {l : Launch} {g : Gh} {G : Wd} (hX1 : OKX1 g) (hX3 : OKX3 g) (hX4 : OKX4 g) {a : Nat} {s : Rec} (hGt : G.2 a = some (0, s)) {b : Nat} {e : Rec} (hGh : G.2 b = some (2, e)) {z : Rec} (hGz : G.2 (a + 13) = some (3, z)) {x1 : Int32} {r : Int32} {s' : Rec} (hf : x1_round s b e z x1 = some (r, s')) : MT l g yX1_round cX1_round 8 (some .int) 3 G [.ref a, .int x1] (some (.int r)) (wp G a 0 s') := by
  refine pv_start (by decide) (Nat.le_of_ble_eq_true rfl) ?_
  intro X hl hg hN hc hr _ _ _ hQ
  subst hl; subst hg
  have hn : ([b, (a + 13), a] : List Nat).Nodup := nd3 (kd_ne hGh hGz (by decide)) (kd_ne hGh hGt (by decide)) (kd_ne hGz hGt (by decide))
  have hro := ((wz_c hGh (wz_c hGz wz_n)) : ∀ u ∈ ([(b, 2, e), ((a + 13), 3, z)] : List (Nat × Nat × Rec)), G.2 u.1 = some u.2)
  refine pv_G (wz_id (us := [(b, 2, e), ((a + 13), 3, z), (a, 0, s)]) (wz_c hGh (wz_c hGz (wz_c hGt wz_n)))) ?_
  have h := hf
  unfold x1_round at h
  show V X 0 0 _ [(0, .ref a), (1, .int x1)] [] 0
  refine pv_aload_n 0 hc dX1_round_0 rfl rfl ?_
  refine pv_iload_n 1 hc dX1_round_1 rfl rfl ?_
  obtain ⟨v2, hf1, h⟩ := BD_el h
  refine ca_X1_260 hc hX1 (wz_at hn rfl 2 rfl) (x1_isParlour_ok hX1 hX3 (wz_at hn rfl 2 rfl) (wz_at hn rfl 0 rfl) hf1) (by decide) (Nat.le_of_ble_eq_true rfl) dX1_round_2 ?_
  refine pv_if_ne (tgt := 10) hc dX1_round_5 (by decide) h (fun h => ?_) (fun h => ?_)
  · refine pv_iconst (0 : Int32) hc dX1_round_10 rfl ?_
    refine pv_istore_n (L' := [(2, .int (0 : Int32)), (0, .ref a), (1, .int x1)]) hc dX1_round_11 rfl hN (by decide) rfl ?_
    refine pv_iconst (0 : Int32) hc dX1_round_12 rfl ?_
    refine pv_istore_n (L' := [(3, .int (0 : Int32)), (2, .int (0 : Int32)), (0, .ref a), (1, .int x1)]) hc dX1_round_13 rfl hN (by decide) rfl ?_
    refine pv_sub [2, 3, 1, 0] rfl ?_
    refine LP2_el (P := fun v3 v4 => V X 0 0 (wz G [(b, 2, e), ((a + 13), 3, z), (a, 0, s)]) [(0, .ref a), (1, .int x1), (2, .int v3), (3, .int v4)] [] 14) ?_ FU _ _ h
    intro rec5 hrec5 v3 v4 h
    refine pv_iload_n 3 hc dX1_round_14 rfl rfl ?_
    refine pv_aload_n 0 hc dX1_round_15 rfl rfl ?_
    obtain ⟨hp6, h⟩ := PG_el h
    refine gp_X1_76 hc hX1 (wz_at hn rfl 2 rfl) hp6 dX1_round_16 ?_
    refine gf_X1_189 hc hX3 (wz_at hn rfl 0 rfl) dX1_round_19 ?_
    refine pv_icmp_ge (tgt := 57) hc dX1_round_22 (by decide) h (fun h => ?_) (fun h => ?_)
    · refine pv_aload_n 0 hc dX1_round_57 rfl rfl ?_
      refine pv_iload_n 2 hc dX1_round_58 rfl rfl ?_
      obtain ⟨s8, hf7, h⟩ := BD_el h
      refine ca_X1_358 hc hX1 (wz_at hn rfl 2 rfl) (x1_layLeft_ok hX1 hX3 (wz_at hn rfl 2 rfl) (wz_at hn rfl 0 rfl) hf7) (by decide) (Nat.le_of_ble_eq_true rfl) dX1_round_59 ?_
      refine pv_G (wz_set (us := [(b, 2, e), ((a + 13), 3, z), (a, 0, s)]) (us' := [(b, 2, e), ((a + 13), 3, z), (a, 0, s8)]) hn rfl 2 rfl rfl).symm ?_
      refine pv_iconst (1 : Int32) hc dX1_round_62 rfl ?_
      refine pv_iload_n 1 hc dX1_round_63 rfl rfl ?_
      refine pv_ishl hc dX1_round_64 ?_
      refine pv_istore_n (L' := [(3, .int ((1 : Int32) <<< (x1 &&& 31))), (0, .ref a), (1, .int x1), (2, .int v3)]) hc dX1_round_65 rfl hN (by decide) rfl ?_
      refine pv_iload_n 2 hc dX1_round_66 rfl rfl ?_
      refine pv_istore (L' := [(4, .int x1), (3, .int ((1 : Int32) <<< (x1 &&& 31))), (0, .ref a), (1, .int x1), (2, .int v3)]) hc dX1_round_67 hN (by decide) rfl ?_
      refine pv_aload_n 2 hc dX1_round_69 rfl rfl ?_
      refine gf_X1_116 hc hX1 (wz_at hn rfl 2 rfl) dX1_round_70 ?_
      refine pv_iload_n 1 hc dX1_round_73 rfl rfl ?_
      obtain ⟨i9, hi9, h⟩ := IX_el h
      refine pv_aaldI hc (wz_at hn rfl 2 rfl) (v_left hX1) 8 (xt8 hX1) hi9 rfl dX1_round_74 ?_
      refine pv_iload 0 hc dX1_round_75 rfl ?_
      obtain ⟨i10, hi10, h⟩ := IX_el h
      refine pv_iald hc (wz_at hn rfl 2 rfl) (v_rows hX1 (ix_lt hi9)) 0 (xt0 hX1) hi10 dX1_round_77 ?_
      refine pv_istore (L' := [(5, .int (gA s8 (200 + i9) i10)), (4, .int x1), (3, .int ((1 : Int32) <<< (x1 &&& 31))), (0, .ref a), (1, .int x1), (2, .int v3)]) hc dX1_round_78 hN (by decide) rfl ?_
      refine pv_iload 0 hc dX1_round_80 rfl ?_
      refine pv_ldcw hc q1045 dX1_round_82 ?_
      refine pv_icmp_lt (tgt := 90) hc dX1_round_85 (by decide) h (fun h => ?_) (fun h => ?_)
      · refine pv_aload_n 3 hc dX1_round_90 rfl rfl ?_
        refine pv_iload 0 hc dX1_round_91 rfl ?_
        obtain ⟨s11, hs11, h⟩ := LT_el h
        refine pf_X1_123 (G1 := (wz G [(b, 2, e), ((a + 13), 3, z), (a, 0, s11)])) hc hX1 (wz_at hn rfl 2 rfl) hs11 (wz_set hn rfl 2 rfl rfl) dX1_round_93 ?_
        refine pv_iconst (0 : Int32) hc dX1_round_96 rfl ?_
        refine pv_istore (L' := [(6, .int (0 : Int32)), (5, .int (gA s8 (200 + i9) i10)), (4, .int x1), (3, .int ((1 : Int32) <<< (x1 &&& 31))), (0, .ref a), (1, .int x1), (2, .int v3)]) hc dX1_round_97 hN (by decide) rfl ?_
        refine pv_sub [4, 3, 2, 1, 0] rfl ?_
        refine LP4_el (P := fun v12 v13 v14 s15 => V X 0 0 (wz G [(b, 2, e), ((a + 13), 3, z), (a, 0, s15)]) [(0, .ref a), (3, .int v12), (4, .int v13), (5, .int (gA s8 (200 + i9) i10)), (6, .int v14)] [] 99) ?_ FU _ _ _ _ h
        intro rec16 hrec16 v12 v13 v14 s15 h
        refine pv_iload 4 hc dX1_round_99 rfl ?_
        refine pv_iload 3 hc dX1_round_101 rfl ?_
        refine pv_icmp_ge (tgt := 176) hc dX1_round_103 (by decide) h (fun h => ?_) (fun h => ?_)
        · refine pv_iload 3 hc dX1_round_176 rfl ?_
          exact pv_iret hc hr hQ (by cases h; rfl) (fin_z (ro := [(b, 2, e), ((a + 13), 3, z)]) (vs := [(a, 0, s15)]) hro (by cases h; rfl)) dX1_round_178
        · refine pv_iconst (0 : Int32) hc dX1_round_106 rfl ?_
          refine pv_istore (L' := [(7, .int (0 : Int32)), (0, .ref a), (3, .int v12), (4, .int v13), (5, .int (gA s8 (200 + i9) i10)), (6, .int v14)]) hc dX1_round_107 hN (by decide) rfl ?_
          refine pv_sub [1, 2, 3, 4, 5, 0] rfl ?_
          refine LP1_el (P := fun v17 => V X 0 0 (wz G [(b, 2, e), ((a + 13), 3, z), (a, 0, s15)]) [(0, .ref a), (3, .int v12), (4, .int v13), (5, .int (gA s8 (200 + i9) i10)), (6, .int v14), (7, .int v17)] [] 109) ?_ FU _ h
          intro rec18 hrec18 v17 h
          refine pv_aload_n 0 hc dX1_round_109 rfl rfl ?_
          obtain ⟨hp19, h⟩ := PG_el h
          refine gp_X1_76 hc hX1 (wz_at hn rfl 2 rfl) hp19 dX1_round_110 ?_
          refine gf_X1_263 hc hX3 (wz_at hn rfl 0 rfl) dX1_round_113 ?_
          refine pv_iload 2 hc dX1_round_116 rfl ?_
          obtain ⟨i20, hi20, h⟩ := IX_el h
          refine al_X3_4 hc hX3 (wz_at hn rfl 0 rfl) hi20 dX1_round_118 ?_
          refine pv_iload 5 hc dX1_round_119 rfl ?_
          obtain ⟨v22, hf21, h⟩ := BD_el h
          refine ca_X1_217 hc (x1_has_ok   hf21) (by decide) (Nat.le_of_ble_eq_true rfl) dX1_round_121 ?_
          refine pv_if_eq (tgt := 144) hc dX1_round_124 (by decide) h (fun h => ?_) (fun h => ?_)
          · refine pv_iinc (L' := [(7, .int (v17 + (1 : Int32))), (0, .ref a), (3, .int v12), (4, .int v13), (5, .int (gA s8 (200 + i9) i10)), (6, .int v14)]) 5 (v17 + (1 : Int32)) hc dX1_round_144 rfl rfl hN (by decide) rfl ?_
            refine pv_goto (tgt := 109) hc dX1_round_147 (by decide) ?_
            refine pv_sub [1, 2, 3, 4, 5, 0] rfl ?_
            exact hrec18 _ h
          · refine pv_aload_n 0 hc dX1_round_127 rfl rfl ?_
            refine pv_iload_n 1 hc dX1_round_128 rfl rfl ?_
            refine pv_iload 5 hc dX1_round_129 rfl ?_
            obtain ⟨v24, hf23, h⟩ := BD_el h
            refine ca_X1_355 hc hX1 (wz_at hn rfl 2 rfl) (x1_leftBy_ok hX1 (wz_at hn rfl 2 rfl) hf23) (by decide) (Nat.le_of_ble_eq_true rfl) dX1_round_131 ?_
            refine pv_iload 3 hc dX1_round_134 rfl ?_
            refine pv_iload 4 hc dX1_round_136 rfl ?_
            refine pv_isub hc dX1_round_138 ?_
            refine pv_iconst (1 : Int32) hc dX1_round_139 rfl ?_
            refine pv_isub hc dX1_round_140 ?_
            refine pv_icmp_eq (tgt := 150) hc dX1_round_141 (by decide) h (fun h => ?_) (fun h => ?_)
            · refine pv_aload_n 0 hc dX1_round_150 rfl rfl ?_
              refine gf_X1_119 hc hX1 (wz_at hn rfl 2 rfl) dX1_round_151 ?_
              refine pv_iload 4 hc dX1_round_154 rfl ?_
              refine pv_iload 5 hc dX1_round_156 rfl ?_
              obtain ⟨i25, hi25, h⟩ := IX_el h
              obtain ⟨s26, hs26, h⟩ := LT_el h
              refine as_X1_roundRow (G1 := (wz G [(b, 2, e), ((a + 13), 3, z), (a, 0, s26)])) hc hX1 (wz_at hn rfl 2 rfl) hi25 hs26 (wz_set hn rfl 2 rfl rfl) dX1_round_158 ?_
              refine pv_iload 5 hc dX1_round_159 rfl ?_
              refine pv_istore (L' := [(4, .int v17), (0, .ref a), (3, .int v12), (5, .int (gA s8 (200 + i9) i10)), (6, .int v14), (7, .int v17)]) hc dX1_round_161 hN (by decide) rfl ?_
              refine pv_iload_n 2 hc dX1_round_163 rfl rfl ?_
              refine pv_iconst (1 : Int32) hc dX1_round_164 rfl ?_
              refine pv_iload 5 hc dX1_round_165 rfl ?_
              refine pv_ishl hc dX1_round_167 ?_
              refine pv_ior hc dX1_round_168 ?_
              refine pv_istore_n (L' := [(3, .int (v12 ||| ((1 : Int32) <<< (v17 &&& 31)))), (4, .int v17), (0, .ref a), (5, .int (gA s8 (200 + i9) i10)), (6, .int v14), (7, .int v17)]) hc dX1_round_169 rfl hN (by decide) rfl ?_
              refine pv_iinc (L' := [(6, .int (v14 + (1 : Int32))), (3, .int (v12 ||| ((1 : Int32) <<< (v17 &&& 31)))), (4, .int v17), (0, .ref a), (5, .int (gA s8 (200 + i9) i10)), (7, .int v17)]) 4 (v14 + (1 : Int32)) hc dX1_round_170 rfl rfl hN (by decide) rfl ?_
              refine pv_goto (tgt := 99) hc dX1_round_173 (by decide) ?_
              refine pv_sub [3, 1, 2, 4, 0] rfl ?_
              exact hrec16 _ _ _ _ h
            · refine pv_iinc (L' := [(7, .int (v17 + (1 : Int32))), (0, .ref a), (3, .int v12), (4, .int v13), (5, .int (gA s8 (200 + i9) i10)), (6, .int v14)]) 5 (v17 + (1 : Int32)) hc dX1_round_144 rfl rfl hN (by decide) rfl ?_
              refine pv_goto (tgt := 109) hc dX1_round_147 (by decide) ?_
              refine pv_sub [1, 2, 3, 4, 5, 0] rfl ?_
              exact hrec18 _ h
      · refine pv_iconst (-1 : Int32) hc dX1_round_88 rfl ?_
        exact pv_iret hc hr hQ (by cases h; rfl) (fin_z (ro := [(b, 2, e), ((a + 13), 3, z)]) (vs := [(a, 0, s8)]) hro (by cases h; rfl)) dX1_round_89
    · refine pv_aload_n 0 hc dX1_round_25 rfl rfl ?_
      refine gf_X1_83 hc hX1 (wz_at hn rfl 2 rfl) dX1_round_26 ?_
      refine gf_X1_221 hc hX4 (wz_at hn rfl 1 rfl) dX1_round_29 ?_
      refine pv_iload_n 3 hc dX1_round_32 rfl rfl ?_
      obtain ⟨i27, hi27, h⟩ := IX_el h
      refine al_X4_1 hc hX4 (wz_at hn rfl 1 rfl) hi27 dX1_round_33 ?_
      refine pv_if_le (tgt := 51) hc dX1_round_34 (by decide) h (fun h => ?_) (fun h => ?_)
      · refine pv_iinc (L' := [(3, .int (v4 + (1 : Int32))), (0, .ref a), (1, .int x1), (2, .int v3)]) 3 (v4 + (1 : Int32)) hc dX1_round_51 rfl rfl hN (by decide) rfl ?_
        refine pv_goto (tgt := 14) hc dX1_round_54 (by decide) ?_
        refine pv_sub [1, 2, 3, 0] rfl ?_
        exact hrec5 _ _ h
      · refine pv_iload_n 2 hc dX1_round_37 rfl rfl ?_
        refine pv_iconst (1 : Int32) hc dX1_round_38 rfl ?_
        refine pv_aload_n 0 hc dX1_round_39 rfl rfl ?_
        refine gf_X1_83 hc hX1 (wz_at hn rfl 2 rfl) dX1_round_40 ?_
        refine gf_X1_209 hc hX4 (wz_at hn rfl 1 rfl) dX1_round_43 ?_
        refine pv_iload_n 3 hc dX1_round_46 rfl rfl ?_
        refine al_X4_0 hc hX4 (wz_at hn rfl 1 rfl) hi27 dX1_round_47 ?_
        refine pv_ishl hc dX1_round_48 ?_
        refine pv_ior hc dX1_round_49 ?_
        refine pv_istore_n (L' := [(2, .int (v3 ||| ((1 : Int32) <<< ((gA z 0 i27) &&& 31)))), (0, .ref a), (1, .int x1), (3, .int v4)]) hc dX1_round_50 rfl hN (by decide) rfl ?_
        refine pv_iinc (L' := [(3, .int (v4 + (1 : Int32))), (2, .int (v3 ||| ((1 : Int32) <<< ((gA z 0 i27) &&& 31)))), (0, .ref a), (1, .int x1)]) 3 (v4 + (1 : Int32)) hc dX1_round_51 rfl rfl hN (by decide) rfl ?_
        refine pv_goto (tgt := 14) hc dX1_round_54 (by decide) ?_
        refine pv_sub [2, 3, 1, 0] rfl ?_
        exact hrec5 _ _ h
  · refine pv_iconst (-1 : Int32) hc dX1_round_8 rfl ?_
    exact pv_iret hc hr hQ (by cases h; rfl) (fin_z (ro := [(b, 2, e), ((a + 13), 3, z)]) (vs := [(a, 0, s)]) hro (by cases h; rfl)) dX1_round_9
def x1_roundAt (s : Rec) (x1 : Int32) : Option Int32 := BD (x1_isIn x1 (0 : Int32) ((gI s 20) - (1 : Int32))) (fun v2 => (if v2 = 0 then some (-1 : Int32) else IX x1 40 (fun i3 => some (gA s 19 i3))))
set_option maxHeartbeats 4000000 in
theorem x1_roundAt_ok {l : Launch} {g : Gh} {G : Wd} (hX1 : OKX1 g) {a : Nat} {s : Rec} (hGt : G.2 a = some (0, s)) {x1 : Int32} {r : Int32} (hf : x1_roundAt s x1 = some r) : MT l g yX1_roundAt cX1_roundAt 2 (some .int) 2 G [.ref a, .int x1] (some (.int r)) G := by
  refine pv_start (by decide) (Nat.le_of_ble_eq_true rfl) ?_
  intro X hl hg hN hc hr _ _ _ hQ
  subst hl; subst hg
  have hn : ([a] : List Nat).Nodup := nd1 
  have hro := ((wz_c hGt wz_n) : ∀ u ∈ ([(a, 0, s)] : List (Nat × Nat × Rec)), G.2 u.1 = some u.2)
  refine pv_G (wz_id (us := [(a, 0, s)]) (wz_c hGt wz_n)) ?_
  have h := hf
  unfold x1_roundAt at h
  show V X 0 0 _ [(0, .ref a), (1, .int x1)] [] 0
  refine pv_iload_n 1 hc dX1_roundAt_0 rfl rfl ?_
  refine pv_iconst (0 : Int32) hc dX1_roundAt_1 rfl ?_
  refine pv_aload_n 0 hc dX1_roundAt_2 rfl rfl ?_
  refine gf_X1_123 hc hX1 (wz_at hn rfl 0 rfl) dX1_roundAt_3 ?_
  refine pv_iconst (1 : Int32) hc dX1_roundAt_6 rfl ?_
  refine pv_isub hc dX1_roundAt_7 ?_
  obtain ⟨v2, hf1, h⟩ := BD_el h
  refine ca_X1_185 hc (x1_isIn_ok   hf1) (by decide) (Nat.le_of_ble_eq_true rfl) dX1_roundAt_8 ?_
  refine pv_if_eq (tgt := 23) hc dX1_roundAt_11 (by decide) h (fun h => ?_) (fun h => ?_)
  · refine pv_iconst (-1 : Int32) hc dX1_roundAt_23 rfl ?_
    exact pv_iret hc hr hQ (by cases h; rfl) (wz_id hro).symm dX1_roundAt_24
  · refine pv_aload_n 0 hc dX1_roundAt_14 rfl rfl ?_
    refine gf_X1_119 hc hX1 (wz_at hn rfl 0 rfl) dX1_roundAt_15 ?_
    refine pv_iload_n 1 hc dX1_roundAt_18 rfl rfl ?_
    obtain ⟨i3, hi3, h⟩ := IX_el h
    refine al_X1_roundRow hc hX1 (wz_at hn rfl 0 rfl) hi3 dX1_roundAt_19 ?_
    refine pv_goto (tgt := 24) hc dX1_roundAt_20 (by decide) ?_
    exact pv_iret hc hr hQ (by cases h; rfl) (wz_id hro).symm dX1_roundAt_24
def x1_fewest (s : Rec) (b : Nat) (e : Rec) (y : Rec) : Option (Int32 × Rec) := LP2 (fun (rec3 : Int32 → Int32 → Option (Int32 × Rec)) (v1 : Int32) (v2 : Int32) => PG (gP s 6) b ((if (gI e 7) ≤ v2 then LT (sI s 24 v1) (fun s5 => PG (gP s5 6) b (BD (x4_seers y e v1) (fun v8 => BD (j9_bitCount v8) (fun v10 => some (v10, s5))))) else PG (gP s 6) b (BD (x4_seers y e v2) (fun v13 => BD (j9_bitCount v13) (fun v15 => PG (gP s 6) b (BD (x4_seers y e v1) (fun v18 => BD (j9_bitCount v18) (fun v20 => (if v20 ≤ v15 then rec3 v1 (v2 + (1 : Int32)) else rec3 v2 (v2 + (1 : Int32)))))))))))) FU (0 : Int32) (1 : Int32)
set_option maxHeartbeats 4000000 in
theorem x1_fewest_ok {l : Launch} {g : Gh} {G : Wd} (hX1 : OKX1 g) (hX3 : OKX3 g) (hX4 : OKX4 g) {a : Nat} {s : Rec} (hGt : G.2 a = some (0, s)) {b : Nat} {e : Rec} (hGh : G.2 b = some (2, e)) {y : Rec} (hGy : G.2 (a + 21) = some (3, y)) {r : Int32} {s' : Rec} (hf : x1_fewest s b e y = some (r, s')) : MT l g yX1_fewest cX1_fewest 3 (some .int) 5 G [.ref a] (some (.int r)) (wp G a 0 s') := by
  refine pv_start (by decide) (Nat.le_of_ble_eq_true rfl) ?_
  intro X hl hg hN hc hr _ _ _ hQ
  subst hl; subst hg
  have hn : ([b, (a + 21), a] : List Nat).Nodup := nd3 (kd_ne hGh hGy (by decide)) (kd_ne hGh hGt (by decide)) (kd_ne hGy hGt (by decide))
  have hro := ((wz_c hGh (wz_c hGy wz_n)) : ∀ u ∈ ([(b, 2, e), ((a + 21), 3, y)] : List (Nat × Nat × Rec)), G.2 u.1 = some u.2)
  refine pv_G (wz_id (us := [(b, 2, e), ((a + 21), 3, y), (a, 0, s)]) (wz_c hGh (wz_c hGy (wz_c hGt wz_n)))) ?_
  have h := hf
  unfold x1_fewest at h
  show V X 0 0 _ [(0, .ref a)] [] 0
  refine pv_iconst (0 : Int32) hc dX1_fewest_0 rfl ?_
  refine pv_istore_n (L' := [(1, .int (0 : Int32)), (0, .ref a)]) hc dX1_fewest_1 rfl hN (by decide) rfl ?_
  refine pv_iconst (1 : Int32) hc dX1_fewest_2 rfl ?_
  refine pv_istore_n (L' := [(2, .int (1 : Int32)), (1, .int (0 : Int32)), (0, .ref a)]) hc dX1_fewest_3 rfl hN (by decide) rfl ?_
  refine pv_sub [2, 1, 0] rfl ?_
  refine LP2_el (P := fun v1 v2 => V X 0 0 (wz G [(b, 2, e), ((a + 21), 3, y), (a, 0, s)]) [(0, .ref a), (1, .int v1), (2, .int v2)] [] 4) ?_ FU _ _ h
  intro rec3 hrec3 v1 v2 h
  refine pv_iload_n 2 hc dX1_fewest_4 rfl rfl ?_
  refine pv_aload_n 0 hc dX1_fewest_5 rfl rfl ?_
  obtain ⟨hp4, h⟩ := PG_el h
  refine gp_X1_76 hc hX1 (wz_at hn rfl 2 rfl) hp4 dX1_fewest_6 ?_
  refine gf_X1_182 hc hX3 (wz_at hn rfl 0 rfl) dX1_fewest_9 ?_
  refine pv_icmp_ge (tgt := 56) hc dX1_fewest_12 (by decide) h (fun h => ?_) (fun h => ?_)
  · refine pv_aload_n 0 hc dX1_fewest_56 rfl rfl ?_
    refine pv_iload_n 1 hc dX1_fewest_57 rfl rfl ?_
    obtain ⟨s5, hs5, h⟩ := LT_el h
    refine pf_X1_364 (G1 := (wz G [(b, 2, e), ((a + 21), 3, y), (a, 0, s5)])) hc hX1 (wz_at hn rfl 2 rfl) hs5 (wz_set hn rfl 2 rfl rfl) dX1_fewest_58 ?_
    refine pv_aload_n 0 hc dX1_fewest_61 rfl rfl ?_
    refine gf_X1_87 hc hX1 (wz_at hn rfl 2 rfl) dX1_fewest_62 ?_
    refine pv_aload_n 0 hc dX1_fewest_65 rfl rfl ?_
    obtain ⟨hp6, h⟩ := PG_el h
    refine gp_X1_76 hc hX1 (wz_at hn rfl 2 rfl) hp6 dX1_fewest_66 ?_
    refine pv_iload_n 1 hc dX1_fewest_69 rfl rfl ?_
    obtain ⟨v8, hf7, h⟩ := BD_el h
    refine ca_X1_361 hc hX4 (wz_at hn rfl 1 rfl) (x4_seers_ok hX3 hX4 (wz_at hn rfl 1 rfl) (wz_at hn rfl 0 rfl) hf7) (by decide) (Nat.le_of_ble_eq_true rfl) dX1_fewest_70 ?_
    obtain ⟨v10, hf9, h⟩ := BD_el h
    refine ca_X1_324 hc (j9_bitCount_ok   hf9) (by decide) (Nat.le_of_ble_eq_true rfl) dX1_fewest_73 ?_
    exact pv_iret hc hr hQ (by cases h; rfl) (fin_z (ro := [(b, 2, e), ((a + 21), 3, y)]) (vs := [(a, 0, s5)]) hro (by cases h; rfl)) dX1_fewest_76
  · refine pv_aload_n 0 hc dX1_fewest_15 rfl rfl ?_
    refine gf_X1_87 hc hX1 (wz_at hn rfl 2 rfl) dX1_fewest_16 ?_
    refine pv_aload_n 0 hc dX1_fewest_19 rfl rfl ?_
    obtain ⟨hp11, h⟩ := PG_el h
    refine gp_X1_76 hc hX1 (wz_at hn rfl 2 rfl) hp11 dX1_fewest_20 ?_
    refine pv_iload_n 2 hc dX1_fewest_23 rfl rfl ?_
    obtain ⟨v13, hf12, h⟩ := BD_el h
    refine ca_X1_361 hc hX4 (wz_at hn rfl 1 rfl) (x4_seers_ok hX3 hX4 (wz_at hn rfl 1 rfl) (wz_at hn rfl 0 rfl) hf12) (by decide) (Nat.le_of_ble_eq_true rfl) dX1_fewest_24 ?_
    obtain ⟨v15, hf14, h⟩ := BD_el h
    refine ca_X1_324 hc (j9_bitCount_ok   hf14) (by decide) (Nat.le_of_ble_eq_true rfl) dX1_fewest_27 ?_
    refine pv_aload_n 0 hc dX1_fewest_30 rfl rfl ?_
    refine gf_X1_87 hc hX1 (wz_at hn rfl 2 rfl) dX1_fewest_31 ?_
    refine pv_aload_n 0 hc dX1_fewest_34 rfl rfl ?_
    obtain ⟨hp16, h⟩ := PG_el h
    refine gp_X1_76 hc hX1 (wz_at hn rfl 2 rfl) hp16 dX1_fewest_35 ?_
    refine pv_iload_n 1 hc dX1_fewest_38 rfl rfl ?_
    obtain ⟨v18, hf17, h⟩ := BD_el h
    refine ca_X1_361 hc hX4 (wz_at hn rfl 1 rfl) (x4_seers_ok hX3 hX4 (wz_at hn rfl 1 rfl) (wz_at hn rfl 0 rfl) hf17) (by decide) (Nat.le_of_ble_eq_true rfl) dX1_fewest_39 ?_
    obtain ⟨v20, hf19, h⟩ := BD_el h
    refine ca_X1_324 hc (j9_bitCount_ok   hf19) (by decide) (Nat.le_of_ble_eq_true rfl) dX1_fewest_42 ?_
    refine pv_icmp_ge (tgt := 50) hc dX1_fewest_45 (by decide) h (fun h => ?_) (fun h => ?_)
    · refine pv_iinc (L' := [(2, .int (v2 + (1 : Int32))), (0, .ref a), (1, .int v1)]) 2 (v2 + (1 : Int32)) hc dX1_fewest_50 rfl rfl hN (by decide) rfl ?_
      refine pv_goto (tgt := 4) hc dX1_fewest_53 (by decide) ?_
      refine pv_sub [1, 2, 0] rfl ?_
      exact hrec3 _ _ h
    · refine pv_iload_n 2 hc dX1_fewest_48 rfl rfl ?_
      refine pv_istore_n (L' := [(1, .int v2), (0, .ref a), (2, .int v2)]) hc dX1_fewest_49 rfl hN (by decide) rfl ?_
      refine pv_iinc (L' := [(2, .int (v2 + (1 : Int32))), (1, .int v2), (0, .ref a)]) 2 (v2 + (1 : Int32)) hc dX1_fewest_50 rfl rfl hN (by decide) rfl ?_
      refine pv_goto (tgt := 4) hc dX1_fewest_53 (by decide) ?_
      refine pv_sub [2, 1, 0] rfl ?_
      exact hrec3 _ _ h
def x1_choice (s : Rec) (b : Nat) (e : Rec) (z : Rec) (y : Rec) : Option (Int32 × Rec × Rec) := PG (gP s 6) b ((if (gI e 7) = 0 then some ((-1 : Int32), y, s) else BD (x4_be y z) (fun s3 => BD2 (x1_fewest s b e s3) (fun v6 s5 => LT (sI s5 21 (-1 : Int32)) (fun s7 => LT (sI s7 22 (-1 : Int32)) (fun s8 => LT (sI s8 23 (gI s8 24)) (fun s9 => LP4 (fun (rec14 : Int32 → Int32 → Rec → Rec → Option (Int32 × Rec × Rec)) (v10 : Int32) (v11 : Int32) (s12 : Rec) (s13 : Rec) => PG (gP s13 6) b ((if (gI e 8) ≤ v11 then LT (sI s13 25 (1 : Int32)) (fun s16 => some (v10, s12, s16)) else LP4 (fun (rec21 : Int32 → Int32 → Rec → Rec → Option (Int32 × Rec × Rec)) (v17 : Int32) (v18 : Int32) (s19 : Rec) (s20 : Rec) => PG (gP s20 6) b ((if (gI e 7) ≤ v18 then rec14 v17 (v11 + (1 : Int32)) s19 s20 else IX v11 6 (fun i23 => (if (gA z 0 i23) = v18 then rec21 v17 (v18 + (1 : Int32)) s19 s20 else LT (sA s19 0 i23 v18) (fun s24 => BD2 (x1_fewest s20 b e s24) (fun v27 s26 => LT (sA s24 0 i23 (gA z 0 i23)) (fun s28 => (if v17 < v27 then LT (sI s26 21 v11) (fun s29 => LT (sI s29 22 v18) (fun s30 => LT (sI s30 23 (gI s30 24)) (fun s31 => rec21 v27 (v18 + (1 : Int32)) s28 s31))) else rec21 v17 (v18 + (1 : Int32)) s28 s26))))))))) FU v10 (0 : Int32) s12 s13))) FU v6 (0 : Int32) s3 s9)))))))
set_option maxHeartbeats 4000000 in
theorem x1_choice_ok {l : Launch} {g : Gh} {G : Wd} (hX1 : OKX1 g) (hX3 : OKX3 g) (hX4 : OKX4 g) {a : Nat} {s : Rec} (hGt : G.2 a = some (0, s)) {b : Nat} {e : Rec} (hGh : G.2 b = some (2, e)) {z : Rec} (hGz : G.2 (a + 13) = some (3, z)) {y : Rec} (hGy : G.2 (a + 21) = some (3, y)) {r : Int32} {y' s' : Rec} (hf : x1_choice s b e z y = some (r, y', s')) : MT l g yX1_choice cX1_choice 5 (some .int) 6 G [.ref a] (some (.int r)) (wp (wp G (a + 21) 3 y') a 0 s') := by
  refine pv_start (by decide) (Nat.le_of_ble_eq_true rfl) ?_
  intro X hl hg hN hc hr _ _ _ hQ
  subst hl; subst hg
  have hn : ([b, (a + 13), (a + 21), a] : List Nat).Nodup := nd4 (kd_ne hGh hGz (by decide)) (kd_ne hGh hGy (by decide)) (kd_ne hGh hGt (by decide)) (by omega) (kd_ne hGz hGt (by decide)) (kd_ne hGy hGt (by decide))
  have hro := ((wz_c hGh (wz_c hGz wz_n)) : ∀ u ∈ ([(b, 2, e), ((a + 13), 3, z)] : List (Nat × Nat × Rec)), G.2 u.1 = some u.2)
  refine pv_G (wz_id (us := [(b, 2, e), ((a + 13), 3, z), ((a + 21), 3, y), (a, 0, s)]) (wz_c hGh (wz_c hGz (wz_c hGy (wz_c hGt wz_n))))) ?_
  have h := hf
  unfold x1_choice at h
  show V X 0 0 _ [(0, .ref a)] [] 0
  refine pv_aload_n 0 hc dX1_choice_0 rfl rfl ?_
  obtain ⟨hp1, h⟩ := PG_el h
  refine gp_X1_76 hc hX1 (wz_at hn rfl 3 rfl) hp1 dX1_choice_1 ?_
  refine gf_X1_182 hc hX3 (wz_at hn rfl 0 rfl) dX1_choice_4 ?_
  refine pv_if_ne (tgt := 12) hc dX1_choice_7 (by decide) h (fun h => ?_) (fun h => ?_)
  · refine pv_aload_n 0 hc dX1_choice_12 rfl rfl ?_
    refine gf_X1_87 hc hX1 (wz_at hn rfl 3 rfl) dX1_choice_13 ?_
    refine pv_aload_n 0 hc dX1_choice_16 rfl rfl ?_
    refine gf_X1_83 hc hX1 (wz_at hn rfl 3 rfl) dX1_choice_17 ?_
    obtain ⟨s3, hf2, h⟩ := BD_el h
    refine ca_X1_281 hc hX4 (wz_at hn rfl 2 rfl) (x4_be_ok hX4 (wz_at hn rfl 2 rfl) (wz_at hn rfl 1 rfl) (by omega) hf2) (by decide) (Nat.le_of_ble_eq_true rfl) dX1_choice_20 ?_
    refine pv_G (wz_set (us' := [(b, 2, e), ((a + 13), 3, z), ((a + 21), 3, s3), (a, 0, s)]) hn rfl 2 rfl rfl).symm ?_
    refine pv_aload_n 0 hc dX1_choice_23 rfl rfl ?_
    obtain ⟨v6, s5, hf4, h⟩ := BD2_el h
    refine ca_X1_367 hc hX1 (wz_at hn rfl 3 rfl) (x1_fewest_ok hX1 hX3 hX4 (wz_at hn rfl 3 rfl) (wz_at hn rfl 0 rfl) (wz_at hn rfl 2 rfl) hf4) (by decide) (Nat.le_of_ble_eq_true rfl) dX1_choice_24 ?_
    refine pv_G (wz_set (us := [(b, 2, e), ((a + 13), 3, z), ((a + 21), 3, s3), (a, 0, s)]) (us' := [(b, 2, e), ((a + 13), 3, z), ((a + 21), 3, s3), (a, 0, s5)]) hn rfl 3 rfl rfl).symm ?_
    refine pv_istore_n (L' := [(1, .int v6), (0, .ref a)]) hc dX1_choice_27 rfl hN (by decide) rfl ?_
    refine pv_aload_n 1 hc dX1_choice_28 rfl rfl ?_
    refine pv_iconst (-1 : Int32) hc dX1_choice_29 rfl ?_
    obtain ⟨s7, hs7, h⟩ := LT_el h
    refine pf_X1_370 (G1 := (wz G [(b, 2, e), ((a + 13), 3, z), ((a + 21), 3, s3), (a, 0, s7)])) hc hX1 (wz_at hn rfl 3 rfl) hs7 (wz_set hn rfl 3 rfl rfl) dX1_choice_30 ?_
    refine pv_aload_n 1 hc dX1_choice_33 rfl rfl ?_
    refine pv_iconst (-1 : Int32) hc dX1_choice_34 rfl ?_
    obtain ⟨s8, hs8, h⟩ := LT_el h
    refine pf_X1_373 (G1 := (wz G [(b, 2, e), ((a + 13), 3, z), ((a + 21), 3, s3), (a, 0, s8)])) hc hX1 (wz_at hn rfl 3 rfl) hs8 (wz_set hn rfl 3 rfl rfl) dX1_choice_35 ?_
    refine pv_aload_n 1 hc dX1_choice_38 rfl rfl ?_
    refine pv_aload_n 1 hc dX1_choice_39 rfl rfl ?_
    refine gf_X1_364 hc hX1 (wz_at hn rfl 3 rfl) dX1_choice_40 ?_
    obtain ⟨s9, hs9, h⟩ := LT_el h
    refine pf_X1_376 (G1 := (wz G [(b, 2, e), ((a + 13), 3, z), ((a + 21), 3, s3), (a, 0, s9)])) hc hX1 (wz_at hn rfl 3 rfl) hs9 (wz_set hn rfl 3 rfl rfl) dX1_choice_43 ?_
    refine pv_iconst (0 : Int32) hc dX1_choice_46 rfl ?_
    refine pv_istore_n (L' := [(2, .int (0 : Int32)), (1, .int v6), (0, .ref a)]) hc dX1_choice_47 rfl hN (by decide) rfl ?_
    refine pv_sub [2, 1, 0] rfl ?_
    refine LP4_el (P := fun v10 v11 s12 s13 => V X 0 0 (wz G [(b, 2, e), ((a + 13), 3, z), ((a + 21), 3, s12), (a, 0, s13)]) [(0, .ref a), (1, .int v10), (2, .int v11)] [] 48) ?_ FU _ _ _ _ h
    intro rec14 hrec14 v10 v11 s12 s13 h
    refine pv_iload_n 2 hc dX1_choice_48 rfl rfl ?_
    refine pv_aload_n 0 hc dX1_choice_49 rfl rfl ?_
    obtain ⟨hp15, h⟩ := PG_el h
    refine gp_X1_76 hc hX1 (wz_at hn rfl 3 rfl) hp15 dX1_choice_50 ?_
    refine gf_X1_189 hc hX3 (wz_at hn rfl 0 rfl) dX1_choice_53 ?_
    refine pv_icmp_ge (tgt := 164) hc dX1_choice_56 (by decide) h (fun h => ?_) (fun h => ?_)
    · refine pv_aload_n 0 hc dX1_choice_164 rfl rfl ?_
      refine pv_iconst (1 : Int32) hc dX1_choice_165 rfl ?_
      obtain ⟨s16, hs16, h⟩ := LT_el h
      refine pf_X1_379 (G1 := (wz G [(b, 2, e), ((a + 13), 3, z), ((a + 21), 3, s12), (a, 0, s16)])) hc hX1 (wz_at hn rfl 3 rfl) (by decide) hs16 (wz_set hn rfl 3 rfl rfl) dX1_choice_166 ?_
      refine pv_iload_n 1 hc dX1_choice_169 rfl rfl ?_
      exact pv_iret hc hr hQ (by cases h; rfl) (fin_z (ro := [(b, 2, e), ((a + 13), 3, z)]) (vs := [((a + 21), 3, s12), (a, 0, s16)]) hro (by cases h; rfl)) dX1_choice_170
    · refine pv_iconst (0 : Int32) hc dX1_choice_59 rfl ?_
      refine pv_istore_n (L' := [(3, .int (0 : Int32)), (0, .ref a), (1, .int v10), (2, .int v11)]) hc dX1_choice_60 rfl hN (by decide) rfl ?_
      refine pv_sub [1, 2, 3, 0] rfl ?_
      refine LP4_el (P := fun v17 v18 s19 s20 => V X 0 0 (wz G [(b, 2, e), ((a + 13), 3, z), ((a + 21), 3, s19), (a, 0, s20)]) [(0, .ref a), (1, .int v17), (2, .int v11), (3, .int v18)] [] 61) ?_ FU _ _ _ _ h
      intro rec21 hrec21 v17 v18 s19 s20 h
      refine pv_iload_n 3 hc dX1_choice_61 rfl rfl ?_
      refine pv_aload_n 0 hc dX1_choice_62 rfl rfl ?_
      obtain ⟨hp22, h⟩ := PG_el h
      refine gp_X1_76 hc hX1 (wz_at hn rfl 3 rfl) hp22 dX1_choice_63 ?_
      refine gf_X1_182 hc hX3 (wz_at hn rfl 0 rfl) dX1_choice_66 ?_
      refine pv_icmp_ge (tgt := 158) hc dX1_choice_69 (by decide) h (fun h => ?_) (fun h => ?_)
      · refine pv_iinc (L' := [(2, .int (v11 + (1 : Int32))), (0, .ref a), (1, .int v17), (3, .int v18)]) 2 (v11 + (1 : Int32)) hc dX1_choice_158 rfl rfl hN (by decide) rfl ?_
        refine pv_goto (tgt := 48) hc dX1_choice_161 (by decide) ?_
        refine pv_sub [1, 2, 0] rfl ?_
        exact hrec14 _ _ _ _ h
      · refine pv_aload_n 0 hc dX1_choice_72 rfl rfl ?_
        refine gf_X1_83 hc hX1 (wz_at hn rfl 3 rfl) dX1_choice_73 ?_
        refine gf_X1_209 hc hX4 (wz_at hn rfl 1 rfl) dX1_choice_76 ?_
        refine pv_iload_n 2 hc dX1_choice_79 rfl rfl ?_
        obtain ⟨i23, hi23, h⟩ := IX_el h
        refine al_X4_0 hc hX4 (wz_at hn rfl 1 rfl) hi23 dX1_choice_80 ?_
        refine pv_iload_n 3 hc dX1_choice_81 rfl rfl ?_
        refine pv_icmp_ne (tgt := 88) hc dX1_choice_82 (by decide) h (fun h => ?_) (fun h => ?_)
        · refine pv_aload_n 0 hc dX1_choice_88 rfl rfl ?_
          refine gf_X1_87 hc hX1 (wz_at hn rfl 3 rfl) dX1_choice_89 ?_
          refine gf_X1_209 hc hX4 (wz_at hn rfl 2 rfl) dX1_choice_92 ?_
          refine pv_iload_n 2 hc dX1_choice_95 rfl rfl ?_
          refine pv_iload_n 3 hc dX1_choice_96 rfl rfl ?_
          obtain ⟨s24, hs24, h⟩ := LT_el h
          refine as_X4_0 (G1 := (wz G [(b, 2, e), ((a + 13), 3, z), ((a + 21), 3, s24), (a, 0, s20)])) hc hX4 (wz_at hn rfl 2 rfl) hi23 hs24 (wz_set hn rfl 2 rfl rfl) dX1_choice_97 ?_
          refine pv_aload_n 0 hc dX1_choice_98 rfl rfl ?_
          obtain ⟨v27, s26, hf25, h⟩ := BD2_el h
          refine ca_X1_367 hc hX1 (wz_at hn rfl 3 rfl) (x1_fewest_ok hX1 hX3 hX4 (wz_at hn rfl 3 rfl) (wz_at hn rfl 0 rfl) (wz_at hn rfl 2 rfl) hf25) (by decide) (Nat.le_of_ble_eq_true rfl) dX1_choice_99 ?_
          refine pv_G (wz_set (us := [(b, 2, e), ((a + 13), 3, z), ((a + 21), 3, s24), (a, 0, s20)]) (us' := [(b, 2, e), ((a + 13), 3, z), ((a + 21), 3, s24), (a, 0, s26)]) hn rfl 3 rfl rfl).symm ?_
          refine pv_istore (L' := [(4, .int v27), (0, .ref a), (1, .int v17), (2, .int v11), (3, .int v18)]) hc dX1_choice_102 hN (by decide) rfl ?_
          refine pv_aload_n 1 hc dX1_choice_104 rfl rfl ?_
          refine gf_X1_87 hc hX1 (wz_at hn rfl 3 rfl) dX1_choice_105 ?_
          refine gf_X1_209 hc hX4 (wz_at hn rfl 2 rfl) dX1_choice_108 ?_
          refine pv_iload_n 3 hc dX1_choice_111 rfl rfl ?_
          refine pv_aload_n 1 hc dX1_choice_112 rfl rfl ?_
          refine gf_X1_83 hc hX1 (wz_at hn rfl 3 rfl) dX1_choice_113 ?_
          refine gf_X1_209 hc hX4 (wz_at hn rfl 1 rfl) dX1_choice_116 ?_
          refine pv_iload_n 3 hc dX1_choice_119 rfl rfl ?_
          refine al_X4_0 hc hX4 (wz_at hn rfl 1 rfl) hi23 dX1_choice_120 ?_
          obtain ⟨s28, hs28, h⟩ := LT_el h
          refine as_X4_0 (G1 := (wz G [(b, 2, e), ((a + 13), 3, z), ((a + 21), 3, s28), (a, 0, s26)])) hc hX4 (wz_at hn rfl 2 rfl) hi23 hs28 (wz_set hn rfl 2 rfl rfl) dX1_choice_121 ?_
          refine pv_iload 0 hc dX1_choice_122 rfl ?_
          refine pv_iload_n 2 hc dX1_choice_124 rfl rfl ?_
          refine pv_icmp_gt (tgt := 131) hc dX1_choice_125 (by decide) h (fun h => ?_) (fun h => ?_)
          · refine pv_iload 0 hc dX1_choice_131 rfl ?_
            refine pv_istore_n (L' := [(1, .int v27), (4, .int v27), (0, .ref a), (2, .int v11), (3, .int v18)]) hc dX1_choice_133 rfl hN (by decide) rfl ?_
            refine pv_aload_n 2 hc dX1_choice_134 rfl rfl ?_
            refine pv_iload_n 3 hc dX1_choice_135 rfl rfl ?_
            obtain ⟨s29, hs29, h⟩ := LT_el h
            refine pf_X1_370 (G1 := (wz G [(b, 2, e), ((a + 13), 3, z), ((a + 21), 3, s28), (a, 0, s29)])) hc hX1 (wz_at hn rfl 3 rfl) hs29 (wz_set hn rfl 3 rfl rfl) dX1_choice_136 ?_
            refine pv_aload_n 2 hc dX1_choice_139 rfl rfl ?_
            refine pv_iload_n 4 hc dX1_choice_140 rfl rfl ?_
            obtain ⟨s30, hs30, h⟩ := LT_el h
            refine pf_X1_373 (G1 := (wz G [(b, 2, e), ((a + 13), 3, z), ((a + 21), 3, s28), (a, 0, s30)])) hc hX1 (wz_at hn rfl 3 rfl) hs30 (wz_set hn rfl 3 rfl rfl) dX1_choice_141 ?_
            refine pv_aload_n 2 hc dX1_choice_144 rfl rfl ?_
            refine pv_aload_n 2 hc dX1_choice_145 rfl rfl ?_
            refine gf_X1_364 hc hX1 (wz_at hn rfl 3 rfl) dX1_choice_146 ?_
            obtain ⟨s31, hs31, h⟩ := LT_el h
            refine pf_X1_376 (G1 := (wz G [(b, 2, e), ((a + 13), 3, z), ((a + 21), 3, s28), (a, 0, s31)])) hc hX1 (wz_at hn rfl 3 rfl) hs31 (wz_set hn rfl 3 rfl rfl) dX1_choice_149 ?_
            refine pv_iinc (L' := [(3, .int (v18 + (1 : Int32))), (1, .int v27), (4, .int v27), (0, .ref a), (2, .int v11)]) 4 (v18 + (1 : Int32)) hc dX1_choice_152 rfl rfl hN (by decide) rfl ?_
            refine pv_goto (tgt := 61) hc dX1_choice_155 (by decide) ?_
            refine pv_sub [3, 1, 4, 0] rfl ?_
            exact hrec21 _ _ _ _ h
          · refine pv_goto (tgt := 152) hc dX1_choice_128 (by decide) ?_
            refine pv_iinc (L' := [(3, .int (v18 + (1 : Int32))), (4, .int v27), (0, .ref a), (1, .int v17), (2, .int v11)]) 4 (v18 + (1 : Int32)) hc dX1_choice_152 rfl rfl hN (by decide) rfl ?_
            refine pv_goto (tgt := 61) hc dX1_choice_155 (by decide) ?_
            refine pv_sub [2, 3, 4, 0] rfl ?_
            exact hrec21 _ _ _ _ h
        · refine pv_goto (tgt := 152) hc dX1_choice_85 (by decide) ?_
          refine pv_iinc (L' := [(3, .int (v18 + (1 : Int32))), (0, .ref a), (1, .int v17), (2, .int v11)]) 3 (v18 + (1 : Int32)) hc dX1_choice_152 rfl rfl hN (by decide) rfl ?_
          refine pv_goto (tgt := 61) hc dX1_choice_155 (by decide) ?_
          refine pv_sub [1, 2, 3, 0] rfl ?_
          exact hrec21 _ _ _ _ h
  · refine pv_iconst (-1 : Int32) hc dX1_choice_10 rfl ?_
    exact pv_iret hc hr hQ (by cases h; rfl) (fin_z (ro := [(b, 2, e), ((a + 13), 3, z)]) (vs := [((a + 21), 3, y), (a, 0, s)]) hro (by cases h; rfl)) dX1_choice_11
def x1_chosen (s : Rec) (x1 : Int32) : Option Int32 := (if (gI s 25) = 0 then some (-1 : Int32) else (if x1 = 0 then some (gI s 21) else (if x1 = (1 : Int32) then some (gI s 22) else (if x1 = (2 : Int32) then some (gI s 23) else some (-1 : Int32)))))
set_option maxHeartbeats 4000000 in
theorem x1_chosen_ok {l : Launch} {g : Gh} {G : Wd} (hX1 : OKX1 g) {a : Nat} {s : Rec} (hGt : G.2 a = some (0, s)) {x1 : Int32} {r : Int32} (hf : x1_chosen s x1 = some r) : MT l g yX1_chosen cX1_chosen 2 (some .int) 1 G [.ref a, .int x1] (some (.int r)) G := by
  refine pv_start (by decide) (Nat.le_of_ble_eq_true rfl) ?_
  intro X hl hg hN hc hr _ _ _ hQ
  subst hl; subst hg
  have hn : ([a] : List Nat).Nodup := nd1 
  have hro := ((wz_c hGt wz_n) : ∀ u ∈ ([(a, 0, s)] : List (Nat × Nat × Rec)), G.2 u.1 = some u.2)
  refine pv_G (wz_id (us := [(a, 0, s)]) (wz_c hGt wz_n)) ?_
  have h := hf
  unfold x1_chosen at h
  show V X 0 0 _ [(0, .ref a), (1, .int x1)] [] 0
  refine pv_aload_n 0 hc dX1_chosen_0 rfl rfl ?_
  refine gf_X1_379 hc hX1 (wz_at hn rfl 0 rfl) dX1_chosen_1 ?_
  refine pv_if_ne (tgt := 9) hc dX1_chosen_4 (by decide) h (fun h => ?_) (fun h => ?_)
  · refine pv_iload_n 1 hc dX1_chosen_9 rfl rfl ?_
    refine pv_if_ne (tgt := 20) hc dX1_chosen_10 (by decide) h (fun h => ?_) (fun h => ?_)
    · refine pv_iload_n 1 hc dX1_chosen_20 rfl rfl ?_
      refine pv_iconst (1 : Int32) hc dX1_chosen_21 rfl ?_
      refine pv_icmp_ne (tgt := 32) hc dX1_chosen_22 (by decide) h (fun h => ?_) (fun h => ?_)
      · refine pv_iload_n 1 hc dX1_chosen_32 rfl rfl ?_
        refine pv_iconst (2 : Int32) hc dX1_chosen_33 rfl ?_
        refine pv_icmp_ne (tgt := 44) hc dX1_chosen_34 (by decide) h (fun h => ?_) (fun h => ?_)
        · refine pv_iconst (-1 : Int32) hc dX1_chosen_44 rfl ?_
          exact pv_iret hc hr hQ (by cases h; rfl) (wz_id hro).symm dX1_chosen_45
        · refine pv_aload_n 0 hc dX1_chosen_37 rfl rfl ?_
          refine gf_X1_376 hc hX1 (wz_at hn rfl 0 rfl) dX1_chosen_38 ?_
          refine pv_goto (tgt := 45) hc dX1_chosen_41 (by decide) ?_
          exact pv_iret hc hr hQ (by cases h; rfl) (wz_id hro).symm dX1_chosen_45
      · refine pv_aload_n 0 hc dX1_chosen_25 rfl rfl ?_
        refine gf_X1_373 hc hX1 (wz_at hn rfl 0 rfl) dX1_chosen_26 ?_
        refine pv_goto (tgt := 45) hc dX1_chosen_29 (by decide) ?_
        exact pv_iret hc hr hQ (by cases h; rfl) (wz_id hro).symm dX1_chosen_45
    · refine pv_aload_n 0 hc dX1_chosen_13 rfl rfl ?_
      refine gf_X1_370 hc hX1 (wz_at hn rfl 0 rfl) dX1_chosen_14 ?_
      refine pv_goto (tgt := 45) hc dX1_chosen_17 (by decide) ?_
      exact pv_iret hc hr hQ (by cases h; rfl) (wz_id hro).symm dX1_chosen_45
  · refine pv_iconst (-1 : Int32) hc dX1_chosen_7 rfl ?_
    exact pv_iret hc hr hQ (by cases h; rfl) (wz_id hro).symm dX1_chosen_8
def x1_elder (s : Rec) (b : Nat) (e : Rec) (z : Rec) : Option Int32 := LP2 (fun (rec3 : Int32 → Int32 → Option Int32) (v1 : Int32) (v2 : Int32) => PG (gP s 6) b ((if (gI e 8) ≤ v2 then some v1 else BD (x4_leaves z v2 (1 : Int32)) (fun v6 => (if v1 = (-1 : Int32) then (if v6 ≤ (0 : Int32) then rec3 v1 (v2 + (1 : Int32)) else rec3 v2 (v2 + (1 : Int32))) else BD (x4_leaves z v1 (1 : Int32)) (fun v8 => (if v6 ≤ v8 then rec3 v1 (v2 + (1 : Int32)) else rec3 v2 (v2 + (1 : Int32))))))))) FU (-1 : Int32) (0 : Int32)
set_option maxHeartbeats 4000000 in
theorem x1_elder_ok {l : Launch} {g : Gh} {G : Wd} (hX1 : OKX1 g) (hX3 : OKX3 g) (hX4 : OKX4 g) {a : Nat} {s : Rec} (hGt : G.2 a = some (0, s)) {b : Nat} {e : Rec} (hGh : G.2 b = some (2, e)) {z : Rec} (hGz : G.2 (a + 13) = some (3, z)) {r : Int32} (hf : x1_elder s b e z = some r) : MT l g yX1_elder cX1_elder 3 (some .int) 4 G [.ref a] (some (.int r)) G := by
  refine pv_start (by decide) (Nat.le_of_ble_eq_true rfl) ?_
  intro X hl hg hN hc hr _ _ _ hQ
  subst hl; subst hg
  have hn : ([b, (a + 13), a] : List Nat).Nodup := nd3 (kd_ne hGh hGz (by decide)) (kd_ne hGh hGt (by decide)) (kd_ne hGz hGt (by decide))
  have hro := ((wz_c hGh (wz_c hGz (wz_c hGt wz_n))) : ∀ u ∈ ([(b, 2, e), ((a + 13), 3, z), (a, 0, s)] : List (Nat × Nat × Rec)), G.2 u.1 = some u.2)
  refine pv_G (wz_id (us := [(b, 2, e), ((a + 13), 3, z), (a, 0, s)]) (wz_c hGh (wz_c hGz (wz_c hGt wz_n)))) ?_
  have h := hf
  unfold x1_elder at h
  show V X 0 0 _ [(0, .ref a)] [] 0
  refine pv_iconst (-1 : Int32) hc dX1_elder_0 rfl ?_
  refine pv_istore_n (L' := [(1, .int (-1 : Int32)), (0, .ref a)]) hc dX1_elder_1 rfl hN (by decide) rfl ?_
  refine pv_iconst (0 : Int32) hc dX1_elder_2 rfl ?_
  refine pv_istore_n (L' := [(2, .int (0 : Int32)), (1, .int (-1 : Int32)), (0, .ref a)]) hc dX1_elder_3 rfl hN (by decide) rfl ?_
  refine pv_sub [2, 1, 0] rfl ?_
  refine LP2_el (P := fun v1 v2 => V X 0 0 (wz G [(b, 2, e), ((a + 13), 3, z), (a, 0, s)]) [(0, .ref a), (1, .int v1), (2, .int v2)] [] 4) ?_ FU _ _ h
  intro rec3 hrec3 v1 v2 h
  refine pv_iload_n 2 hc dX1_elder_4 rfl rfl ?_
  refine pv_aload_n 0 hc dX1_elder_5 rfl rfl ?_
  obtain ⟨hp4, h⟩ := PG_el h
  refine gp_X1_76 hc hX1 (wz_at hn rfl 2 rfl) hp4 dX1_elder_6 ?_
  refine gf_X1_189 hc hX3 (wz_at hn rfl 0 rfl) dX1_elder_9 ?_
  refine pv_icmp_ge (tgt := 53) hc dX1_elder_12 (by decide) h (fun h => ?_) (fun h => ?_)
  · refine pv_iload_n 1 hc dX1_elder_53 rfl rfl ?_
    exact pv_iret hc hr hQ (by cases h; rfl) (wz_id hro).symm dX1_elder_54
  · refine pv_aload_n 0 hc dX1_elder_15 rfl rfl ?_
    refine gf_X1_83 hc hX1 (wz_at hn rfl 2 rfl) dX1_elder_16 ?_
    refine pv_iload_n 2 hc dX1_elder_19 rfl rfl ?_
    refine pv_iconst (1 : Int32) hc dX1_elder_20 rfl ?_
    obtain ⟨v6, hf5, h⟩ := BD_el h
    refine ca_X1_226 hc hX4 (wz_at hn rfl 1 rfl) (x4_leaves_ok hX4 (wz_at hn rfl 1 rfl) hf5) (by decide) (Nat.le_of_ble_eq_true rfl) dX1_elder_21 ?_
    refine pv_iload_n 1 hc dX1_elder_24 rfl rfl ?_
    refine pv_iconst (-1 : Int32) hc dX1_elder_25 rfl ?_
    refine pv_icmp_ne (tgt := 33) hc dX1_elder_26 (by decide) h (fun h => ?_) (fun h => ?_)
    · refine pv_aload_n 0 hc dX1_elder_33 rfl rfl ?_
      refine gf_X1_83 hc hX1 (wz_at hn rfl 2 rfl) dX1_elder_34 ?_
      refine pv_iload_n 1 hc dX1_elder_37 rfl rfl ?_
      refine pv_iconst (1 : Int32) hc dX1_elder_38 rfl ?_
      obtain ⟨v8, hf7, h⟩ := BD_el h
      refine ca_X1_226 hc hX4 (wz_at hn rfl 1 rfl) (x4_leaves_ok hX4 (wz_at hn rfl 1 rfl) hf7) (by decide) (Nat.le_of_ble_eq_true rfl) dX1_elder_39 ?_
      refine pv_icmp_le (tgt := 47) hc dX1_elder_42 (by decide) h (fun h => ?_) (fun h => ?_)
      · refine pv_iinc (L' := [(2, .int (v2 + (1 : Int32))), (0, .ref a), (1, .int v1)]) 2 (v2 + (1 : Int32)) hc dX1_elder_47 rfl rfl hN (by decide) rfl ?_
        refine pv_goto (tgt := 4) hc dX1_elder_50 (by decide) ?_
        refine pv_sub [1, 2, 0] rfl ?_
        exact hrec3 _ _ h
      · refine pv_iload_n 2 hc dX1_elder_45 rfl rfl ?_
        refine pv_istore_n (L' := [(1, .int v2), (0, .ref a), (2, .int v2)]) hc dX1_elder_46 rfl hN (by decide) rfl ?_
        refine pv_iinc (L' := [(2, .int (v2 + (1 : Int32))), (1, .int v2), (0, .ref a)]) 2 (v2 + (1 : Int32)) hc dX1_elder_47 rfl rfl hN (by decide) rfl ?_
        refine pv_goto (tgt := 4) hc dX1_elder_50 (by decide) ?_
        refine pv_sub [2, 1, 0] rfl ?_
        exact hrec3 _ _ h
    · refine pv_iconst (0 : Int32) hc dX1_elder_29 rfl ?_
      refine pv_goto (tgt := 42) hc dX1_elder_30 (by decide) ?_
      refine pv_icmp_le (tgt := 47) hc dX1_elder_42 (by decide) h (fun h => ?_) (fun h => ?_)
      · refine pv_iinc (L' := [(2, .int (v2 + (1 : Int32))), (0, .ref a), (1, .int v1)]) 2 (v2 + (1 : Int32)) hc dX1_elder_47 rfl rfl hN (by decide) rfl ?_
        refine pv_goto (tgt := 4) hc dX1_elder_50 (by decide) ?_
        refine pv_sub [1, 2, 0] rfl ?_
        exact hrec3 _ _ h
      · refine pv_iload_n 2 hc dX1_elder_45 rfl rfl ?_
        refine pv_istore_n (L' := [(1, .int v2), (0, .ref a), (2, .int v2)]) hc dX1_elder_46 rfl hN (by decide) rfl ?_
        refine pv_iinc (L' := [(2, .int (v2 + (1 : Int32))), (1, .int v2), (0, .ref a)]) 2 (v2 + (1 : Int32)) hc dX1_elder_47 rfl rfl hN (by decide) rfl ?_
        refine pv_goto (tgt := 4) hc dX1_elder_50 (by decide) ?_
        refine pv_sub [2, 1, 0] rfl ?_
        exact hrec3 _ _ h
def x1_put_2 (s : Rec) (x1 : Int32) : Option Rec := IX (gI s 27) 40 (fun i1 => LT (sA s 26 i1 (vp_nar .byte (Int8.toInt32 (Int32.toInt8 x1)))) (fun s2 => LT (sI s2 27 ((gI s2 27) + (1 : Int32))) (fun s3 => some s3)))
set_option maxHeartbeats 4000000 in
theorem x1_put_2_ok {l : Launch} {g : Gh} {G : Wd} (hX1 : OKX1 g) {a : Nat} {s : Rec} (hGt : G.2 a = some (0, s)) {x1 : Int32} {s' : Rec} (hf : x1_put_2 s x1 = some s') : MT l g yX1_put_2 cX1_put_2 2 none 1 G [.ref a, .int x1] none (wp G a 0 s') := by
  refine pv_start (by decide) (Nat.le_of_ble_eq_true rfl) ?_
  intro X hl hg hN hc hr _ _ _ hQ
  subst hl; subst hg
  have hn : ([a] : List Nat).Nodup := nd1 
  have hro := (wz_n : ∀ u ∈ ([] : List (Nat × Nat × Rec)), G.2 u.1 = some u.2)
  refine pv_G (wz_id (us := [(a, 0, s)]) (wz_c hGt wz_n)) ?_
  have h := hf
  unfold x1_put_2 at h
  show V X 0 0 _ [(0, .ref a), (1, .int x1)] [] 0
  refine pv_aload_n 0 hc dX1_put_2_0 rfl rfl ?_
  refine gf_X1_127 hc hX1 (wz_at hn rfl 0 rfl) dX1_put_2_1 ?_
  refine pv_aload_n 0 hc dX1_put_2_4 rfl rfl ?_
  refine gf_X1_382 hc hX1 (wz_at hn rfl 0 rfl) dX1_put_2_5 ?_
  refine pv_iload_n 1 hc dX1_put_2_8 rfl rfl ?_
  refine pv_i2b hc dX1_put_2_9 ?_
  obtain ⟨i1, hi1, h⟩ := IX_el h
  obtain ⟨s2, hs2, h⟩ := LT_el h
  refine as_X1_text (G1 := (wz G [(a, 0, s2)])) hc hX1 (wz_at hn rfl 0 rfl) hi1 hs2 (wz_set hn rfl 0 rfl rfl) dX1_put_2_10 ?_
  refine pv_aload_n 0 hc dX1_put_2_11 rfl rfl ?_
  refine pv_dup hc dX1_put_2_12 rfl ?_
  refine gf_X1_382 hc hX1 (wz_at hn rfl 0 rfl) dX1_put_2_13 ?_
  refine pv_iconst (1 : Int32) hc dX1_put_2_16 rfl ?_
  refine pv_iadd hc dX1_put_2_17 ?_
  obtain ⟨s3, hs3, h⟩ := LT_el h
  refine pf_X1_382 (G1 := (wz G [(a, 0, s3)])) hc hX1 (wz_at hn rfl 0 rfl) hs3 (wz_set hn rfl 0 rfl rfl) dX1_put_2_18 ?_
  exact pv_vret hc hr hQ rfl (fin_z (ro := []) (vs := [(a, 0, s3)]) hro (by cases h; rfl)) dX1_put_2_21
def x1_put (s : Rec) (x1 : Int64) : Option Rec := LP2 (fun (rec3 : Int32 → Rec → Option Rec) (v1 : Int32) (s2 : Rec) => (if v1 < 0 then some s2 else (if (lg_cmp ((x1 >>> (Int32.toInt64 v1 &&& 63)) &&& (255 : Int64)) (0 : Int64)) = 0 then rec3 (v1 + (-8 : Int32)) s2 else BD (x1_put_2 s2 (Int64.toInt32 ((x1 >>> (Int32.toInt64 v1 &&& 63)) &&& (255 : Int64)))) (fun s5 => rec3 (v1 + (-8 : Int32)) s5)))) FU (56 : Int32) s
set_option maxHeartbeats 4000000 in
theorem x1_put_ok {l : Launch} {g : Gh} {G : Wd} (hX1 : OKX1 g) {a : Nat} {s : Rec} (hGt : G.2 a = some (0, s)) {x1 : Int64} {s' : Rec} (hf : x1_put s x1 = some s') : MT l g yX1_put cX1_put 4 none 2 G [.ref a, .long x1] none (wp G a 0 s') := by
  refine pv_start (by decide) (Nat.le_of_ble_eq_true rfl) ?_
  intro X hl hg hN hc hr _ _ _ hQ
  subst hl; subst hg
  have hn : ([a] : List Nat).Nodup := nd1 
  have hro := (wz_n : ∀ u ∈ ([] : List (Nat × Nat × Rec)), G.2 u.1 = some u.2)
  refine pv_G (wz_id (us := [(a, 0, s)]) (wz_c hGt wz_n)) ?_
  have h := hf
  unfold x1_put at h
  show V X 0 0 _ [(0, .ref a), (1, .long x1)] [] 0
  refine pv_bipush (56 : Int32) hc dX1_put_0 rfl ?_
  refine pv_istore_n (L' := [(3, .int (56 : Int32)), (0, .ref a), (1, .long x1)]) hc dX1_put_2 rfl hN (by decide) rfl ?_
  refine pv_sub [1, 2, 0] rfl ?_
  refine LP2_el (P := fun v1 s2 => V X 0 0 (wz G [(a, 0, s2)]) [(0, .ref a), (1, .long x1), (3, .int v1)] [] 3) ?_ FU _ _ h
  intro rec3 hrec3 v1 s2 h
  refine pv_iload_n 2 hc dX1_put_3 rfl rfl ?_
  refine pv_if_lt (tgt := 37) hc dX1_put_4 (by decide) h (fun h => ?_) (fun h => ?_)
  · exact pv_vret hc hr hQ rfl (fin_z (ro := []) (vs := [(a, 0, s2)]) hro (by cases h; rfl)) dX1_put_37
  · refine pv_lload_n 1 hc dX1_put_7 rfl rfl ?_
    refine pv_iload_n 2 hc dX1_put_8 rfl rfl ?_
    refine pv_lshr hc dX1_put_9 ?_
    refine pv_ldc2 hc q1082 dX1_put_10 ?_
    refine pv_land hc dX1_put_13 ?_
    refine pv_lconst (0 : Int64) hc dX1_put_14 rfl ?_
    refine pv_lcmp hc dX1_put_15 ?_
    refine pv_if_eq (tgt := 31) hc dX1_put_16 (by decide) h (fun h => ?_) (fun h => ?_)
    · refine pv_iinc (L' := [(3, .int (v1 + (-8 : Int32))), (0, .ref a), (1, .long x1)]) 2 (v1 + (-8 : Int32)) hc dX1_put_31 rfl rfl hN (by decide) rfl ?_
      refine pv_goto (tgt := 3) hc dX1_put_34 (by decide) ?_
      refine pv_sub [1, 2, 0] rfl ?_
      exact hrec3 _ _ h
    · refine pv_aload_n 0 hc dX1_put_19 rfl rfl ?_
      refine pv_lload_n 1 hc dX1_put_20 rfl rfl ?_
      refine pv_iload_n 2 hc dX1_put_21 rfl rfl ?_
      refine pv_lshr hc dX1_put_22 ?_
      refine pv_ldc2 hc q1082 dX1_put_23 ?_
      refine pv_land hc dX1_put_26 ?_
      refine pv_l2i hc dX1_put_27 ?_
      obtain ⟨s5, hf4, h⟩ := BD_el h
      refine ca_X1_391 hc hX1 (wz_at hn rfl 0 rfl) (x1_put_2_ok hX1 (wz_at hn rfl 0 rfl) hf4) (by decide) (Nat.le_of_ble_eq_true rfl) dX1_put_28 ?_
      refine pv_G (wz_set (us := [(a, 0, s2)]) (us' := [(a, 0, s5)]) hn rfl 0 rfl rfl).symm ?_
      refine pv_iinc (L' := [(3, .int (v1 + (-8 : Int32))), (0, .ref a), (1, .long x1)]) 2 (v1 + (-8 : Int32)) hc dX1_put_31 rfl rfl hN (by decide) rfl ?_
      refine pv_goto (tgt := 3) hc dX1_put_34 (by decide) ?_
      refine pv_sub [1, 2, 0] rfl ?_
      exact hrec3 _ _ h
def x1_put_3 (s : Rec) (x1 : Nat) : Option Rec := LP2 (fun (rec3 : Int32 → Rec → Option Rec) (v1 : Int32) (s2 : Rec) => (if (nI (slen x1)) ≤ v1 then some s2 else IX v1 (slen x1) (fun i4 => BD (x1_put_2 s2 (sch x1 i4)) (fun s6 => rec3 (v1 + (1 : Int32)) s6)))) FU (0 : Int32) s
set_option maxHeartbeats 4000000 in
theorem x1_put_3_ok {l : Launch} {g : Gh} {G : Wd} (hX1 : OKX1 g) {a : Nat} {s : Rec} (hGt : G.2 a = some (0, s)) {x1 : Nat} (x1L : x1 < 41) {s' : Rec} (hf : x1_put_3 s x1 = some s') : MT l g yX1_put_3 cX1_put_3 3 none 5 G [.ref a, .ref (gN g (2 * x1))] none (wp G a 0 s') := by
  refine pv_start (by decide) (Nat.le_of_ble_eq_true rfl) ?_
  intro X hl hg hN hc hr _ _ _ hQ
  subst hl; subst hg
  have hn : ([a] : List Nat).Nodup := nd1 
  have hro := (wz_n : ∀ u ∈ ([] : List (Nat × Nat × Rec)), G.2 u.1 = some u.2)
  refine pv_G (wz_id (us := [(a, 0, s)]) (wz_c hGt wz_n)) ?_
  have h := hf
  unfold x1_put_3 at h
  show V X 0 0 _ [(0, .ref a), (1, .ref (gN (xg X) (2 * x1)))] [] 0
  refine pv_iconst (0 : Int32) hc dX1_put_3_0 rfl ?_
  refine pv_istore_n (L' := [(2, .int (0 : Int32)), (0, .ref a), (1, .ref (gN (xg X) (2 * x1)))]) hc dX1_put_3_1 rfl hN (by decide) rfl ?_
  refine pv_sub [1, 2, 0] rfl ?_
  refine LP2_el (P := fun v1 s2 => V X 0 0 (wz G [(a, 0, s2)]) [(0, .ref a), (1, .ref (gN (xg X) (2 * x1))), (2, .int v1)] [] 2) ?_ FU _ _ h
  intro rec3 hrec3 v1 s2 h
  refine pv_iload_n 2 hc dX1_put_3_2 rfl rfl ?_
  refine pv_aload_n 1 hc dX1_put_3_3 rfl rfl ?_
  refine st_length_X1 hc hX1 x1L (by decide) (Nat.le_of_ble_eq_true rfl) dX1_put_3_4 ?_
  refine pv_icmp_ge (tgt := 25) hc dX1_put_3_7 (by decide) h (fun h => ?_) (fun h => ?_)
  · exact pv_vret hc hr hQ rfl (fin_z (ro := []) (vs := [(a, 0, s2)]) hro (by cases h; rfl)) dX1_put_3_25
  · refine pv_aload_n 0 hc dX1_put_3_10 rfl rfl ?_
    refine pv_aload_n 1 hc dX1_put_3_11 rfl rfl ?_
    refine pv_iload_n 2 hc dX1_put_3_12 rfl rfl ?_
    obtain ⟨i4, hi4, h⟩ := IX_el h
    refine st_charAt_X1 hc hX1 x1L hi4 (by decide) (Nat.le_of_ble_eq_true rfl) dX1_put_3_13 ?_
    obtain ⟨s6, hf5, h⟩ := BD_el h
    refine ca_X1_391 hc hX1 (wz_at hn rfl 0 rfl) (x1_put_2_ok hX1 (wz_at hn rfl 0 rfl) hf5) (by decide) (Nat.le_of_ble_eq_true rfl) dX1_put_3_16 ?_
    refine pv_G (wz_set (us := [(a, 0, s2)]) (us' := [(a, 0, s6)]) hn rfl 0 rfl rfl).symm ?_
    refine pv_iinc (L' := [(2, .int (v1 + (1 : Int32))), (0, .ref a), (1, .ref (gN (xg X) (2 * x1)))]) 2 (v1 + (1 : Int32)) hc dX1_put_3_19 rfl rfl hN (by decide) rfl ?_
    refine pv_goto (tgt := 2) hc dX1_put_3_22 (by decide) ?_
    refine pv_sub [1, 2, 0] rfl ?_
    exact hrec3 _ _ h
def x1_byteAt (s : Rec) (x1 : Int32) : Option Int32 := BD (x1_isIn x1 (0 : Int32) ((gI s 27) - (1 : Int32))) (fun v2 => (if v2 = 0 then some (-1 : Int32) else IX x1 40 (fun i3 => some (gA s 26 i3))))
set_option maxHeartbeats 4000000 in
theorem x1_byteAt_ok {l : Launch} {g : Gh} {G : Wd} (hX1 : OKX1 g) {a : Nat} {s : Rec} (hGt : G.2 a = some (0, s)) {x1 : Int32} {r : Int32} (hf : x1_byteAt s x1 = some r) : MT l g yX1_byteAt cX1_byteAt 2 (some .int) 2 G [.ref a, .int x1] (some (.int r)) G := by
  refine pv_start (by decide) (Nat.le_of_ble_eq_true rfl) ?_
  intro X hl hg hN hc hr _ _ _ hQ
  subst hl; subst hg
  have hn : ([a] : List Nat).Nodup := nd1 
  have hro := ((wz_c hGt wz_n) : ∀ u ∈ ([(a, 0, s)] : List (Nat × Nat × Rec)), G.2 u.1 = some u.2)
  refine pv_G (wz_id (us := [(a, 0, s)]) (wz_c hGt wz_n)) ?_
  have h := hf
  unfold x1_byteAt at h
  show V X 0 0 _ [(0, .ref a), (1, .int x1)] [] 0
  refine pv_iload_n 1 hc dX1_byteAt_0 rfl rfl ?_
  refine pv_iconst (0 : Int32) hc dX1_byteAt_1 rfl ?_
  refine pv_aload_n 0 hc dX1_byteAt_2 rfl rfl ?_
  refine gf_X1_382 hc hX1 (wz_at hn rfl 0 rfl) dX1_byteAt_3 ?_
  refine pv_iconst (1 : Int32) hc dX1_byteAt_6 rfl ?_
  refine pv_isub hc dX1_byteAt_7 ?_
  obtain ⟨v2, hf1, h⟩ := BD_el h
  refine ca_X1_185 hc (x1_isIn_ok   hf1) (by decide) (Nat.le_of_ble_eq_true rfl) dX1_byteAt_8 ?_
  refine pv_if_eq (tgt := 23) hc dX1_byteAt_11 (by decide) h (fun h => ?_) (fun h => ?_)
  · refine pv_iconst (-1 : Int32) hc dX1_byteAt_23 rfl ?_
    exact pv_iret hc hr hQ (by cases h; rfl) (wz_id hro).symm dX1_byteAt_24
  · refine pv_aload_n 0 hc dX1_byteAt_14 rfl rfl ?_
    refine gf_X1_127 hc hX1 (wz_at hn rfl 0 rfl) dX1_byteAt_15 ?_
    refine pv_iload_n 1 hc dX1_byteAt_18 rfl rfl ?_
    obtain ⟨i3, hi3, h⟩ := IX_el h
    refine al_X1_text hc hX1 (wz_at hn rfl 0 rfl) hi3 dX1_byteAt_19 ?_
    refine pv_goto (tgt := 24) hc dX1_byteAt_20 (by decide) ?_
    exact pv_iret hc hr hQ (by cases h; rfl) (wz_id hro).symm dX1_byteAt_24
def x1_isCaught (s : Rec) (b : Nat) (e : Rec) (y : Rec) (x1 : Int32) : Option Int32 := LP1 (fun (rec2 : Int32 → Option Int32) (v1 : Int32) => (if (gI y 8) ≤ v1 then some (0 : Int32) else IX v1 12 (fun i3 => (if (gA y 2 i3) = x1 then PG (gP s 6) b (BD (x4_isProved y e v1) (fun v6 => (if v6 = 0 then rec2 (v1 + (1 : Int32)) else some (1 : Int32)))) else rec2 (v1 + (1 : Int32)))))) FU (0 : Int32)
set_option maxHeartbeats 4000000 in
theorem x1_isCaught_ok {l : Launch} {g : Gh} {G : Wd} (hX1 : OKX1 g) (hX3 : OKX3 g) (hX4 : OKX4 g) {a : Nat} {s : Rec} (hGt : G.2 a = some (0, s)) {b : Nat} {e : Rec} (hGh : G.2 b = some (2, e)) {y : Rec} (hGy : G.2 (a + 21) = some (3, y)) {x1 : Int32} {r : Int32} (hf : x1_isCaught s b e y x1 = some r) : MT l g yX1_isCaught cX1_isCaught 3 (some .boolean) 5 G [.ref a, .int x1] (some (.int r)) G := by
  refine pv_start (by decide) (Nat.le_of_ble_eq_true rfl) ?_
  intro X hl hg hN hc hr _ _ _ hQ
  subst hl; subst hg
  have hn : ([b, (a + 21), a] : List Nat).Nodup := nd3 (kd_ne hGh hGy (by decide)) (kd_ne hGh hGt (by decide)) (kd_ne hGy hGt (by decide))
  have hro := ((wz_c hGh (wz_c hGy (wz_c hGt wz_n))) : ∀ u ∈ ([(b, 2, e), ((a + 21), 3, y), (a, 0, s)] : List (Nat × Nat × Rec)), G.2 u.1 = some u.2)
  refine pv_G (wz_id (us := [(b, 2, e), ((a + 21), 3, y), (a, 0, s)]) (wz_c hGh (wz_c hGy (wz_c hGt wz_n)))) ?_
  have h := hf
  unfold x1_isCaught at h
  show V X 0 0 _ [(0, .ref a), (1, .int x1)] [] 0
  refine pv_iconst (0 : Int32) hc dX1_isCaught_0 rfl ?_
  refine pv_istore_n (L' := [(2, .int (0 : Int32)), (0, .ref a), (1, .int x1)]) hc dX1_isCaught_1 rfl hN (by decide) rfl ?_
  refine pv_sub [1, 2, 0] rfl ?_
  refine LP1_el (P := fun v1 => V X 0 0 (wz G [(b, 2, e), ((a + 21), 3, y), (a, 0, s)]) [(0, .ref a), (1, .int x1), (2, .int v1)] [] 2) ?_ FU _ h
  intro rec2 hrec2 v1 h
  refine pv_iload_n 2 hc dX1_isCaught_2 rfl rfl ?_
  refine pv_aload_n 0 hc dX1_isCaught_3 rfl rfl ?_
  refine gf_X1_87 hc hX1 (wz_at hn rfl 2 rfl) dX1_isCaught_4 ?_
  refine gf_X1_198 hc hX4 (wz_at hn rfl 1 rfl) dX1_isCaught_7 ?_
  refine pv_icmp_ge (tgt := 49) hc dX1_isCaught_10 (by decide) h (fun h => ?_) (fun h => ?_)
  · refine pv_iconst (0 : Int32) hc dX1_isCaught_49 rfl ?_
    exact pv_zret hc hr hQ (by decide) (by cases h; rfl) (wz_id hro).symm dX1_isCaught_50
  · refine pv_aload_n 0 hc dX1_isCaught_13 rfl rfl ?_
    refine gf_X1_87 hc hX1 (wz_at hn rfl 2 rfl) dX1_isCaught_14 ?_
    refine gf_X1_236 hc hX4 (wz_at hn rfl 1 rfl) dX1_isCaught_17 ?_
    refine pv_iload_n 2 hc dX1_isCaught_20 rfl rfl ?_
    obtain ⟨i3, hi3, h⟩ := IX_el h
    refine al_X4_2 hc hX4 (wz_at hn rfl 1 rfl) hi3 dX1_isCaught_21 ?_
    refine pv_iload_n 1 hc dX1_isCaught_22 rfl rfl ?_
    refine pv_icmp_ne (tgt := 43) hc dX1_isCaught_23 (by decide) h (fun h => ?_) (fun h => ?_)
    · refine pv_iinc (L' := [(2, .int (v1 + (1 : Int32))), (0, .ref a), (1, .int x1)]) 2 (v1 + (1 : Int32)) hc dX1_isCaught_43 rfl rfl hN (by decide) rfl ?_
      refine pv_goto (tgt := 2) hc dX1_isCaught_46 (by decide) ?_
      refine pv_sub [1, 2, 0] rfl ?_
      exact hrec2 _ h
    · refine pv_aload_n 0 hc dX1_isCaught_26 rfl rfl ?_
      refine gf_X1_87 hc hX1 (wz_at hn rfl 2 rfl) dX1_isCaught_27 ?_
      refine pv_aload_n 0 hc dX1_isCaught_30 rfl rfl ?_
      obtain ⟨hp4, h⟩ := PG_el h
      refine gp_X1_76 hc hX1 (wz_at hn rfl 2 rfl) hp4 dX1_isCaught_31 ?_
      refine pv_iload_n 2 hc dX1_isCaught_34 rfl rfl ?_
      obtain ⟨v6, hf5, h⟩ := BD_el h
      refine ca_X1_252 hc hX4 (wz_at hn rfl 1 rfl) (x4_isProved_ok hX3 hX4 (wz_at hn rfl 1 rfl) (wz_at hn rfl 0 rfl) hf5) (by decide) (Nat.le_of_ble_eq_true rfl) dX1_isCaught_35 ?_
      refine pv_if_eq (tgt := 43) hc dX1_isCaught_38 (by decide) h (fun h => ?_) (fun h => ?_)
      · refine pv_iinc (L' := [(2, .int (v1 + (1 : Int32))), (0, .ref a), (1, .int x1)]) 2 (v1 + (1 : Int32)) hc dX1_isCaught_43 rfl rfl hN (by decide) rfl ?_
        refine pv_goto (tgt := 2) hc dX1_isCaught_46 (by decide) ?_
        refine pv_sub [1, 2, 0] rfl ?_
        exact hrec2 _ h
      · refine pv_iconst (1 : Int32) hc dX1_isCaught_41 rfl ?_
        exact pv_zret hc hr hQ (by decide) (by cases h; rfl) (wz_id hro).symm dX1_isCaught_42
def x1_odds (s : Rec) (b : Nat) (e : Rec) (z : Rec) (y : Rec) (x1 : Int32) (x2 : Int32) (x3 : Int32) : Option (Int32 × Rec) := BD (x1_isPerson s b e x1) (fun v2 => (if v2 = 0 then some ((-1 : Int32), y) else BD (x1_isIn x2 (1 : Int32) (30 : Int32)) (fun v4 => (if v4 = 0 then some ((-1 : Int32), y) else LP3 (fun (rec8 : Int32 → Int32 → Rec → Option (Int32 × Rec)) (v5 : Int32) (v6 : Int32) (s7 : Rec) => (if x2 ≤ v6 then some (v5, s7) else BD (x4_be s7 z) (fun s10 => PG (gP s 6) b (BD2 (x4_draws s10 e (20 : Int32) (x3 + v6)) (fun v14 s13 => BD (x1_isCaught s b e s13 x1) (fun v16 => (if v16 = 0 then rec8 v5 (v6 + (1 : Int32)) s13 else rec8 (v5 + (1 : Int32)) (v6 + (1 : Int32)) s13))))))) FU (0 : Int32) (0 : Int32) y))))
set_option maxHeartbeats 4000000 in
theorem x1_odds_ok {l : Launch} {g : Gh} {G : Wd} (hX1 : OKX1 g) (hX3 : OKX3 g) (hX4 : OKX4 g) {a : Nat} {s : Rec} (hGt : G.2 a = some (0, s)) {b : Nat} {e : Rec} (hGh : G.2 b = some (2, e)) {z : Rec} (hGz : G.2 (a + 13) = some (3, z)) {y : Rec} (hGy : G.2 (a + 21) = some (3, y)) {x1 : Int32} {x2 : Int32} {x3 : Int32} {r : Int32} {y' : Rec} (hf : x1_odds s b e z y x1 x2 x3 = some (r, y')) : MT l g yX1_odds cX1_odds 6 (some .int) 7 G [.ref a, .int x1, .int x2, .int x3] (some (.int r)) (wp G (a + 21) 3 y') := by
  refine pv_start (by decide) (Nat.le_of_ble_eq_true rfl) ?_
  intro X hl hg hN hc hr _ _ _ hQ
  subst hl; subst hg
  have hn : ([b, (a + 13), a, (a + 21)] : List Nat).Nodup := nd4 (kd_ne hGh hGz (by decide)) (kd_ne hGh hGt (by decide)) (kd_ne hGh hGy (by decide)) (kd_ne hGz hGt (by decide)) (by omega) (kd_ne hGt hGy (by decide))
  have hro := ((wz_c hGh (wz_c hGz (wz_c hGt wz_n))) : ∀ u ∈ ([(b, 2, e), ((a + 13), 3, z), (a, 0, s)] : List (Nat × Nat × Rec)), G.2 u.1 = some u.2)
  refine pv_G (wz_id (us := [(b, 2, e), ((a + 13), 3, z), (a, 0, s), ((a + 21), 3, y)]) (wz_c hGh (wz_c hGz (wz_c hGt (wz_c hGy wz_n))))) ?_
  have h := hf
  unfold x1_odds at h
  show V X 0 0 _ [(0, .ref a), (1, .int x1), (2, .int x2), (3, .int x3)] [] 0
  refine pv_aload_n 0 hc dX1_odds_0 rfl rfl ?_
  refine pv_iload_n 1 hc dX1_odds_1 rfl rfl ?_
  obtain ⟨v2, hf1, h⟩ := BD_el h
  refine ca_X1_285 hc hX1 (wz_at hn rfl 2 rfl) (x1_isPerson_ok hX1 hX3 (wz_at hn rfl 2 rfl) (wz_at hn rfl 0 rfl) hf1) (by decide) (Nat.le_of_ble_eq_true rfl) dX1_odds_2 ?_
  refine pv_if_eq (tgt := 18) hc dX1_odds_5 (by decide) h (fun h => ?_) (fun h => ?_)
  · refine pv_iconst (-1 : Int32) hc dX1_odds_18 rfl ?_
    exact pv_iret hc hr hQ (by cases h; rfl) (fin_z (ro := [(b, 2, e), ((a + 13), 3, z), (a, 0, s)]) (vs := [((a + 21), 3, y)]) hro (by cases h; rfl)) dX1_odds_19
  · refine pv_iload_n 2 hc dX1_odds_8 rfl rfl ?_
    refine pv_iconst (1 : Int32) hc dX1_odds_9 rfl ?_
    refine pv_bipush (30 : Int32) hc dX1_odds_10 rfl ?_
    obtain ⟨v4, hf3, h⟩ := BD_el h
    refine ca_X1_185 hc (x1_isIn_ok   hf3) (by decide) (Nat.le_of_ble_eq_true rfl) dX1_odds_12 ?_
    refine pv_if_ne (tgt := 20) hc dX1_odds_15 (by decide) h (fun h => ?_) (fun h => ?_)
    · refine pv_iconst (0 : Int32) hc dX1_odds_20 rfl ?_
      refine pv_istore (L' := [(4, .int (0 : Int32)), (0, .ref a), (1, .int x1), (2, .int x2), (3, .int x3)]) hc dX1_odds_21 hN (by decide) rfl ?_
      refine pv_iconst (0 : Int32) hc dX1_odds_23 rfl ?_
      refine pv_istore (L' := [(5, .int (0 : Int32)), (4, .int (0 : Int32)), (0, .ref a), (1, .int x1), (2, .int x2), (3, .int x3)]) hc dX1_odds_24 hN (by decide) rfl ?_
      refine pv_sub [2, 3, 4, 5, 1, 0] rfl ?_
      refine LP3_el (P := fun v5 v6 s7 => V X 0 0 (wz G [(b, 2, e), ((a + 13), 3, z), (a, 0, s), ((a + 21), 3, s7)]) [(0, .ref a), (1, .int x1), (2, .int x2), (3, .int x3), (4, .int v5), (5, .int v6)] [] 26) ?_ FU _ _ _ h
      intro rec8 hrec8 v5 v6 s7 h
      refine pv_iload 5 hc dX1_odds_26 rfl ?_
      refine pv_iload_n 2 hc dX1_odds_28 rfl rfl ?_
      refine pv_icmp_ge (tgt := 78) hc dX1_odds_29 (by decide) h (fun h => ?_) (fun h => ?_)
      · refine pv_iload 4 hc dX1_odds_78 rfl ?_
        exact pv_iret hc hr hQ (by cases h; rfl) (fin_z (ro := [(b, 2, e), ((a + 13), 3, z), (a, 0, s)]) (vs := [((a + 21), 3, s7)]) hro (by cases h; rfl)) dX1_odds_80
      · refine pv_aload_n 0 hc dX1_odds_32 rfl rfl ?_
        refine gf_X1_87 hc hX1 (wz_at hn rfl 2 rfl) dX1_odds_33 ?_
        refine pv_aload_n 0 hc dX1_odds_36 rfl rfl ?_
        refine gf_X1_83 hc hX1 (wz_at hn rfl 2 rfl) dX1_odds_37 ?_
        obtain ⟨s10, hf9, h⟩ := BD_el h
        refine ca_X1_281 hc hX4 (wz_at hn rfl 3 rfl) (x4_be_ok hX4 (wz_at hn rfl 3 rfl) (wz_at hn rfl 1 rfl) (by omega) hf9) (by decide) (Nat.le_of_ble_eq_true rfl) dX1_odds_40 ?_
        refine pv_G (wz_set (us' := [(b, 2, e), ((a + 13), 3, z), (a, 0, s), ((a + 21), 3, s10)]) hn rfl 3 rfl rfl).symm ?_
        refine pv_aload_n 0 hc dX1_odds_43 rfl rfl ?_
        refine gf_X1_87 hc hX1 (wz_at hn rfl 2 rfl) dX1_odds_44 ?_
        refine pv_aload_n 0 hc dX1_odds_47 rfl rfl ?_
        obtain ⟨hp11, h⟩ := PG_el h
        refine gp_X1_76 hc hX1 (wz_at hn rfl 2 rfl) hp11 dX1_odds_48 ?_
        refine pv_bipush (20 : Int32) hc dX1_odds_51 rfl ?_
        refine pv_iload_n 3 hc dX1_odds_53 rfl rfl ?_
        refine pv_iload 5 hc dX1_odds_54 rfl ?_
        refine pv_iadd hc dX1_odds_56 ?_
        obtain ⟨v14, s13, hf12, h⟩ := BD2_el h
        refine ca_X1_416 hc hX4 (wz_at hn rfl 3 rfl) (x4_draws_ok hX3 hX4 (wz_at hn rfl 3 rfl) (wz_at hn rfl 0 rfl) hf12) (by decide) (Nat.le_of_ble_eq_true rfl) dX1_odds_57 ?_
        refine pv_G (wz_set (us' := [(b, 2, e), ((a + 13), 3, z), (a, 0, s), ((a + 21), 3, s13)]) hn rfl 3 rfl rfl).symm ?_
        refine pv_pop hc dX1_odds_60 rfl ?_
        refine pv_aload_n 0 hc dX1_odds_61 rfl rfl ?_
        refine pv_iload_n 1 hc dX1_odds_62 rfl rfl ?_
        obtain ⟨v16, hf15, h⟩ := BD_el h
        refine ca_X1_420 hc hX1 (wz_at hn rfl 2 rfl) (x1_isCaught_ok hX1 hX3 hX4 (wz_at hn rfl 2 rfl) (wz_at hn rfl 0 rfl) (wz_at hn rfl 3 rfl) hf15) (by decide) (Nat.le_of_ble_eq_true rfl) dX1_odds_63 ?_
        refine pv_if_eq (tgt := 72) hc dX1_odds_66 (by decide) h (fun h => ?_) (fun h => ?_)
        · refine pv_iinc (L' := [(5, .int (v6 + (1 : Int32))), (0, .ref a), (1, .int x1), (2, .int x2), (3, .int x3), (4, .int v5)]) 5 (v6 + (1 : Int32)) hc dX1_odds_72 rfl rfl hN (by decide) rfl ?_
          refine pv_goto (tgt := 26) hc dX1_odds_75 (by decide) ?_
          refine pv_sub [1, 2, 3, 4, 5, 0] rfl ?_
          exact hrec8 _ _ _ h
        · refine pv_iinc (L' := [(4, .int (v5 + (1 : Int32))), (0, .ref a), (1, .int x1), (2, .int x2), (3, .int x3), (5, .int v6)]) 4 (v5 + (1 : Int32)) hc dX1_odds_69 rfl rfl hN (by decide) rfl ?_
          refine pv_iinc (L' := [(5, .int (v6 + (1 : Int32))), (4, .int (v5 + (1 : Int32))), (0, .ref a), (1, .int x1), (2, .int x2), (3, .int x3)]) 5 (v6 + (1 : Int32)) hc dX1_odds_72 rfl rfl hN (by decide) rfl ?_
          refine pv_goto (tgt := 26) hc dX1_odds_75 (by decide) ?_
          refine pv_sub [2, 3, 4, 5, 1, 0] rfl ?_
          exact hrec8 _ _ _ h
    · refine pv_iconst (-1 : Int32) hc dX1_odds_18 rfl ?_
      exact pv_iret hc hr hQ (by cases h; rfl) (fin_z (ro := [(b, 2, e), ((a + 13), 3, z), (a, 0, s)]) (vs := [((a + 21), 3, y)]) hro (by cases h; rfl)) dX1_odds_19
def x1_told (s : Rec) (x1 : Int32) : Option Int32 := (if (gI s 29) = 0 then some (-1 : Int32) else BD (x1_isIn x1 (0 : Int32) (3 : Int32)) (fun v2 => (if v2 = 0 then some (-1 : Int32) else IX x1 4 (fun i3 => some (gA s 28 i3)))))
set_option maxHeartbeats 4000000 in
theorem x1_told_ok {l : Launch} {g : Gh} {G : Wd} (hX1 : OKX1 g) {a : Nat} {s : Rec} (hGt : G.2 a = some (0, s)) {x1 : Int32} {r : Int32} (hf : x1_told s x1 = some r) : MT l g yX1_told cX1_told 2 (some .int) 2 G [.ref a, .int x1] (some (.int r)) G := by
  refine pv_start (by decide) (Nat.le_of_ble_eq_true rfl) ?_
  intro X hl hg hN hc hr _ _ _ hQ
  subst hl; subst hg
  have hn : ([a] : List Nat).Nodup := nd1 
  have hro := ((wz_c hGt wz_n) : ∀ u ∈ ([(a, 0, s)] : List (Nat × Nat × Rec)), G.2 u.1 = some u.2)
  refine pv_G (wz_id (us := [(a, 0, s)]) (wz_c hGt wz_n)) ?_
  have h := hf
  unfold x1_told at h
  show V X 0 0 _ [(0, .ref a), (1, .int x1)] [] 0
  refine pv_aload_n 0 hc dX1_told_0 rfl rfl ?_
  refine gf_X1_442 hc hX1 (wz_at hn rfl 0 rfl) dX1_told_1 ?_
  refine pv_if_eq (tgt := 25) hc dX1_told_4 (by decide) h (fun h => ?_) (fun h => ?_)
  · refine pv_iconst (-1 : Int32) hc dX1_told_25 rfl ?_
    exact pv_iret hc hr hQ (by cases h; rfl) (wz_id hro).symm dX1_told_26
  · refine pv_iload_n 1 hc dX1_told_7 rfl rfl ?_
    refine pv_iconst (0 : Int32) hc dX1_told_8 rfl ?_
    refine pv_iconst (3 : Int32) hc dX1_told_9 rfl ?_
    obtain ⟨v2, hf1, h⟩ := BD_el h
    refine ca_X1_185 hc (x1_isIn_ok   hf1) (by decide) (Nat.le_of_ble_eq_true rfl) dX1_told_10 ?_
    refine pv_if_eq (tgt := 25) hc dX1_told_13 (by decide) h (fun h => ?_) (fun h => ?_)
    · refine pv_iconst (-1 : Int32) hc dX1_told_25 rfl ?_
      exact pv_iret hc hr hQ (by cases h; rfl) (wz_id hro).symm dX1_told_26
    · refine pv_aload_n 0 hc dX1_told_16 rfl rfl ?_
      refine gf_X1_130 hc hX1 (wz_at hn rfl 0 rfl) dX1_told_17 ?_
      refine pv_iload_n 1 hc dX1_told_20 rfl rfl ?_
      obtain ⟨i3, hi3, h⟩ := IX_el h
      refine al_X1_toldRow hc hX1 (wz_at hn rfl 0 rfl) hi3 dX1_told_21 ?_
      refine pv_goto (tgt := 26) hc dX1_told_22 (by decide) ?_
      exact pv_iret hc hr hQ (by cases h; rfl) (wz_id hro).symm dX1_told_26
def x1_count (s : Rec) (b : Nat) (e : Rec) (x1 : Int32) : Option Int32 := (if x1 = (0 : Int32) then PG (gP s 6) b (some (gI e 7)) else if x1 = (1 : Int32) then PG (gP s 6) b (some (gI e 8)) else if x1 = (2 : Int32) then PG (gP s 6) b (some (gI e 9)) else if x1 = (3 : Int32) then PG (gP s 6) b (some (gI e 10)) else if x1 = (4 : Int32) then PG (gP s 6) b (some (gI e 12)) else if x1 = (5 : Int32) then PG (gP s 6) b (some (gI e 13)) else if x1 = (6 : Int32) then some (gI s 1) else some (-1 : Int32))
set_option maxHeartbeats 4000000 in
theorem x1_count_ok {l : Launch} {g : Gh} {G : Wd} (hX1 : OKX1 g) (hX3 : OKX3 g) {a : Nat} {s : Rec} (hGt : G.2 a = some (0, s)) {b : Nat} {e : Rec} (hGh : G.2 b = some (2, e)) {x1 : Int32} {r : Int32} (hf : x1_count s b e x1 = some r) : MT l g yX1_count cX1_count 2 (some .int) 1 G [.ref a, .int x1] (some (.int r)) G := by
  refine pv_start (by decide) (Nat.le_of_ble_eq_true rfl) ?_
  intro X hl hg hN hc hr _ _ _ hQ
  subst hl; subst hg
  have hn : ([b, a] : List Nat).Nodup := nd2 (kd_ne hGh hGt (by decide))
  have hro := ((wz_c hGh (wz_c hGt wz_n)) : ∀ u ∈ ([(b, 2, e), (a, 0, s)] : List (Nat × Nat × Rec)), G.2 u.1 = some u.2)
  refine pv_G (wz_id (us := [(b, 2, e), (a, 0, s)]) (wz_c hGh (wz_c hGt wz_n))) ?_
  have h := hf
  unfold x1_count at h
  show V X 0 0 _ [(0, .ref a), (1, .int x1)] [] 0
  refine pv_iload_n 1 hc dX1_count_0 rfl rfl ?_
  refine pv_tsw (tgt := 44) (c := 0) (off := 43) hc dX1_count_1 (by decide) (by decide) (by decide) (by decide) h (fun h => ?_) (fun hx2 h => ?_)
  · refine pv_aload_n 0 hc dX1_count_44 rfl rfl ?_
    obtain ⟨hp1, h⟩ := PG_el h
    refine gp_X1_76 hc hX1 (wz_at hn rfl 1 rfl) hp1 dX1_count_45 ?_
    refine gf_X1_182 hc hX3 (wz_at hn rfl 0 rfl) dX1_count_48 ?_
    exact pv_iret hc hr hQ (by cases h; rfl) (wz_id hro).symm dX1_count_51
  refine pv_tsw (tgt := 52) (c := 1) (off := 51) hc dX1_count_1 (by decide) (by decide) (by decide) (by decide) h (fun h => ?_) (fun hx4 h => ?_)
  · refine pv_aload_n 0 hc dX1_count_52 rfl rfl ?_
    obtain ⟨hp3, h⟩ := PG_el h
    refine gp_X1_76 hc hX1 (wz_at hn rfl 1 rfl) hp3 dX1_count_53 ?_
    refine gf_X1_189 hc hX3 (wz_at hn rfl 0 rfl) dX1_count_56 ?_
    exact pv_iret hc hr hQ (by cases h; rfl) (wz_id hro).symm dX1_count_59
  refine pv_tsw (tgt := 60) (c := 2) (off := 59) hc dX1_count_1 (by decide) (by decide) (by decide) (by decide) h (fun h => ?_) (fun hx6 h => ?_)
  · refine pv_aload_n 0 hc dX1_count_60 rfl rfl ?_
    obtain ⟨hp5, h⟩ := PG_el h
    refine gp_X1_76 hc hX1 (wz_at hn rfl 1 rfl) hp5 dX1_count_61 ?_
    refine gf_X1_192 hc hX3 (wz_at hn rfl 0 rfl) dX1_count_64 ?_
    exact pv_iret hc hr hQ (by cases h; rfl) (wz_id hro).symm dX1_count_67
  refine pv_tsw (tgt := 68) (c := 3) (off := 67) hc dX1_count_1 (by decide) (by decide) (by decide) (by decide) h (fun h => ?_) (fun hx8 h => ?_)
  · refine pv_aload_n 0 hc dX1_count_68 rfl rfl ?_
    obtain ⟨hp7, h⟩ := PG_el h
    refine gp_X1_76 hc hX1 (wz_at hn rfl 1 rfl) hp7 dX1_count_69 ?_
    refine gf_X1_195 hc hX3 (wz_at hn rfl 0 rfl) dX1_count_72 ?_
    exact pv_iret hc hr hQ (by cases h; rfl) (wz_id hro).symm dX1_count_75
  refine pv_tsw (tgt := 76) (c := 4) (off := 75) hc dX1_count_1 (by decide) (by decide) (by decide) (by decide) h (fun h => ?_) (fun hx10 h => ?_)
  · refine pv_aload_n 0 hc dX1_count_76 rfl rfl ?_
    obtain ⟨hp9, h⟩ := PG_el h
    refine gp_X1_76 hc hX1 (wz_at hn rfl 1 rfl) hp9 dX1_count_77 ?_
    refine gf_X1_317 hc hX3 (wz_at hn rfl 0 rfl) dX1_count_80 ?_
    exact pv_iret hc hr hQ (by cases h; rfl) (wz_id hro).symm dX1_count_83
  refine pv_tsw (tgt := 84) (c := 5) (off := 83) hc dX1_count_1 (by decide) (by decide) (by decide) (by decide) h (fun h => ?_) (fun hx12 h => ?_)
  · refine pv_aload_n 0 hc dX1_count_84 rfl rfl ?_
    obtain ⟨hp11, h⟩ := PG_el h
    refine gp_X1_76 hc hX1 (wz_at hn rfl 1 rfl) hp11 dX1_count_85 ?_
    refine gf_X1_309 hc hX3 (wz_at hn rfl 0 rfl) dX1_count_88 ?_
    exact pv_iret hc hr hQ (by cases h; rfl) (wz_id hro).symm dX1_count_91
  refine pv_tsw (tgt := 92) (c := 6) (off := 91) hc dX1_count_1 (by decide) (by decide) (by decide) (by decide) h (fun h => ?_) (fun hx13 h => ?_)
  · refine pv_aload_n 0 hc dX1_count_92 rfl rfl ?_
    refine gf_X1_146 hc hX1 (wz_at hn rfl 1 rfl) dX1_count_93 ?_
    exact pv_iret hc hr hQ (by cases h; rfl) (wz_id hro).symm dX1_count_96
  refine pv_tableOut (tgt := 97) hc dX1_count_1 (tsw_out 0 [0, 1, 2, 3, 4, 5, 6] (ne_c hx2 (ne_c hx4 (ne_c hx6 (ne_c hx8 (ne_c hx10 (ne_c hx12 (ne_c hx13 ne_n))))))) 6 (by decide)) (by decide) ?_
  refine pv_iconst (-1 : Int32) hc dX1_count_97 rfl ?_
  exact pv_iret hc hr hQ (by cases h; rfl) (wz_id hro).symm dX1_count_98
