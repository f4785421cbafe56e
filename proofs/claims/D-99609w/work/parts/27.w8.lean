/-! Integer.toString, put of a text, card (written by gen/x6.py) -/
set_option maxRecDepth 100000
theorem wo_62 {g : Gh} {a : Nat} {r : Rec} (hW : OKW g) : (gE g 62 a r)[0]? = some (a, .inl (kap g 3, (gP r 0).getD 0, .inl (gA r 0))) := by rw [we62 hW]; rfl
theorem pv_strw {X : CX} {cc : ByteArray} {own : String} {ht k n : Nat} {G : Wd} {L : List (Nat × Value)} {st : List Value} {pc : Nat} {tx : String} {index q : Nat} (hc : OK X cc own ht) (hZ : vk_R own index tx q (xs X)) (d : decode cc pc = .ok (.ldc_w index, 3)) (h : V X k n G L (.ref q :: st) (pc + 3)) : V X k n G L st pc := by
  intro hk hn H locs ls hW hS hl T hT Z
  obtain ⟨t, a1, b1⟩ := h hk hn H locs ls hW hS hl T hT Z
  exact ⟨t, Z.ldcStringW hc.1 hc.2.2.2.1 (text := tx) (a := q) hZ.1 hZ.2 (g := F0 (xm X) pc ls st) rfl (by rw [hc.2.1]; exact d) t a1, b1⟩
def j9_stringSize (x0 : Int32) : Option Int32 := JN2 (fun (v1 : Int32) (v2 : Int32) => LP2 (fun (rec6 : Int32 → Int32 → Option Int32) (v4 : Int32) (v5 : Int32) => (if (10 : Int32) ≤ v5 then some ((10 : Int32) + v2) else (if v1 ≤ v4 then rec6 ((10 : Int32) * v4) (v5 + (1 : Int32)) else some (v5 + v2)))) FU (-10 : Int32) (1 : Int32)) (fun (j3 : Int32 → Int32 → Option Int32) => (if x0 < 0 then j3 x0 (1 : Int32) else j3 (-x0) (0 : Int32)))
set_option maxHeartbeats 4000000 in
theorem j9_stringSize_ok {l : Launch} {g : Gh} {G : Wd}  {x0 : Int32} {r : Int32} (hf : j9_stringSize x0 = some r) : MT l g yJ9_stringSize cJ9_stringSize 4 (some .int) 1 G [.int x0] (some (.int r)) G := by
  refine pv_start (by decide) (Nat.le_of_ble_eq_true rfl) ?_
  intro X hl hg hN hc hr _ _ _ hQ
  subst hl; subst hg
  have h := hf
  unfold j9_stringSize at h
  show V X 0 0 _ [(0, .int x0)] [] 0
  refine pv_iconst (1 : Int32) hc dJ9_stringSize_0 rfl ?_
  refine pv_istore_n (L' := [(1, .int (1 : Int32)), (0, .int x0)]) hc dJ9_stringSize_1 rfl hN (by decide) rfl ?_
  refine pv_iload_n 1 hc dJ9_stringSize_2 rfl rfl ?_
  obtain ⟨j3, hj3, h⟩ := JN2_el (P := fun v1 v2 => V X 0 0 G [(0, .int v1), (1, .int v2)] [] 11) h (by
      intro v1 v2 h
      refine pv_bipush (-10 : Int32) hc dJ9_stringSize_11 rfl ?_
      refine pv_istore_n (L' := [(2, .int (-10 : Int32)), (0, .int v1), (1, .int v2)]) hc dJ9_stringSize_13 rfl hN (by decide) rfl ?_
      refine pv_iconst (1 : Int32) hc dJ9_stringSize_14 rfl ?_
      refine pv_istore_n (L' := [(3, .int (1 : Int32)), (2, .int (-10 : Int32)), (0, .int v1), (1, .int v2)]) hc dJ9_stringSize_15 rfl hN (by decide) rfl ?_
      refine pv_sub [2, 3, 1, 0] rfl ?_
      refine LP2_el (P := fun v4 v5 => V X 0 0 G [(0, .int v1), (1, .int v2), (2, .int v4), (3, .int v5)] [] 16) ?_ FU _ _ h
      intro rec6 hrec6 v4 v5 h
      refine pv_iload_n 3 hc dJ9_stringSize_16 rfl rfl ?_
      refine pv_bipush (10 : Int32) hc dJ9_stringSize_17 rfl ?_
      refine pv_icmp_ge (tgt := 42) hc dJ9_stringSize_19 (by decide) h (fun h => ?_) (fun h => ?_)
      · refine pv_bipush (10 : Int32) hc dJ9_stringSize_42 rfl ?_
        refine pv_iload_n 1 hc dJ9_stringSize_44 rfl rfl ?_
        refine pv_iadd hc dJ9_stringSize_45 ?_
        exact pv_iret hc hr hQ (e_i1 h) rfl dJ9_stringSize_46
      · refine pv_iload_n 0 hc dJ9_stringSize_22 rfl rfl ?_
        refine pv_iload_n 2 hc dJ9_stringSize_23 rfl rfl ?_
        refine pv_icmp_le (tgt := 31) hc dJ9_stringSize_24 (by decide) h (fun h => ?_) (fun h => ?_)
        · refine pv_bipush (10 : Int32) hc dJ9_stringSize_31 rfl ?_
          refine pv_iload_n 2 hc dJ9_stringSize_33 rfl rfl ?_
          refine pv_imul hc dJ9_stringSize_34 ?_
          refine pv_istore_n (L' := [(2, .int ((10 : Int32) * v4)), (0, .int v1), (1, .int v2), (3, .int v5)]) hc dJ9_stringSize_35 rfl hN (by decide) rfl ?_
          refine pv_iinc (L' := [(3, .int (v5 + (1 : Int32))), (2, .int ((10 : Int32) * v4)), (0, .int v1), (1, .int v2)]) 3 (v5 + (1 : Int32)) hc dJ9_stringSize_36 rfl rfl hN (by decide) rfl ?_
          refine pv_goto (tgt := 16) hc dJ9_stringSize_39 (by decide) ?_
          refine pv_sub [2, 3, 1, 0] rfl ?_
          exact hrec6 _ _ h
        · refine pv_iload_n 3 hc dJ9_stringSize_27 rfl rfl ?_
          refine pv_iload_n 1 hc dJ9_stringSize_28 rfl rfl ?_
          refine pv_iadd hc dJ9_stringSize_29 ?_
          exact pv_iret hc hr hQ (e_i1 h) rfl dJ9_stringSize_30)
  refine pv_if_lt (tgt := 11) hc dJ9_stringSize_3 (by decide) h (fun h => ?_) (fun h => ?_)
  · refine pv_sub [1, 0] rfl ?_
    exact hj3 _ _ h
  · refine pv_iconst (0 : Int32) hc dJ9_stringSize_6 rfl ?_
    refine pv_istore_n (L' := [(1, .int (0 : Int32)), (0, .int x0)]) hc dJ9_stringSize_7 rfl hN (by decide) rfl ?_
    refine pv_iload_n 1 hc dJ9_stringSize_8 rfl rfl ?_
    refine pv_ineg hc dJ9_stringSize_9 ?_
    refine pv_istore_n (L' := [(0, .int (-x0)), (1, .int (0 : Int32))]) hc dJ9_stringSize_10 rfl hN (by decide) rfl ?_
    exact hj3 _ _ h
def j9_getChars (G : Wd) (x0 : Int32) (x1 : Int32) (x2 : Nat) : Option (Int32 × Wd) := JN1 (fun (v1 : Int32) => (if v1 = 0 then LP3 (fun (rec36 : Int32 → Int32 → Wd → Option (Int32 × Wd)) (v33 : Int32) (v34 : Int32) (s35 : Wd) => (if (-100 : Int32) < v33 then IX (-v33) 100 (fun i37 => RD s35 x2 62 (fun s38 => IX (v34 + (-1 : Int32)) ((gP s38 0).getD 0) (fun i39 => LT (sA s38 0 i39 (vp_nar .byte (Int32.ofNat (48 + i37 % 10)))) (fun s40 => LT (wp s35 x2 62 s40) (fun w41 => JN2 (fun (v42 : Int32) (s43 : Wd) => (if v1 = 0 then some (v42, s43) else RD s43 x2 62 (fun s45 => IX (v42 + (-1 : Int32)) ((gP s45 0).getD 0) (fun i46 => LT (sA s45 0 i46 (vp_nar .byte (45 : Int32))) (fun s47 => LT (wp s43 x2 62 s47) (fun w48 => some ((v42 + (-1 : Int32)), w48))))))) (fun (j44 : Int32 → Wd → Option (Int32 × Wd)) => (if (-9 : Int32) ≤ v33 then j44 (v34 + (-1 : Int32)) w41 else IX (-v33) 100 (fun i49 => IX ((v34 + (-1 : Int32)) + (-1 : Int32)) ((gP s40 0).getD 0) (fun i50 => LT (sA s40 0 i50 (vp_nar .byte (Int32.ofNat (48 + i49 / 10)))) (fun s51 => LT (wp w41 x2 62 s51) (fun w52 => j44 ((v34 + (-1 : Int32)) + (-1 : Int32)) w52))))))))))) else NZ (100 : Int32) (IX (((v33 / (100 : Int32)) * (100 : Int32)) - v33) 100 (fun i54 => RD s35 x2 62 (fun s55 => IX (v34 + (-1 : Int32)) ((gP s55 0).getD 0) (fun i56 => LT (sA s55 0 i56 (vp_nar .byte (Int32.ofNat (48 + i54 % 10)))) (fun s57 => LT (wp s35 x2 62 s57) (fun w58 => IX (((v33 / (100 : Int32)) * (100 : Int32)) - v33) 100 (fun i59 => IX ((v34 + (-1 : Int32)) + (-1 : Int32)) ((gP s57 0).getD 0) (fun i60 => LT (sA s57 0 i60 (vp_nar .byte (Int32.ofNat (48 + i59 / 10)))) (fun s61 => LT (wp w58 x2 62 s61) (fun w62 => rec36 (v33 / (100 : Int32)) ((v34 + (-1 : Int32)) + (-1 : Int32)) w62)))))))))))) FU (-x0) x1 G else LP3 (fun (rec6 : Int32 → Int32 → Wd → Option (Int32 × Wd)) (v3 : Int32) (v4 : Int32) (s5 : Wd) => (if (-100 : Int32) < v3 then IX (-v3) 100 (fun i7 => RD s5 x2 62 (fun s8 => IX (v4 + (-1 : Int32)) ((gP s8 0).getD 0) (fun i9 => LT (sA s8 0 i9 (vp_nar .byte (Int32.ofNat (48 + i7 % 10)))) (fun s10 => LT (wp s5 x2 62 s10) (fun w11 => JN2 (fun (v12 : Int32) (s13 : Wd) => (if v1 = 0 then some (v12, s13) else RD s13 x2 62 (fun s15 => IX (v12 + (-1 : Int32)) ((gP s15 0).getD 0) (fun i16 => LT (sA s15 0 i16 (vp_nar .byte (45 : Int32))) (fun s17 => LT (wp s13 x2 62 s17) (fun w18 => some ((v12 + (-1 : Int32)), w18))))))) (fun (j14 : Int32 → Wd → Option (Int32 × Wd)) => (if (-9 : Int32) ≤ v3 then j14 (v4 + (-1 : Int32)) w11 else IX (-v3) 100 (fun i19 => IX ((v4 + (-1 : Int32)) + (-1 : Int32)) ((gP s10 0).getD 0) (fun i20 => LT (sA s10 0 i20 (vp_nar .byte (Int32.ofNat (48 + i19 / 10)))) (fun s21 => LT (wp w11 x2 62 s21) (fun w22 => j14 ((v4 + (-1 : Int32)) + (-1 : Int32)) w22))))))))))) else NZ (100 : Int32) (IX (((v3 / (100 : Int32)) * (100 : Int32)) - v3) 100 (fun i24 => RD s5 x2 62 (fun s25 => IX (v4 + (-1 : Int32)) ((gP s25 0).getD 0) (fun i26 => LT (sA s25 0 i26 (vp_nar .byte (Int32.ofNat (48 + i24 % 10)))) (fun s27 => LT (wp s5 x2 62 s27) (fun w28 => IX (((v3 / (100 : Int32)) * (100 : Int32)) - v3) 100 (fun i29 => IX ((v4 + (-1 : Int32)) + (-1 : Int32)) ((gP s27 0).getD 0) (fun i30 => LT (sA s27 0 i30 (vp_nar .byte (Int32.ofNat (48 + i29 / 10)))) (fun s31 => LT (wp w28 x2 62 s31) (fun w32 => rec6 (v3 / (100 : Int32)) ((v4 + (-1 : Int32)) + (-1 : Int32)) w32)))))))))))) FU x0 x1 G)) (fun (j2 : Int32 → Option (Int32 × Wd)) => (if 0 ≤ x0 then j2 (0 : Int32) else j2 (1 : Int32)))
set_option maxHeartbeats 4000000 in
theorem j9_getChars_ok {l : Launch} {g : Gh} (hW : OKW g) (hX1 : OKX1 g) (hX3 : OKX3 g) (hX4 : OKX4 g) {G : Wd} {x0 : Int32} {x1 : Int32} {x2 : Nat} {r : Int32} {G' : Wd} (hf : j9_getChars G x0 x1 x2 = some (r, G')) : MTa l g yJ9_getChars cJ9_getChars 7 (some .int) 1 (G'.1 - G.1) (1200 * (G'.1 - G.1)) G [.int x0, .int x1, .ref x2] (some (.int r)) G' := by
  refine vm_start (by decide) (Nat.le_of_ble_eq_true rfl) ?_
  intro X hl hg hN hc hr hni hR hQ
  subst hl; subst hg
  have h := hf
  unfold j9_getChars at h
  show VM X G G' G [(0, .int x0), (1, .int x1), (2, .ref x2)] [] 0
  refine vm_l (fun h9 => pv_iload_n 1 hc dJ9_getChars_0 rfl rfl h9) ?_
  refine vm_l (fun h9 => pv_istore (L' := [(5, .int x1), (0, .int x0), (1, .int x1), (2, .ref x2)]) hc dJ9_getChars_1 hN (by decide) rfl h9) ?_
  refine vm_l (fun h9 => pv_iload_n 1 hc dJ9_getChars_3 rfl rfl h9) ?_
  obtain ⟨j2, hj2, h⟩ := JN1_el (P := fun v1 => VM X G G' G [(0, .int x0), (2, .ref x2), (5, .int x1)] [.int v1] 12) h (by
      intro v1 h
      refine vm_l (fun h9 => pv_istore (L' := [(6, .int v1), (0, .int x0), (2, .ref x2), (5, .int x1)]) hc dJ9_getChars_12 hN (by decide) rfl h9) ?_
      refine vm_l (fun h9 => pv_iload 0 hc dJ9_getChars_14 rfl h9) ?_
      refine vm_ifn h (fun h k1 k2 => pv_if_ne (tgt := 22) hc dJ9_getChars_16 (by decide) h k1 k2) (fun h => ?_) (fun h => ?_)
      · refine vm_sub [1, 2, 3, 0] rfl ?_
        refine LP3_el (P := fun v3 v4 s5 => VM X G G' s5 [(0, .int v3), (2, .ref x2), (5, .int v4), (6, .int v1)] [] 22) ?_ FU _ _ _ h
        intro rec6 hrec6 v3 v4 s5 h
        refine vm_l (fun h9 => pv_iload_n 0 hc dJ9_getChars_22 rfl rfl h9) ?_
        refine vm_l (fun h9 => pv_bipush (-100 : Int32) hc dJ9_getChars_23 rfl h9) ?_
        refine vm_if h (fun h k1 k2 => pv_icmp_gt (tgt := 72) hc dJ9_getChars_25 (by decide) h k1 k2) (fun h => ?_) (fun h => ?_)
        · refine vm_l (fun h9 => pv_aload_n 1 hc dJ9_getChars_72 rfl rfl h9) ?_
          refine vm_l (fun h9 => pv_iinc (L' := [(5, .int (v4 + (-1 : Int32))), (0, .int v3), (2, .ref x2), (6, .int v1)]) 2 (v4 + (-1 : Int32)) hc dJ9_getChars_73 rfl rfl hN (by decide) rfl h9) ?_
          refine vm_l (fun h9 => pv_iload 0 hc dJ9_getChars_76 rfl h9) ?_
          refine vm_l (fun h9 => pv_getZ hc (okY hX1 _ hc.2.2.2.2.2.1.2.2.1).2.2.1.1 q1105 (fun _ h => h) dJ9_getChars_78 h9) ?_
          refine vm_l (fun h9 => pv_iload_n 1 hc dJ9_getChars_81 rfl rfl h9) ?_
          refine vm_l (fun h9 => pv_ineg hc dJ9_getChars_82 h9) ?_
          obtain ⟨i7, hi7, h⟩ := IX_el h
          refine vm_l (fun h9 => pv_baldT (f := fun j => Int32.ofNat (48 + j % 10)) hc (fun H hW9 => ((okY hX1 _ hc.2.2.2.2.2.1.2.2.1).2.2.1.2.kept (fun a _ ha => hW9.2.2.1 a (Nat.not_le.mp ha)))) hi7 dJ9_getChars_83 h9) ?_
          obtain ⟨s8, gs8, h⟩ := RD_el h
          obtain ⟨i9, hi9, h⟩ := IX_el h
          obtain ⟨s10, hs10, h⟩ := LT_el h
          obtain ⟨w11, hw11, h⟩ := LT_el h
          refine vm_e hw11 rfl (fun h9 => pv_bast hc gs8 (wo_62 hW) 3 (xt3 hX1) hi9 (r' := s10) (by subst hs10; rw [we62 hW, we62 hW]; rfl) dJ9_getChars_84 h9) ?_
          refine vm_l (fun h9 => pv_iload_n 1 hc dJ9_getChars_85 rfl rfl h9) ?_
          refine vm_l (fun h9 => pv_bipush (-9 : Int32) hc dJ9_getChars_86 rfl h9) ?_
          obtain ⟨j14, hj14, h⟩ := JN2_el (P := fun v12 s13 => VM X G G' s13 [(2, .ref x2), (5, .int v12), (6, .int v1)] [] 104) h (by
              intro v12 s13 h
              refine vm_l (fun h9 => pv_iload 2 hc dJ9_getChars_104 rfl h9) ?_
              refine vm_if h (fun h k1 k2 => pv_if_eq (tgt := 118) hc dJ9_getChars_106 (by decide) h k1 k2) (fun h => ?_) (fun h => ?_)
              · refine vm_l (fun h9 => pv_iload 1 hc dJ9_getChars_118 rfl h9) ?_
                obtain ⟨rfl, rfl⟩ := Prod.mk.inj (Option.some.inj h)
                exact fun _ => ⟨Nat.le_refl _, pv_iret hc hr hQ rfl rfl dJ9_getChars_120⟩
              · refine vm_l (fun h9 => pv_aload_n 0 hc dJ9_getChars_109 rfl rfl h9) ?_
                refine vm_l (fun h9 => pv_iinc (L' := [(5, .int (v12 + (-1 : Int32))), (2, .ref x2), (6, .int v1)]) 1 (v12 + (-1 : Int32)) hc dJ9_getChars_110 rfl rfl hN (by decide) rfl h9) ?_
                refine vm_l (fun h9 => pv_iload 0 hc dJ9_getChars_113 rfl h9) ?_
                refine vm_l (fun h9 => pv_bipush (45 : Int32) hc dJ9_getChars_115 rfl h9) ?_
                obtain ⟨s15, gs15, h⟩ := RD_el h
                obtain ⟨i16, hi16, h⟩ := IX_el h
                obtain ⟨s17, hs17, h⟩ := LT_el h
                obtain ⟨w18, hw18, h⟩ := LT_el h
                refine vm_e hw18 rfl (fun h9 => pv_bast hc gs15 (wo_62 hW) 3 (xt3 hX1) hi16 (r' := s17) (by subst hs17; rw [we62 hW, we62 hW]; rfl) dJ9_getChars_117 h9) ?_
                refine vm_l (fun h9 => pv_iload 0 hc dJ9_getChars_118 rfl h9) ?_
                obtain ⟨rfl, rfl⟩ := Prod.mk.inj (Option.some.inj h)
                exact fun _ => ⟨Nat.le_refl _, pv_iret hc hr hQ rfl rfl dJ9_getChars_120⟩)
          refine vm_if h (fun h k1 k2 => pv_icmp_ge (tgt := 104) hc dJ9_getChars_88 (by decide) h k1 k2) (fun h => ?_) (fun h => ?_)
          · refine vm_sub [2, 0, 3] rfl ?_
            exact hj14 _ _ h
          · refine vm_l (fun h9 => pv_aload_n 2 hc dJ9_getChars_91 rfl rfl h9) ?_
            refine vm_l (fun h9 => pv_iinc (L' := [(5, .int ((v4 + (-1 : Int32)) + (-1 : Int32))), (0, .int v3), (2, .ref x2), (6, .int v1)]) 0 ((v4 + (-1 : Int32)) + (-1 : Int32)) hc dJ9_getChars_92 rfl rfl hN (by decide) rfl h9) ?_
            refine vm_l (fun h9 => pv_iload 0 hc dJ9_getChars_95 rfl h9) ?_
            refine vm_l (fun h9 => pv_getZ hc (okY hX1 _ hc.2.2.2.2.2.1.2.2.1).2.2.2.1 q1107 (fun _ h => h) dJ9_getChars_97 h9) ?_
            refine vm_l (fun h9 => pv_iload_n 1 hc dJ9_getChars_100 rfl rfl h9) ?_
            refine vm_l (fun h9 => pv_ineg hc dJ9_getChars_101 h9) ?_
            obtain ⟨i19, hi19, h⟩ := IX_el h
            refine vm_l (fun h9 => pv_baldT (f := fun j => Int32.ofNat (48 + j / 10)) hc (fun H hW9 => ((okY hX1 _ hc.2.2.2.2.2.1.2.2.1).2.2.2.2.kept (fun a _ ha => hW9.2.2.1 a (Nat.not_le.mp ha)))) hi19 dJ9_getChars_102 h9) ?_
            obtain ⟨i20, hi20, h⟩ := IX_el h
            obtain ⟨s21, hs21, h⟩ := LT_el h
            obtain ⟨w22, hw22, h⟩ := LT_el h
            refine vm_e hw22 rfl (fun h9 => pv_bast hc (wp_at' hw11) (wo_62 hW) 3 (xt3 hX1) hi20 (r' := s21) (by subst hs21; rw [we62 hW, we62 hW]; rfl) dJ9_getChars_103 h9) ?_
            refine vm_sub [2, 0, 3] rfl ?_
            exact hj14 _ _ h
        · refine vm_l (fun h9 => pv_iload_n 0 hc dJ9_getChars_28 rfl rfl h9) ?_
          refine vm_l (fun h9 => pv_bipush (100 : Int32) hc dJ9_getChars_29 rfl h9) ?_
          obtain ⟨hz23, h⟩ := NZ_el h
          refine vm_l (fun h9 => pv_idiv hc dJ9_getChars_31 hz23 h9) ?_
          refine vm_l (fun h9 => pv_istore_n (L' := [(3, .int (v3 / (100 : Int32))), (0, .int v3), (2, .ref x2), (5, .int v4), (6, .int v1)]) hc dJ9_getChars_32 rfl hN (by decide) rfl h9) ?_
          refine vm_l (fun h9 => pv_iload_n 0 hc dJ9_getChars_33 rfl rfl h9) ?_
          refine vm_l (fun h9 => pv_bipush (100 : Int32) hc dJ9_getChars_34 rfl h9) ?_
          refine vm_l (fun h9 => pv_imul hc dJ9_getChars_36 h9) ?_
          refine vm_l (fun h9 => pv_iload_n 1 hc dJ9_getChars_37 rfl rfl h9) ?_
          refine vm_l (fun h9 => pv_isub hc dJ9_getChars_38 h9) ?_
          refine vm_l (fun h9 => pv_istore (L' := [(4, .int (((v3 / (100 : Int32)) * (100 : Int32)) - v3)), (3, .int (v3 / (100 : Int32))), (0, .int v3), (2, .ref x2), (5, .int v4), (6, .int v1)]) hc dJ9_getChars_39 hN (by decide) rfl h9) ?_
          refine vm_l (fun h9 => pv_iload_n 1 hc dJ9_getChars_41 rfl rfl h9) ?_
          refine vm_l (fun h9 => pv_istore_n (L' := [(0, .int (v3 / (100 : Int32))), (4, .int (((v3 / (100 : Int32)) * (100 : Int32)) - v3)), (3, .int (v3 / (100 : Int32))), (2, .ref x2), (5, .int v4), (6, .int v1)]) hc dJ9_getChars_42 rfl hN (by decide) rfl h9) ?_
          refine vm_l (fun h9 => pv_aload_n 3 hc dJ9_getChars_43 rfl rfl h9) ?_
          refine vm_l (fun h9 => pv_iinc (L' := [(5, .int (v4 + (-1 : Int32))), (0, .int (v3 / (100 : Int32))), (4, .int (((v3 / (100 : Int32)) * (100 : Int32)) - v3)), (3, .int (v3 / (100 : Int32))), (2, .ref x2), (6, .int v1)]) 4 (v4 + (-1 : Int32)) hc dJ9_getChars_44 rfl rfl hN (by decide) rfl h9) ?_
          refine vm_l (fun h9 => pv_iload 0 hc dJ9_getChars_47 rfl h9) ?_
          refine vm_l (fun h9 => pv_getZ hc (okY hX1 _ hc.2.2.2.2.2.1.2.2.1).2.2.1.1 q1105 (fun _ h => h) dJ9_getChars_49 h9) ?_
          refine vm_l (fun h9 => pv_iload 2 hc dJ9_getChars_52 rfl h9) ?_
          obtain ⟨i24, hi24, h⟩ := IX_el h
          refine vm_l (fun h9 => pv_baldT (f := fun j => Int32.ofNat (48 + j % 10)) hc (fun H hW9 => ((okY hX1 _ hc.2.2.2.2.2.1.2.2.1).2.2.1.2.kept (fun a _ ha => hW9.2.2.1 a (Nat.not_le.mp ha)))) hi24 dJ9_getChars_54 h9) ?_
          obtain ⟨s25, gs25, h⟩ := RD_el h
          obtain ⟨i26, hi26, h⟩ := IX_el h
          obtain ⟨s27, hs27, h⟩ := LT_el h
          obtain ⟨w28, hw28, h⟩ := LT_el h
          refine vm_e hw28 rfl (fun h9 => pv_bast hc gs25 (wo_62 hW) 3 (xt3 hX1) hi26 (r' := s27) (by subst hs27; rw [we62 hW, we62 hW]; rfl) dJ9_getChars_55 h9) ?_
          refine vm_l (fun h9 => pv_aload_n 4 hc dJ9_getChars_56 rfl rfl h9) ?_
          refine vm_l (fun h9 => pv_iinc (L' := [(5, .int ((v4 + (-1 : Int32)) + (-1 : Int32))), (0, .int (v3 / (100 : Int32))), (4, .int (((v3 / (100 : Int32)) * (100 : Int32)) - v3)), (3, .int (v3 / (100 : Int32))), (2, .ref x2), (6, .int v1)]) 0 ((v4 + (-1 : Int32)) + (-1 : Int32)) hc dJ9_getChars_57 rfl rfl hN (by decide) rfl h9) ?_
          refine vm_l (fun h9 => pv_iload 0 hc dJ9_getChars_60 rfl h9) ?_
          refine vm_l (fun h9 => pv_getZ hc (okY hX1 _ hc.2.2.2.2.2.1.2.2.1).2.2.2.1 q1107 (fun _ h => h) dJ9_getChars_62 h9) ?_
          refine vm_l (fun h9 => pv_iload 2 hc dJ9_getChars_65 rfl h9) ?_
          obtain ⟨i29, hi29, h⟩ := IX_el h
          refine vm_l (fun h9 => pv_baldT (f := fun j => Int32.ofNat (48 + j / 10)) hc (fun H hW9 => ((okY hX1 _ hc.2.2.2.2.2.1.2.2.1).2.2.2.2.kept (fun a _ ha => hW9.2.2.1 a (Nat.not_le.mp ha)))) hi29 dJ9_getChars_67 h9) ?_
          obtain ⟨i30, hi30, h⟩ := IX_el h
          obtain ⟨s31, hs31, h⟩ := LT_el h
          obtain ⟨w32, hw32, h⟩ := LT_el h
          refine vm_e hw32 rfl (fun h9 => pv_bast hc (wp_at' hw28) (wo_62 hW) 3 (xt3 hX1) hi30 (r' := s31) (by subst hs31; rw [we62 hW, we62 hW]; rfl) dJ9_getChars_68 h9) ?_
          refine vm_l (fun h9 => pv_goto (tgt := 22) hc dJ9_getChars_69 (by decide) h9) ?_
          refine vm_sub [1, 4, 0, 5] rfl ?_
          exact hrec6 _ _ _ h
      · refine vm_l (fun h9 => pv_iload_n 1 hc dJ9_getChars_19 rfl rfl h9) ?_
        refine vm_l (fun h9 => pv_ineg hc dJ9_getChars_20 h9) ?_
        refine vm_l (fun h9 => pv_istore_n (L' := [(0, .int (-x0)), (6, .int v1), (2, .ref x2), (5, .int x1)]) hc dJ9_getChars_21 rfl hN (by decide) rfl h9) ?_
        refine vm_sub [0, 2, 3, 1] rfl ?_
        refine LP3_el (P := fun v33 v34 s35 => VM X G G' s35 [(0, .int v33), (2, .ref x2), (5, .int v34), (6, .int v1)] [] 22) ?_ FU _ _ _ h
        intro rec36 hrec36 v33 v34 s35 h
        refine vm_l (fun h9 => pv_iload_n 0 hc dJ9_getChars_22 rfl rfl h9) ?_
        refine vm_l (fun h9 => pv_bipush (-100 : Int32) hc dJ9_getChars_23 rfl h9) ?_
        refine vm_if h (fun h k1 k2 => pv_icmp_gt (tgt := 72) hc dJ9_getChars_25 (by decide) h k1 k2) (fun h => ?_) (fun h => ?_)
        · refine vm_l (fun h9 => pv_aload_n 1 hc dJ9_getChars_72 rfl rfl h9) ?_
          refine vm_l (fun h9 => pv_iinc (L' := [(5, .int (v34 + (-1 : Int32))), (0, .int v33), (2, .ref x2), (6, .int v1)]) 2 (v34 + (-1 : Int32)) hc dJ9_getChars_73 rfl rfl hN (by decide) rfl h9) ?_
          refine vm_l (fun h9 => pv_iload 0 hc dJ9_getChars_76 rfl h9) ?_
          refine vm_l (fun h9 => pv_getZ hc (okY hX1 _ hc.2.2.2.2.2.1.2.2.1).2.2.1.1 q1105 (fun _ h => h) dJ9_getChars_78 h9) ?_
          refine vm_l (fun h9 => pv_iload_n 1 hc dJ9_getChars_81 rfl rfl h9) ?_
          refine vm_l (fun h9 => pv_ineg hc dJ9_getChars_82 h9) ?_
          obtain ⟨i37, hi37, h⟩ := IX_el h
          refine vm_l (fun h9 => pv_baldT (f := fun j => Int32.ofNat (48 + j % 10)) hc (fun H hW9 => ((okY hX1 _ hc.2.2.2.2.2.1.2.2.1).2.2.1.2.kept (fun a _ ha => hW9.2.2.1 a (Nat.not_le.mp ha)))) hi37 dJ9_getChars_83 h9) ?_
          obtain ⟨s38, gs38, h⟩ := RD_el h
          obtain ⟨i39, hi39, h⟩ := IX_el h
          obtain ⟨s40, hs40, h⟩ := LT_el h
          obtain ⟨w41, hw41, h⟩ := LT_el h
          refine vm_e hw41 rfl (fun h9 => pv_bast hc gs38 (wo_62 hW) 3 (xt3 hX1) hi39 (r' := s40) (by subst hs40; rw [we62 hW, we62 hW]; rfl) dJ9_getChars_84 h9) ?_
          refine vm_l (fun h9 => pv_iload_n 1 hc dJ9_getChars_85 rfl rfl h9) ?_
          refine vm_l (fun h9 => pv_bipush (-9 : Int32) hc dJ9_getChars_86 rfl h9) ?_
          obtain ⟨j44, hj44, h⟩ := JN2_el (P := fun v42 s43 => VM X G G' s43 [(2, .ref x2), (5, .int v42), (6, .int v1)] [] 104) h (by
              intro v42 s43 h
              refine vm_l (fun h9 => pv_iload 2 hc dJ9_getChars_104 rfl h9) ?_
              refine vm_if h (fun h k1 k2 => pv_if_eq (tgt := 118) hc dJ9_getChars_106 (by decide) h k1 k2) (fun h => ?_) (fun h => ?_)
              · refine vm_l (fun h9 => pv_iload 1 hc dJ9_getChars_118 rfl h9) ?_
                obtain ⟨rfl, rfl⟩ := Prod.mk.inj (Option.some.inj h)
                exact fun _ => ⟨Nat.le_refl _, pv_iret hc hr hQ rfl rfl dJ9_getChars_120⟩
              · refine vm_l (fun h9 => pv_aload_n 0 hc dJ9_getChars_109 rfl rfl h9) ?_
                refine vm_l (fun h9 => pv_iinc (L' := [(5, .int (v42 + (-1 : Int32))), (2, .ref x2), (6, .int v1)]) 1 (v42 + (-1 : Int32)) hc dJ9_getChars_110 rfl rfl hN (by decide) rfl h9) ?_
                refine vm_l (fun h9 => pv_iload 0 hc dJ9_getChars_113 rfl h9) ?_
                refine vm_l (fun h9 => pv_bipush (45 : Int32) hc dJ9_getChars_115 rfl h9) ?_
                obtain ⟨s45, gs45, h⟩ := RD_el h
                obtain ⟨i46, hi46, h⟩ := IX_el h
                obtain ⟨s47, hs47, h⟩ := LT_el h
                obtain ⟨w48, hw48, h⟩ := LT_el h
                refine vm_e hw48 rfl (fun h9 => pv_bast hc gs45 (wo_62 hW) 3 (xt3 hX1) hi46 (r' := s47) (by subst hs47; rw [we62 hW, we62 hW]; rfl) dJ9_getChars_117 h9) ?_
                refine vm_l (fun h9 => pv_iload 0 hc dJ9_getChars_118 rfl h9) ?_
                obtain ⟨rfl, rfl⟩ := Prod.mk.inj (Option.some.inj h)
                exact fun _ => ⟨Nat.le_refl _, pv_iret hc hr hQ rfl rfl dJ9_getChars_120⟩)
          refine vm_if h (fun h k1 k2 => pv_icmp_ge (tgt := 104) hc dJ9_getChars_88 (by decide) h k1 k2) (fun h => ?_) (fun h => ?_)
          · refine vm_sub [2, 0, 3] rfl ?_
            exact hj44 _ _ h
          · refine vm_l (fun h9 => pv_aload_n 2 hc dJ9_getChars_91 rfl rfl h9) ?_
            refine vm_l (fun h9 => pv_iinc (L' := [(5, .int ((v34 + (-1 : Int32)) + (-1 : Int32))), (0, .int v33), (2, .ref x2), (6, .int v1)]) 0 ((v34 + (-1 : Int32)) + (-1 : Int32)) hc dJ9_getChars_92 rfl rfl hN (by decide) rfl h9) ?_
            refine vm_l (fun h9 => pv_iload 0 hc dJ9_getChars_95 rfl h9) ?_
            refine vm_l (fun h9 => pv_getZ hc (okY hX1 _ hc.2.2.2.2.2.1.2.2.1).2.2.2.1 q1107 (fun _ h => h) dJ9_getChars_97 h9) ?_
            refine vm_l (fun h9 => pv_iload_n 1 hc dJ9_getChars_100 rfl rfl h9) ?_
            refine vm_l (fun h9 => pv_ineg hc dJ9_getChars_101 h9) ?_
            obtain ⟨i49, hi49, h⟩ := IX_el h
            refine vm_l (fun h9 => pv_baldT (f := fun j => Int32.ofNat (48 + j / 10)) hc (fun H hW9 => ((okY hX1 _ hc.2.2.2.2.2.1.2.2.1).2.2.2.2.kept (fun a _ ha => hW9.2.2.1 a (Nat.not_le.mp ha)))) hi49 dJ9_getChars_102 h9) ?_
            obtain ⟨i50, hi50, h⟩ := IX_el h
            obtain ⟨s51, hs51, h⟩ := LT_el h
            obtain ⟨w52, hw52, h⟩ := LT_el h
            refine vm_e hw52 rfl (fun h9 => pv_bast hc (wp_at' hw41) (wo_62 hW) 3 (xt3 hX1) hi50 (r' := s51) (by subst hs51; rw [we62 hW, we62 hW]; rfl) dJ9_getChars_103 h9) ?_
            refine vm_sub [2, 0, 3] rfl ?_
            exact hj44 _ _ h
        · refine vm_l (fun h9 => pv_iload_n 0 hc dJ9_getChars_28 rfl rfl h9) ?_
          refine vm_l (fun h9 => pv_bipush (100 : Int32) hc dJ9_getChars_29 rfl h9) ?_
          obtain ⟨hz53, h⟩ := NZ_el h
          refine vm_l (fun h9 => pv_idiv hc dJ9_getChars_31 hz53 h9) ?_
          refine vm_l (fun h9 => pv_istore_n (L' := [(3, .int (v33 / (100 : Int32))), (0, .int v33), (2, .ref x2), (5, .int v34), (6, .int v1)]) hc dJ9_getChars_32 rfl hN (by decide) rfl h9) ?_
          refine vm_l (fun h9 => pv_iload_n 0 hc dJ9_getChars_33 rfl rfl h9) ?_
          refine vm_l (fun h9 => pv_bipush (100 : Int32) hc dJ9_getChars_34 rfl h9) ?_
          refine vm_l (fun h9 => pv_imul hc dJ9_getChars_36 h9) ?_
          refine vm_l (fun h9 => pv_iload_n 1 hc dJ9_getChars_37 rfl rfl h9) ?_
          refine vm_l (fun h9 => pv_isub hc dJ9_getChars_38 h9) ?_
          refine vm_l (fun h9 => pv_istore (L' := [(4, .int (((v33 / (100 : Int32)) * (100 : Int32)) - v33)), (3, .int (v33 / (100 : Int32))), (0, .int v33), (2, .ref x2), (5, .int v34), (6, .int v1)]) hc dJ9_getChars_39 hN (by decide) rfl h9) ?_
          refine vm_l (fun h9 => pv_iload_n 1 hc dJ9_getChars_41 rfl rfl h9) ?_
          refine vm_l (fun h9 => pv_istore_n (L' := [(0, .int (v33 / (100 : Int32))), (4, .int (((v33 / (100 : Int32)) * (100 : Int32)) - v33)), (3, .int (v33 / (100 : Int32))), (2, .ref x2), (5, .int v34), (6, .int v1)]) hc dJ9_getChars_42 rfl hN (by decide) rfl h9) ?_
          refine vm_l (fun h9 => pv_aload_n 3 hc dJ9_getChars_43 rfl rfl h9) ?_
          refine vm_l (fun h9 => pv_iinc (L' := [(5, .int (v34 + (-1 : Int32))), (0, .int (v33 / (100 : Int32))), (4, .int (((v33 / (100 : Int32)) * (100 : Int32)) - v33)), (3, .int (v33 / (100 : Int32))), (2, .ref x2), (6, .int v1)]) 4 (v34 + (-1 : Int32)) hc dJ9_getChars_44 rfl rfl hN (by decide) rfl h9) ?_
          refine vm_l (fun h9 => pv_iload 0 hc dJ9_getChars_47 rfl h9) ?_
          refine vm_l (fun h9 => pv_getZ hc (okY hX1 _ hc.2.2.2.2.2.1.2.2.1).2.2.1.1 q1105 (fun _ h => h) dJ9_getChars_49 h9) ?_
          refine vm_l (fun h9 => pv_iload 2 hc dJ9_getChars_52 rfl h9) ?_
          obtain ⟨i54, hi54, h⟩ := IX_el h
          refine vm_l (fun h9 => pv_baldT (f := fun j => Int32.ofNat (48 + j % 10)) hc (fun H hW9 => ((okY hX1 _ hc.2.2.2.2.2.1.2.2.1).2.2.1.2.kept (fun a _ ha => hW9.2.2.1 a (Nat.not_le.mp ha)))) hi54 dJ9_getChars_54 h9) ?_
          obtain ⟨s55, gs55, h⟩ := RD_el h
          obtain ⟨i56, hi56, h⟩ := IX_el h
          obtain ⟨s57, hs57, h⟩ := LT_el h
          obtain ⟨w58, hw58, h⟩ := LT_el h
          refine vm_e hw58 rfl (fun h9 => pv_bast hc gs55 (wo_62 hW) 3 (xt3 hX1) hi56 (r' := s57) (by subst hs57; rw [we62 hW, we62 hW]; rfl) dJ9_getChars_55 h9) ?_
          refine vm_l (fun h9 => pv_aload_n 4 hc dJ9_getChars_56 rfl rfl h9) ?_
          refine vm_l (fun h9 => pv_iinc (L' := [(5, .int ((v34 + (-1 : Int32)) + (-1 : Int32))), (0, .int (v33 / (100 : Int32))), (4, .int (((v33 / (100 : Int32)) * (100 : Int32)) - v33)), (3, .int (v33 / (100 : Int32))), (2, .ref x2), (6, .int v1)]) 0 ((v34 + (-1 : Int32)) + (-1 : Int32)) hc dJ9_getChars_57 rfl rfl hN (by decide) rfl h9) ?_
          refine vm_l (fun h9 => pv_iload 0 hc dJ9_getChars_60 rfl h9) ?_
          refine vm_l (fun h9 => pv_getZ hc (okY hX1 _ hc.2.2.2.2.2.1.2.2.1).2.2.2.1 q1107 (fun _ h => h) dJ9_getChars_62 h9) ?_
          refine vm_l (fun h9 => pv_iload 2 hc dJ9_getChars_65 rfl h9) ?_
          obtain ⟨i59, hi59, h⟩ := IX_el h
          refine vm_l (fun h9 => pv_baldT (f := fun j => Int32.ofNat (48 + j / 10)) hc (fun H hW9 => ((okY hX1 _ hc.2.2.2.2.2.1.2.2.1).2.2.2.2.kept (fun a _ ha => hW9.2.2.1 a (Nat.not_le.mp ha)))) hi59 dJ9_getChars_67 h9) ?_
          obtain ⟨i60, hi60, h⟩ := IX_el h
          obtain ⟨s61, hs61, h⟩ := LT_el h
          obtain ⟨w62, hw62, h⟩ := LT_el h
          refine vm_e hw62 rfl (fun h9 => pv_bast hc (wp_at' hw58) (wo_62 hW) 3 (xt3 hX1) hi60 (r' := s61) (by subst hs61; rw [we62 hW, we62 hW]; rfl) dJ9_getChars_68 h9) ?_
          refine vm_l (fun h9 => pv_goto (tgt := 22) hc dJ9_getChars_69 (by decide) h9) ?_
          refine vm_sub [1, 4, 0, 5] rfl ?_
          exact hrec36 _ _ _ h)
  refine vm_if h (fun h k1 k2 => pv_if_ge (tgt := 11) hc dJ9_getChars_4 (by decide) h k1 k2) (fun h => ?_) (fun h => ?_)
  · refine vm_l (fun h9 => pv_iconst (0 : Int32) hc dJ9_getChars_11 rfl h9) ?_
    refine vm_sub [1, 3, 0] rfl ?_
    exact hj2 _ h
  · refine vm_l (fun h9 => pv_iconst (1 : Int32) hc dJ9_getChars_7 rfl h9) ?_
    refine vm_l (fun h9 => pv_goto (tgt := 12) hc dJ9_getChars_8 (by decide) h9) ?_
    refine vm_sub [1, 3, 0] rfl ?_
    exact hj2 _ h
def j3_init (G : Wd) (q : Nat) (x1 : Nat) (x2 : Int32) : Option Wd := RD G q 18 (fun s1 => LT (sP s1 0 (some x1)) (fun s2 => LT (wp G q 18 s2) (fun w3 => Z0 x2 (LT (sI s2 1 x2) (fun s5 => LT (wp w3 q 18 s5) (fun w6 => some w6))))))
set_option maxHeartbeats 4000000 in
theorem j3_init_ok {l : Launch} {g : Gh} (hW : OKW g) (hX1 : OKX1 g) (hX3 : OKX3 g) (hX4 : OKX4 g) {G : Wd} {q : Nat} {x1 : Nat} {x2 : Int32} {G' : Wd} (hf : j3_init G q x1 x2 = some G') : MTa l g yJ3_init cJ3_init 3 none 2 (G'.1 - G.1) (1200 * (G'.1 - G.1)) G [.ref q, .ref x1, .int x2] none G' := by
  refine vm_start (by decide) (Nat.le_of_ble_eq_true rfl) ?_
  intro X hl hg hN hc hr hni hR hQ
  subst hl; subst hg
  have h := hf
  unfold j3_init at h
  show VM X G G' G [(0, .ref q), (1, .ref x1), (2, .int x2)] [] 0
  refine vm_l (fun h9 => pv_aload_n 0 hc dJ3_init_0 rfl rfl h9) ?_
  refine vm_l (fun h9 => pv_objInit hc q1114 q148 q149 (by decide) (Nat.le_of_ble_eq_true rfl) dJ3_init_1 h9) ?_
  refine vm_l (fun h9 => pv_aload_n 0 hc dJ3_init_4 rfl rfl h9) ?_
  refine vm_l (fun h9 => pv_aload_n 1 hc dJ3_init_5 rfl rfl h9) ?_
  obtain ⟨s1, gs1, h⟩ := RD_el h
  obtain ⟨s2, hs2, h⟩ := LT_el h
  obtain ⟨w3, hw3, h⟩ := LT_el h
  refine vm_e hw3 rfl (fun h9 => pw_J3_9 (x := (some x1)) hc hW gs1 hni hs2 rfl dJ3_init_6 h9) ?_
  refine vm_l (fun h9 => pv_aload_n 0 hc dJ3_init_9 rfl rfl h9) ?_
  refine vm_l (fun h9 => pv_iload_n 2 hc dJ3_init_10 rfl rfl h9) ?_
  obtain ⟨hz4, h⟩ := Z0_el h
  obtain ⟨s5, hs5, h⟩ := LT_el h
  obtain ⟨w6, hw6, h⟩ := LT_el h
  refine vm_e hw6 rfl (fun h9 => pw_J3_15 hc hW (wp_at' hw3) hni hz4 hs5 rfl dJ3_init_11 h9) ?_
  cases h
  exact fun _ => ⟨Nat.le_refl _, pv_vret hc hr hQ rfl rfl dJ3_init_14⟩
def j9_toString (G : Wd) (x0 : Int32) : Option (Nat × Wd) := BD (j9_stringSize x0) (fun v2 => NN v2 (fun i3 => L80 i3 (LT (wn G 62 (sP r0 0 (some i3))) (fun w4 => LT G.1 (fun b5 => BD2 (j9_getChars w4 x0 v2 b5) (fun v11 w9 => MG w4 w9 (LT (wn w9 18 r0) (fun w12 => LT w9.1 (fun b13 => BD (j3_init w12 b13 b5 (0 : Int32)) (fun w16 => MG w12 w16 (some (b13, w16))))))))))))
set_option maxHeartbeats 4000000 in
theorem j9_toString_ok {l : Launch} {g : Gh} (hW : OKW g) (hX1 : OKX1 g) (hX3 : OKX3 g) (hX4 : OKX4 g) {G : Wd} {x0 : Int32} {r : Nat} {G' : Wd} (hf : j9_toString G x0 = some (r, G')) : MTa l g yJ9_toString cJ9_toString 3 (some (.object "java/lang/String")) 3 (G'.1 - G.1) (1200 * (G'.1 - G.1)) G [.int x0] (some (.ref r)) G' := by
  refine vm_start (by decide) (Nat.le_of_ble_eq_true rfl) ?_
  intro X hl hg hN hc hr hni hR hQ
  subst hl; subst hg
  have h := hf
  unfold j9_toString at h
  show VM X G G' G [(0, .int x0)] [] 0
  refine vm_l (fun h9 => pv_iload_n 0 hc dJ9_toString_0 rfl rfl h9) ?_
  obtain ⟨v2, hf1, h⟩ := BD_el h
  refine vm_l (fun h9 hk9 hn9 => pv_callS (nA := 1) hc (j9_stringSize_ok   hf1) (lw_S q1098 q1099 q129 q1100) (by decide +kernel) ⟨(by decide), by decide⟩ rfl rfl (Nat.le_of_ble_eq_true rfl) dJ9_toString_1 ⟨hk9, hn9⟩ h9 hk9 hn9) ?_
  refine vm_l (fun h9 => pv_istore_n (L' := [(1, .int v2), (0, .int x0)]) hc dJ9_toString_4 rfl hN (by decide) rfl h9) ?_
  refine vm_l (fun h9 => pv_getZ hc (okY hX1 _ hc.2.2.2.2.2.1.2.2.1).1 q1101 (fun _ h => h) dJ9_toString_5 h9) ?_
  refine vm_l (fun h9 => pv_if_eq (tgt := 32) (A := none) (B := some ()) (r := ()) hc dJ9_toString_8 (by decide) (by decide) (fun h => by cases h) (fun _ => h9)) ?_
  refine vm_l (fun h9 => pv_iload_n 0 hc dJ9_toString_11 rfl rfl h9) ?_
  obtain ⟨i3, hi3, h⟩ := NN_el h
  obtain ⟨hn6, h⟩ := L80_el h
  obtain ⟨w4, hw4, h⟩ := LT_el h
  obtain ⟨b5, hb5, h⟩ := LT_el h
  refine vm_new (N := i3) (w1 := w4) hR (by omega) (by rw [hw4]; rfl) (fun hcap h9 => pv_newa2 hw4 hb5 (atype := .byte) (ty := .byte) (a0 := (i3, .inl (fun _ => (0 : Int32)))) (cA := kap (xg X) 3) (N := i3) hc q218 rfl (fun _ => rfl) (xt3 hX1) rfl (we62 hW _ _) hi3.1 hi3.2 (by show i3 * 1 ≤ _; omega) hcap dJ9_toString_12 h9) ?_
  refine vm_l (fun h9 => pv_astore_n (L' := [(2, .ref b5), (1, .int v2), (0, .int x0)]) hc dJ9_toString_14 rfl hN (by decide) rfl h9) ?_
  refine vm_l (fun h9 => pv_iload_n 2 hc dJ9_toString_15 rfl rfl h9) ?_
  refine vm_l (fun h9 => pv_iload_n 1 hc dJ9_toString_16 rfl rfl h9) ?_
  refine vm_l (fun h9 => pv_aload_n 0 hc dJ9_toString_17 rfl rfl h9) ?_
  obtain ⟨v11, w9, hf8, h⟩ := BD2_el h
  obtain ⟨hm10, h⟩ := MG_el h
  refine vm_call hR hm10 rfl rfl (fun hcap h9 => pv_callS (nA := 3) hc (j9_getChars_ok hW hX1 hX3 hX4 hf8) (lw_S q1102 q1103 q129 q1104) (by decide +kernel) ⟨(by decide), by decide⟩ rfl rfl (Nat.le_of_ble_eq_true rfl) dJ9_toString_18 hcap h9) ?_
  refine vm_l (fun h9 => pv_pop hc dJ9_toString_21 rfl h9) ?_
  obtain ⟨w12, hw12, h⟩ := LT_el h
  obtain ⟨b13, hb13, h⟩ := LT_el h
  refine vm_new (N := 4) (w1 := w12) hR (by decide) (by rw [hw12]; rfl) (fun hcap h9 => pv_new2 (r := r0) (kd := 18) hw12 hb13 hc (wc18 hW) in_J3 tyJ3 tyJ3_ok q1109 q1110 q122 (we18 hW _ _) (fun j hj => by match j, hj with | 0, _ => rfl | 1, _ => rfl | 2, _ => rfl | 3, _ => rfl) hcap dJ9_toString_22 h9) ?_
  refine vm_l (fun h9 => pv_dup hc dJ9_toString_25 rfl h9) ?_
  refine vm_l (fun h9 => pv_aload_n 0 hc dJ9_toString_26 rfl rfl h9) ?_
  refine vm_l (fun h9 => pv_iconst (0 : Int32) hc dJ9_toString_27 rfl h9) ?_
  obtain ⟨w16, hf15, h⟩ := BD_el h
  obtain ⟨hm17, h⟩ := MG_el h
  refine vm_call hR hm17 rfl rfl (fun hcap h9 => pv_callI (nA := 2) hc (j3_init_ok hW hX1 hX3 hX4 hf15) q1111 q1112 q122 q1113 rfl (by decide +kernel) ⟨(by decide), by decide⟩ rfl rfl (Nat.le_of_ble_eq_true rfl) dJ9_toString_28 hcap h9) ?_
  obtain ⟨rfl, rfl⟩ := Prod.mk.inj (Option.some.inj h)
  exact fun _ => ⟨Nat.le_refl _, pv_aret hc hr hQ rfl rfl dJ9_toString_31⟩
def x1_put_3D (G : Wd) (a : Nat) (x1 : Nat) : Option Wd := LP2 (fun (rec3 : Int32 → Wd → Option Wd) (v1 : Int32) (s2 : Wd) => RD s2 x1 18 (fun s4 => BD (gP s4 0) (fun b5 => Z0 (gI s4 1) (RD s2 b5 62 (fun s7 => (if (nI ((gP s7 0).getD 0)) ≤ v1 then some s2 else BD (gP s4 0) (fun b8 => Z0 (gI s4 1) (RD s2 b8 62 (fun s10 => L80 ((gP s10 0).getD 0) (IX v1 ((gP s10 0).getD 0) (fun i12 => RD s2 a 0 (fun s15 => BD (x1_put_2 s15 (chr (gA s10 0 i12))) (fun s16 => LT (wp s2 a 0 s16) (fun w17 => rec3 (v1 + (1 : Int32)) w17)))))))))))))) FU (0 : Int32) G
set_option maxHeartbeats 4000000 in
theorem x1_put_3D_ok {l : Launch} {g : Gh} (hW : OKW g) (hX1 : OKX1 g) (hX3 : OKX3 g) (hX4 : OKX4 g) {G : Wd} {a : Nat} {x1 : Nat} {G' : Wd} (hf : x1_put_3D G a x1 = some G') : MTa l g yX1_put_3 cX1_put_3 3 none 5 (G'.1 - G.1) (1200 * (G'.1 - G.1)) G [.ref a, .ref x1] none G' := by
  refine vm_start (by decide) (Nat.le_of_ble_eq_true rfl) ?_
  intro X hl hg hN hc hr hni hR hQ
  subst hl; subst hg
  have h := hf
  unfold x1_put_3D at h
  show VM X G G' G [(0, .ref a), (1, .ref x1)] [] 0
  refine vm_l (fun h9 => pv_iconst (0 : Int32) hc dX1_put_3_0 rfl h9) ?_
  refine vm_l (fun h9 => pv_istore_n (L' := [(2, .int (0 : Int32)), (0, .ref a), (1, .ref x1)]) hc dX1_put_3_1 rfl hN (by decide) rfl h9) ?_
  refine vm_sub [1, 2, 0] rfl ?_
  refine LP2_el (P := fun v1 s2 => VM X G G' s2 [(0, .ref a), (1, .ref x1), (2, .int v1)] [] 2) ?_ FU _ _ h
  intro rec3 hrec3 v1 s2 h
  refine vm_l (fun h9 => pv_iload_n 2 hc dX1_put_3_2 rfl rfl h9) ?_
  refine vm_l (fun h9 => pv_aload_n 1 hc dX1_put_3_3 rfl rfl h9) ?_
  obtain ⟨s4, gs4, h⟩ := RD_el h
  obtain ⟨b5, hb5, h⟩ := BD_el h
  obtain ⟨hz6, h⟩ := Z0_el h
  obtain ⟨s7, gs7, h⟩ := RD_el h
  refine vm_l (fun h9 hk9 hn9 => pv_callO (nA := 0) hc (str_length (okY hX1) (sa_new hW hX1 gs4 hb5 hz6 gs7)) (fun H hW9 => ((sa_new hW hX1 gs4 hb5 hz6 gs7) H hW9 _ _ hc.2.2.2.2.2.1 hc.2.2.2.2.1).1) (lw_V q1092 q702 q703 q122 q704) (by decide +kernel) ⟨(by decide), by decide⟩ rfl rfl (Nat.le_of_ble_eq_true rfl) dX1_put_3_4 ⟨hk9, hn9⟩ h9 hk9 hn9) ?_
  refine vm_if h (fun h k1 k2 => pv_icmp_ge (tgt := 25) hc dX1_put_3_7 (by decide) h k1 k2) (fun h => ?_) (fun h => ?_)
  · cases h
    exact fun _ => ⟨Nat.le_refl _, pv_vret hc hr hQ rfl rfl dX1_put_3_25⟩
  · refine vm_l (fun h9 => pv_aload_n 0 hc dX1_put_3_10 rfl rfl h9) ?_
    refine vm_l (fun h9 => pv_aload_n 1 hc dX1_put_3_11 rfl rfl h9) ?_
    refine vm_l (fun h9 => pv_iload_n 2 hc dX1_put_3_12 rfl rfl h9) ?_
    obtain ⟨b8, hb8, h⟩ := BD_el h
    obtain ⟨hz9, h⟩ := Z0_el h
    obtain ⟨s10, gs10, h⟩ := RD_el h
    obtain ⟨hn11, h⟩ := L80_el h
    obtain ⟨i12, hi12, h⟩ := IX_el h
    refine vm_l (fun h9 hk9 hn9 => pv_callO (nA := 1) hc (str_charAt (by omega) (okY hX1) (sa_new hW hX1 gs4 hb8 hz9 gs10) hi12) (fun H hW9 => ((sa_new hW hX1 gs4 hb8 hz9 gs10) H hW9 _ _ hc.2.2.2.2.2.1 hc.2.2.2.2.1).1) (lw_V q1093 q712 q713 q122 q714) (by decide +kernel) ⟨(by decide), by decide⟩ rfl rfl (Nat.le_of_ble_eq_true rfl) dX1_put_3_13 ⟨hk9, hn9⟩ h9 hk9 hn9) ?_
    obtain ⟨s15, gs15, h⟩ := RD_el h
    obtain ⟨s16, hf14, h⟩ := BD_el h
    obtain ⟨w17, hw17, h⟩ := LT_el h
    refine vm_e hw17 rfl (fun h9 => ca_X1_391 hc hX1 gs15 (x1_put_2_ok hX1 gs15 hf14) (by decide) (Nat.le_of_ble_eq_true rfl) dX1_put_3_16 h9) ?_
    refine vm_l (fun h9 => pv_iinc (L' := [(2, .int (v1 + (1 : Int32))), (0, .ref a), (1, .ref x1)]) 2 (v1 + (1 : Int32)) hc dX1_put_3_19 rfl rfl hN (by decide) rfl h9) ?_
    refine vm_l (fun h9 => pv_goto (tgt := 2) hc dX1_put_3_22 (by decide) h9) ?_
    refine vm_sub [1, 2, 0] rfl ?_
    exact hrec3 _ _ h
def x1_card (G : Wd) (a : Nat) (x1 : Int32) : Option (Int32 × Wd) := RD G a 0 (fun s3 => BD (gP s3 6) (fun b4 => RD G b4 2 (fun s5 => BD (x1_isPlant s3 b4 s5 x1) (fun v6 => (if v6 = 0 then some ((-1 : Int32), G) else LT (sI s3 27 (0 : Int32)) (fun s7 => LT (wp G a 0 s7) (fun w8 => BD (gP s7 6) (fun b9 => RD w8 b9 2 (fun s10 => IX x1 6 (fun i11 => BD (x1_put s7 (gL s10 1 i11)) (fun s14 => LT (wp w8 a 0 s14) (fun w15 => BD (gP s14 6) (fun b16 => RD w15 b16 2 (fun s17 => BD (x1_has (gI s17 11) x1) (fun v19 => (if v19 = 0 then BD (x1_put_3 s14 23) (fun s22 => LT (wp w15 a 0 s22) (fun w23 => RD w23 (a + 13) 3 (fun s25 => BD (x4_leaves s25 x1 (1 : Int32)) (fun v26 => BD2 (j9_toString w23 v26) (fun v31 w29 => MG w23 w29 (RD w29 a 0 (fun s35 => BD (x1_put_3D w29 a v31) (fun w34 => MG w29 w34 (RD w34 a 0 (fun s37 => BD (gP s37 6) (fun b38 => RD w34 (a + 13) 3 (fun s40 => RD w34 b38 2 (fun s41 => BD (x4_sees s40 s41 x1) (fun v42 => (if v42 = 0 then BD (x1_put_3 s37 24) (fun s45 => LT (wp w34 a 0 s45) (fun w46 => some ((gI s45 27), w46))) else some ((gI s37 27), w34)))))))))))))))) else BD (x1_put_3 s14 22) (fun s49 => LT (wp w15 a 0 s49) (fun w50 => some ((gI s49 27), w50)))))))))))))))))))
set_option maxHeartbeats 4000000 in
theorem x1_card_ok {l : Launch} {g : Gh} (hW : OKW g) (hX1 : OKX1 g) (hX3 : OKX3 g) (hX4 : OKX4 g) {G : Wd} {a : Nat} {x1 : Int32} {r : Int32} {G' : Wd} (hf : x1_card G a x1 = some (r, G')) : MTa l g yX1_card cX1_card 2 (some .int) 6 (G'.1 - G.1) (1200 * (G'.1 - G.1)) G [.ref a, .int x1] (some (.int r)) G' := by
  refine vm_start (by decide) (Nat.le_of_ble_eq_true rfl) ?_
  intro X hl hg hN hc hr hni hR hQ
  subst hl; subst hg
  have h := hf
  unfold x1_card at h
  show VM X G G' G [(0, .ref a), (1, .int x1)] [] 0
  refine vm_l (fun h9 => pv_aload_n 0 hc dX1_card_0 rfl rfl h9) ?_
  refine vm_l (fun h9 => pv_iload_n 1 hc dX1_card_1 rfl rfl h9) ?_
  obtain ⟨s3, gs3, h⟩ := RD_el h
  obtain ⟨b4, hb4, h⟩ := BD_el h
  obtain ⟨s5, gs5, h⟩ := RD_el h
  obtain ⟨v6, hf2, h⟩ := BD_el h
  refine vm_l (fun h9 => ca_X1_201 hc hX1 gs3 (x1_isPlant_ok hX1 hX3 gs3 gs5 hf2) (by decide) (Nat.le_of_ble_eq_true rfl) dX1_card_2 h9) ?_
  refine vm_ifn h (fun h k1 k2 => pv_if_ne (tgt := 10) hc dX1_card_5 (by decide) h k1 k2) (fun h => ?_) (fun h => ?_)
  · refine vm_l (fun h9 => pv_aload_n 0 hc dX1_card_10 rfl rfl h9) ?_
    refine vm_l (fun h9 => pv_iconst (0 : Int32) hc dX1_card_11 rfl h9) ?_
    obtain ⟨s7, hs7, h⟩ := LT_el h
    obtain ⟨w8, hw8, h⟩ := LT_el h
    refine vm_e hw8 rfl (fun h9 => pf_X1_382 hc hX1 gs3 hs7 rfl dX1_card_12 h9) ?_
    refine vm_l (fun h9 => pv_aload_n 0 hc dX1_card_15 rfl rfl h9) ?_
    refine vm_l (fun h9 => pv_aload_n 0 hc dX1_card_16 rfl rfl h9) ?_
    obtain ⟨b9, hb9, h⟩ := BD_el h
    refine vm_l (fun h9 => gp_X1_76 hc hX1 (wp_at' hw8) hb9 dX1_card_17 h9) ?_
    obtain ⟨s10, gs10, h⟩ := RD_el h
    refine vm_l (fun h9 => gf_X1_396 hc hX3 gs10 dX1_card_20 h9) ?_
    refine vm_l (fun h9 => pv_iload_n 1 hc dX1_card_23 rfl rfl h9) ?_
    obtain ⟨i11, hi11, h⟩ := IX_el h
    refine vm_l (fun h9 => al_X3_1 hc hX3 gs10 hi11 dX1_card_24 h9) ?_
    obtain ⟨s14, hf13, h⟩ := BD_el h
    obtain ⟨w15, hw15, h⟩ := LT_el h
    refine vm_e hw15 rfl (fun h9 => ca_X1_400 hc hX1 (wp_at' hw8) (x1_put_ok hX1 (wp_at' hw8) hf13) (by decide) (Nat.le_of_ble_eq_true rfl) dX1_card_25 h9) ?_
    refine vm_l (fun h9 => pv_aload_n 0 hc dX1_card_28 rfl rfl h9) ?_
    obtain ⟨b16, hb16, h⟩ := BD_el h
    refine vm_l (fun h9 => gp_X1_76 hc hX1 (wp_at' hw15) hb16 dX1_card_29 h9) ?_
    obtain ⟨s17, gs17, h⟩ := RD_el h
    refine vm_l (fun h9 => gf_X1_214 hc hX3 gs17 dX1_card_32 h9) ?_
    refine vm_l (fun h9 => pv_iload_n 1 hc dX1_card_35 rfl rfl h9) ?_
    obtain ⟨v19, hf18, h⟩ := BD_el h
    refine vm_l (fun h9 hk9 hn9 => pv_callS (nA := 2) hc (x1_has_ok   hf18) (lw_S q1001 q763 q109 q764) (by decide +kernel) ⟨(by decide), by decide⟩ rfl rfl (Nat.le_of_ble_eq_true rfl) dX1_card_36 ⟨hk9, hn9⟩ h9 hk9 hn9) ?_
    refine vm_if h (fun h k1 k2 => pv_if_eq (tgt := 54) hc dX1_card_39 (by decide) h k1 k2) (fun h => ?_) (fun h => ?_)
    · refine vm_l (fun h9 => pv_aload_n 0 hc dX1_card_54 rfl rfl h9) ?_
      refine vm_l (fun h9 => pv_strw hc ((xstr hX1 _ hc.2.2.2.2.2.1.2.2.1).2.1.2.2.2.2.2.2.2.2.2.2.2.2.2.2.2.2.2.2.2.2.2.2.2.1) dX1_card_55 h9) ?_
      obtain ⟨s22, hf21, h⟩ := BD_el h
      obtain ⟨w23, hw23, h⟩ := LT_el h
      refine vm_e hw23 rfl (fun h9 => ca_X1_405 hc hX1 (wp_at' hw15) (x1_put_3_ok hX1 (wp_at' hw15) (by decide) hf21) (by decide) (Nat.le_of_ble_eq_true rfl) dX1_card_58 h9) ?_
      refine vm_l (fun h9 => pv_aload_n 0 hc dX1_card_61 rfl rfl h9) ?_
      refine vm_l (fun h9 => pv_aload_n 0 hc dX1_card_62 rfl rfl h9) ?_
      refine vm_l (fun h9 => gf_X1_83 hc hX1 (wp_at' hw23) dX1_card_63 h9) ?_
      refine vm_l (fun h9 => pv_iload_n 1 hc dX1_card_66 rfl rfl h9) ?_
      refine vm_l (fun h9 => pv_iconst (1 : Int32) hc dX1_card_67 rfl h9) ?_
      obtain ⟨s25, gs25, h⟩ := RD_el h
      obtain ⟨v26, hf24, h⟩ := BD_el h
      refine vm_l (fun h9 hk9 hn9 => pv_callV (nA := 2) hc (x4_leaves_ok hX4 gs25 hf24) gs25 (h_X4 hX4) hX4.1 (lw_V q881 q882 q883 q114 q884) (by decide +kernel) ⟨(by decide), by decide⟩ rfl rfl (Nat.le_of_ble_eq_true rfl) dX1_card_68 ⟨hk9, hn9⟩ h9 hk9 hn9) ?_
      obtain ⟨v31, w29, hf28, h⟩ := BD2_el h
      obtain ⟨hm30, h⟩ := MG_el h
      refine vm_call hR hm30 rfl rfl (fun hcap h9 => pv_callS (nA := 1) hc (j9_toString_ok hW hX1 hX3 hX4 hf28) (lw_S q1095 q1096 q129 q1097) (by decide +kernel) ⟨(by decide), by decide⟩ rfl rfl (Nat.le_of_ble_eq_true rfl) dX1_card_71 hcap h9) ?_
      obtain ⟨s35, gs35, h⟩ := RD_el h
      obtain ⟨w34, hf33, h⟩ := BD_el h
      obtain ⟨hm36, h⟩ := MG_el h
      refine vm_call hR hm36 rfl rfl (fun hcap h9 => pv_callV (nA := 1) hc (x1_put_3D_ok hW hX1 hX3 hX4 hf33) gs35 (o_X1 hX1) (xk0 hX1) (lw_V q1088 q1090 qs20 q109 q1091) (by decide +kernel) ⟨(by decide), by decide⟩ rfl rfl (Nat.le_of_ble_eq_true rfl) dX1_card_74 hcap h9) ?_
      refine vm_l (fun h9 => pv_aload_n 0 hc dX1_card_77 rfl rfl h9) ?_
      obtain ⟨s37, gs37, h⟩ := RD_el h
      refine vm_l (fun h9 => gf_X1_83 hc hX1 gs37 dX1_card_78 h9) ?_
      refine vm_l (fun h9 => pv_aload_n 0 hc dX1_card_81 rfl rfl h9) ?_
      obtain ⟨b38, hb38, h⟩ := BD_el h
      refine vm_l (fun h9 => gp_X1_76 hc hX1 gs37 hb38 dX1_card_82 h9) ?_
      refine vm_l (fun h9 => pv_iload_n 1 hc dX1_card_85 rfl rfl h9) ?_
      obtain ⟨s40, gs40, h⟩ := RD_el h
      obtain ⟨s41, gs41, h⟩ := RD_el h
      obtain ⟨v42, hf39, h⟩ := BD_el h
      refine vm_l (fun h9 hk9 hn9 => pv_callV (nA := 2) hc (x4_sees_ok hX3 hX4 gs40 gs41 hf39) gs40 (h_X4 hX4) hX4.1 (lw_V q871 q872 q873 q114 q874) (by decide +kernel) ⟨(by decide), by decide⟩ rfl rfl (Nat.le_of_ble_eq_true rfl) dX1_card_86 ⟨hk9, hn9⟩ h9 hk9 hn9) ?_
      refine vm_ifn h (fun h k1 k2 => pv_if_ne (tgt := 99) hc dX1_card_89 (by decide) h k1 k2) (fun h => ?_) (fun h => ?_)
      · refine vm_l (fun h9 => pv_aload_n 0 hc dX1_card_99 rfl rfl h9) ?_
        refine vm_l (fun h9 => gf_X1_382 hc hX1 gs37 dX1_card_100 h9) ?_
        obtain ⟨rfl, rfl⟩ := Prod.mk.inj (Option.some.inj h)
        exact fun _ => ⟨Nat.le_refl _, pv_iret hc hr hQ rfl rfl dX1_card_103⟩
      · refine vm_l (fun h9 => pv_aload_n 0 hc dX1_card_92 rfl rfl h9) ?_
        refine vm_l (fun h9 => pv_strw hc ((xstr hX1 _ hc.2.2.2.2.2.1.2.2.1).2.1.2.2.2.2.2.2.2.2.2.2.2.2.2.2.2.2.2.2.2.2.2.2.2.2.1) dX1_card_93 h9) ?_
        obtain ⟨s45, hf44, h⟩ := BD_el h
        obtain ⟨w46, hw46, h⟩ := LT_el h
        refine vm_e hw46 rfl (fun h9 => ca_X1_405 hc hX1 gs37 (x1_put_3_ok hX1 gs37 (by decide) hf44) (by decide) (Nat.le_of_ble_eq_true rfl) dX1_card_96 h9) ?_
        refine vm_l (fun h9 => pv_aload_n 0 hc dX1_card_99 rfl rfl h9) ?_
        refine vm_l (fun h9 => gf_X1_382 hc hX1 (wp_at' hw46) dX1_card_100 h9) ?_
        obtain ⟨rfl, rfl⟩ := Prod.mk.inj (Option.some.inj h)
        exact fun _ => ⟨Nat.le_refl _, pv_iret hc hr hQ rfl rfl dX1_card_103⟩
    · refine vm_l (fun h9 => pv_aload_n 0 hc dX1_card_42 rfl rfl h9) ?_
      refine vm_l (fun h9 => pv_strw hc ((xstr hX1 _ hc.2.2.2.2.2.1.2.2.1).2.1.2.2.2.2.2.2.2.2.2.2.2.2.2.2.2.2.2.2.2.2.2.2.1) dX1_card_43 h9) ?_
      obtain ⟨s49, hf48, h⟩ := BD_el h
      obtain ⟨w50, hw50, h⟩ := LT_el h
      refine vm_e hw50 rfl (fun h9 => ca_X1_405 hc hX1 (wp_at' hw15) (x1_put_3_ok hX1 (wp_at' hw15) (by decide) hf48) (by decide) (Nat.le_of_ble_eq_true rfl) dX1_card_46 h9) ?_
      refine vm_l (fun h9 => pv_aload_n 0 hc dX1_card_49 rfl rfl h9) ?_
      refine vm_l (fun h9 => gf_X1_382 hc hX1 (wp_at' hw50) dX1_card_50 h9) ?_
      obtain ⟨rfl, rfl⟩ := Prod.mk.inj (Option.some.inj h)
      exact fun _ => ⟨Nat.le_refl _, pv_iret hc hr hQ rfl rfl dX1_card_53⟩
  · refine vm_l (fun h9 => pv_iconst (-1 : Int32) hc dX1_card_8 rfl h9) ?_
    obtain ⟨rfl, rfl⟩ := Prod.mk.inj (Option.some.inj h)
    exact fun _ => ⟨Nat.le_refl _, pv_iret hc hr hQ rfl rfl dX1_card_9⟩
