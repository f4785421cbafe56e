/-! Methods that keep and bring back states (written by gen/x6.py) -/
set_option maxRecDepth 100000
def x20_init (G : Wd) (q : Nat) : Option Wd := LT (wn G 103 r0) (fun w1 => LT G.1 (fun b2 => LT (wf w1 b2 3 zS 7) (fun w5 => RD w5 q 17 (fun s6 => LT (sP s6 1 (some b2)) (fun s7 => LT (wp w5 q 17 s7) (fun w8 => some w8))))))
set_option maxHeartbeats 4000000 in
theorem x20_init_ok {l : Launch} {g : Gh} (hW : OKW g) (hX1 : OKX1 g) (hX3 : OKX3 g) (hX4 : OKX4 g) {G : Wd} {q : Nat} {G' : Wd} (hf : x20_init G q = some G') : MTa l g yX20_init cX20_init 1 none 3 (G'.1 - G.1) (1200 * (G'.1 - G.1)) G [.ref q] none G' := by
  refine vm_start (by decide) (Nat.le_of_ble_eq_true rfl) ?_
  intro X hl hg hN hc hr hni hR hQ
  subst hl; subst hg
  have h := hf
  unfold x20_init at h
  show VM X G G' G [(0, .ref q)] [] 0
  refine vm_l (fun h9 => pv_aload_n 0 hc dX20_init_0 rfl rfl h9) ?_
  refine vm_l (fun h9 => pv_objInit hc q1476 q148 q149 (by decide) (Nat.le_of_ble_eq_true rfl) dX20_init_1 h9) ?_
  refine vm_l (fun h9 => pv_aload_n 0 hc dX20_init_4 rfl rfl h9) ?_
  obtain ⟨w1, hw1, h⟩ := LT_el h
  obtain ⟨b2, hb2, h⟩ := LT_el h
  refine vm_new (N := 10) (w1 := w1) hR (by decide) (by rw [hw1]; rfl) (fun hcap h9 => pv_new2 (r := r0) (kd := 103) hw1 hb2 hc hX4.1 in_X4 tyX4 tyX4_ok q1477 q337 q114 (we103 hW _ _) (fun j hj => by match j, hj with | 0, _ => rfl | 1, _ => rfl | 2, _ => rfl | 3, _ => rfl | 4, _ => rfl | 5, _ => rfl | 6, _ => rfl | 7, _ => rfl | 8, _ => rfl | 9, _ => rfl) hcap dX20_init_5 h9) ?_
  refine vm_l (fun h9 => pv_dup hc dX20_init_8 rfl h9) ?_
  obtain ⟨w5, hw5, h⟩ := LT_el h
  refine vm_init hw5 hR (fun hcap h9 => pv_callIN (nA := 0) hc (x4_init_ok hX3 hX4 hW (hb2 ▸ wn_at hw1) (by rw [hw1, hb2]; rfl)) q1478 q339 q114 q340 rfl (by decide +kernel) ⟨(by decide), by decide⟩ rfl rfl (Nat.le_of_ble_eq_true rfl) dX20_init_9 hcap h9) ?_
  obtain ⟨s6, gs6, h⟩ := RD_el h
  obtain ⟨s7, hs7, h⟩ := LT_el h
  obtain ⟨w8, hw8, h⟩ := LT_el h
  refine vm_e hw8 rfl (fun h9 => pw_X20_10 (x := (some b2)) hc hW gs6 hni hs7 rfl dX20_init_12 h9) ?_
  cases h
  exact fun _ => ⟨Nat.le_refl _, pv_vret hc hr hQ rfl rfl dX20_init_15⟩
def x1_keep (G : Wd) (a : Nat) : Option Wd := RD G a 0 (fun s1 => JN2 (fun (v2 : Nat) (s3 : Wd) => RD s3 a 0 (fun s5 => JN1 (fun (s6 : Wd) => RD s6 a 0 (fun s8 => RD s6 v2 3 (fun s10 => RD s6 (a + 13) 3 (fun s11 => NE (a + 13) v2 (BD (x4_be s10 s11) (fun s13 => LT (wp s6 v2 3 s13) (fun w14 => RD w14 a 0 (fun s15 => IX (gI s15 13) 8 (fun i16 => LT (sQ s15 12 i16 (some v2)) (fun s17 => LT (wp w14 a 0 s17) (fun w18 => LT (sI s17 13 ((gI s17 13) + (1 : Int32))) (fun s19 => LT (wp w18 a 0 s19) (fun w20 => some w20))))))))))))) (fun (j7 : Wd → Option Wd) => (if (gI s5 13) = (8 : Int32) then AQ s3 (gQ s5 12) 1 7 3 (LT (sR s5 12 (va_cpy (gQ s5 12) (gQ s5 12) 1 0 7)) (fun s22 => LT (wp s3 a 0 s22) (fun w23 => LT (sI s22 13 ((gI s22 13) - (1 : Int32))) (fun s24 => LT (wp w23 a 0 s24) (fun w25 => j7 w25))))) else j7 s3)))) (fun (j4 : Nat → Wd → Option Wd) => (if (gI s1 13) = (8 : Int32) then BD (gQ s1 12 0) (fun b33 => j4 b33 G) else IX (gI s1 13) 8 (fun i26 => (if (gQ s1 12 i26) = none then LT (wn G 103 r0) (fun w28 => LT G.1 (fun b29 => LT (wf w28 b29 3 zS 7) (fun w32 => j4 b29 w32))) else BD (gQ s1 12 i26) (fun b27 => j4 b27 G))))))
set_option maxHeartbeats 4000000 in
theorem x1_keep_ok {l : Launch} {g : Gh} (hW : OKW g) (hX1 : OKX1 g) (hX3 : OKX3 g) (hX4 : OKX4 g) {G : Wd} {a : Nat} {G' : Wd} (hf : x1_keep G a = some G') : MTa l g yX1_keep cX1_keep 2 none 3 (G'.1 - G.1) (1200 * (G'.1 - G.1)) G [.ref a] none G' := by
  refine vm_start (by decide) (Nat.le_of_ble_eq_true rfl) ?_
  intro X hl hg hN hc hr hni hR hQ
  subst hl; subst hg
  have h := hf
  unfold x1_keep at h
  show VM X G G' G [(0, .ref a)] [] 0
  refine vm_l (fun h9 => pv_aload_n 0 hc dX1_keep_0 rfl rfl h9) ?_
  obtain ⟨s1, gs1, h⟩ := RD_el h
  refine vm_l (fun h9 => gf_X1_169 hc hX1 gs1 dX1_keep_1 h9) ?_
  refine vm_l (fun h9 => pv_bipush (8 : Int32) hc dX1_keep_4 rfl h9) ?_
  obtain ⟨j4, hj4, h⟩ := JN2_el (P := fun v2 s3 => VM X G G' s3 [(0, .ref a)] [.ref v2] 49) h (by
      intro v2 s3 h
      refine vm_l (fun h9 => pv_astore_n (L' := [(1, .ref v2), (0, .ref a)]) hc dX1_keep_49 rfl hN (by decide) rfl h9) ?_
      refine vm_l (fun h9 => pv_aload_n 1 hc dX1_keep_50 rfl rfl h9) ?_
      obtain ⟨s5, gs5, h⟩ := RD_el h
      refine vm_l (fun h9 => gf_X1_169 hc hX1 gs5 dX1_keep_51 h9) ?_
      refine vm_l (fun h9 => pv_bipush (8 : Int32) hc dX1_keep_54 rfl h9) ?_
      obtain ⟨j7, hj7, h⟩ := JN1_el (P := fun s6 => VM X G G' s6 [(0, .ref a), (1, .ref v2)] [] 84) h (by
          intro s6 h
          refine vm_l (fun h9 => pv_aload_n 1 hc dX1_keep_84 rfl rfl h9) ?_
          refine vm_l (fun h9 => pv_aload_n 0 hc dX1_keep_85 rfl rfl h9) ?_
          obtain ⟨s8, gs8, h⟩ := RD_el h
          refine vm_l (fun h9 => gf_X1_83 hc hX1 gs8 dX1_keep_86 h9) ?_
          obtain ⟨s10, gs10, h⟩ := RD_el h
          obtain ⟨s11, gs11, h⟩ := RD_el h
          obtain ⟨ne12, h⟩ := NE_el h
          obtain ⟨s13, hf9, h⟩ := BD_el h
          obtain ⟨w14, hw14, h⟩ := LT_el h
          refine vm_e hw14 rfl (fun h9 hk9 hn9 => pv_callV (nA := 1) hc (x4_be_ok hX4 gs10 gs11 ne12 hf9) gs10 (h_X4 hX4) hX4.1 (lw_V q916 q917 q918 q114 q919) (by decide +kernel) ⟨(by decide), by decide⟩ rfl rfl (Nat.le_of_ble_eq_true rfl) dX1_keep_89 ⟨hk9, hn9⟩ h9 hk9 hn9) ?_
          refine vm_l (fun h9 => pv_aload_n 0 hc dX1_keep_92 rfl rfl h9) ?_
          obtain ⟨s15, gs15, h⟩ := RD_el h
          refine vm_l (fun h9 => gf_X1_110 hc hX1 gs15 dX1_keep_93 h9) ?_
          refine vm_l (fun h9 => pv_aload_n 0 hc dX1_keep_96 rfl rfl h9) ?_
          refine vm_l (fun h9 => gf_X1_169 hc hX1 gs15 dX1_keep_97 h9) ?_
          refine vm_l (fun h9 => pv_aload_n 1 hc dX1_keep_100 rfl rfl h9) ?_
          obtain ⟨i16, hi16, h⟩ := IX_el h
          obtain ⟨s17, hs17, h⟩ := LT_el h
          obtain ⟨w18, hw18, h⟩ := LT_el h
          refine vm_e hw18 rfl (fun h9 => pv_aast hc gs15 (v_ahead hX1) 5 (xt5 hX1) (wp_at' hw14) (h_X4 hX4) hX4.1 (Or.inl rfl) hi16 (r' := s17) (by subst hs17; rw [xenc hX1, xenc hX1]; rfl) dX1_keep_101 h9) ?_
          refine vm_l (fun h9 => pv_aload_n 0 hc dX1_keep_102 rfl rfl h9) ?_
          refine vm_l (fun h9 => pv_dup hc dX1_keep_103 rfl h9) ?_
          refine vm_l (fun h9 => gf_X1_169 hc hX1 (wp_at' hw18) dX1_keep_104 h9) ?_
          refine vm_l (fun h9 => pv_iconst (1 : Int32) hc dX1_keep_107 rfl h9) ?_
          refine vm_l (fun h9 => pv_iadd hc dX1_keep_108 h9) ?_
          obtain ⟨s19, hs19, h⟩ := LT_el h
          obtain ⟨w20, hw20, h⟩ := LT_el h
          refine vm_e hw20 rfl (fun h9 => pf_X1_169 hc hX1 (wp_at' hw18) hs19 rfl dX1_keep_109 h9) ?_
          cases h
          exact fun _ => ⟨Nat.le_refl _, pv_vret hc hr hQ rfl rfl dX1_keep_112⟩)
      refine vm_ifn h (fun h k1 k2 => pv_icmp_ne (tgt := 84) hc dX1_keep_56 (by decide) h k1 k2) (fun h => ?_) (fun h => ?_)
      · refine vm_sub [1, 0] rfl ?_
        exact hj7 _ h
      · refine vm_l (fun h9 => pv_aload_n 1 hc dX1_keep_59 rfl rfl h9) ?_
        refine vm_l (fun h9 => gf_X1_110 hc hX1 gs5 dX1_keep_60 h9) ?_
        refine vm_l (fun h9 => pv_iconst (1 : Int32) hc dX1_keep_63 rfl h9) ?_
        refine vm_l (fun h9 => pv_aload_n 1 hc dX1_keep_64 rfl rfl h9) ?_
        refine vm_l (fun h9 => gf_X1_110 hc hX1 gs5 dX1_keep_65 h9) ?_
        refine vm_l (fun h9 => pv_iconst (0 : Int32) hc dX1_keep_68 rfl h9) ?_
        refine vm_l (fun h9 => pv_bipush (7 : Int32) hc dX1_keep_69 rfl h9) ?_
        obtain ⟨hq21, h⟩ := AQ_el h
        obtain ⟨s22, hs22, h⟩ := LT_el h
        obtain ⟨w23, hw23, h⟩ := LT_el h
        refine vm_e hw23 rfl (fun h9 => pv_copyq hc q940 q475 q474 q118 gs5 (v_ahead hX1) 5 (xt5 hX1) hX4.1 (fun i hi y hy => by obtain ⟨s9, q9⟩ := AQb_el hq21 i hi y hy; exact ⟨s9, _, q9, h_X4 hX4⟩) (by decide) (by decide) (by decide) (by decide) (by decide) (by decide) (Nat.le_of_ble_eq_true rfl) (r' := s22) (by subst hs22; rw [xenc hX1, xenc hX1]; rfl) dX1_keep_71 h9) ?_
        refine vm_l (fun h9 => pv_aload_n 1 hc dX1_keep_74 rfl rfl h9) ?_
        refine vm_l (fun h9 => pv_dup hc dX1_keep_75 rfl h9) ?_
        refine vm_l (fun h9 => gf_X1_169 hc hX1 (wp_at' hw23) dX1_keep_76 h9) ?_
        refine vm_l (fun h9 => pv_iconst (1 : Int32) hc dX1_keep_79 rfl h9) ?_
        refine vm_l (fun h9 => pv_isub hc dX1_keep_80 h9) ?_
        obtain ⟨s24, hs24, h⟩ := LT_el h
        obtain ⟨w25, hw25, h⟩ := LT_el h
        refine vm_e hw25 rfl (fun h9 => pf_X1_169 hc hX1 (wp_at' hw23) hs24 rfl dX1_keep_81 h9) ?_
        refine vm_sub [1, 0] rfl ?_
        exact hj7 _ h)
  refine vm_ifn h (fun h k1 k2 => pv_icmp_ne (tgt := 18) hc dX1_keep_6 (by decide) h k1 k2) (fun h => ?_) (fun h => ?_)
  · refine vm_l (fun h9 => pv_aload_n 0 hc dX1_keep_18 rfl rfl h9) ?_
    refine vm_l (fun h9 => gf_X1_110 hc hX1 gs1 dX1_keep_19 h9) ?_
    refine vm_l (fun h9 => pv_aload_n 0 hc dX1_keep_22 rfl rfl h9) ?_
    refine vm_l (fun h9 => gf_X1_169 hc hX1 gs1 dX1_keep_23 h9) ?_
    obtain ⟨i26, hi26, h⟩ := IX_el h
    refine vm_l (fun h9 => pv_aaldN hc gs1 (v_ahead hX1) 5 (xt5 hX1) hi26 dX1_keep_26 h9) ?_
    refine vm_ifn h (fun h k1 k2 => pv_ifnonnull (tgt := 40) hc dX1_keep_27 (by decide) h k1 k2) (fun h => ?_) (fun h => ?_)
    · refine vm_l (fun h9 => pv_aload_n 0 hc dX1_keep_40 rfl rfl h9) ?_
      refine vm_l (fun h9 => gf_X1_110 hc hX1 gs1 dX1_keep_41 h9) ?_
      refine vm_l (fun h9 => pv_aload_n 0 hc dX1_keep_44 rfl rfl h9) ?_
      refine vm_l (fun h9 => gf_X1_169 hc hX1 gs1 dX1_keep_45 h9) ?_
      obtain ⟨b27, hb27, h⟩ := BD_el h
      refine vm_l (fun h9 => pv_aald hc gs1 (v_ahead hX1) 5 (xt5 hX1) hi26 hb27 dX1_keep_48 h9) ?_
      exact hj4 _ _ h
    · obtain ⟨w28, hw28, h⟩ := LT_el h
      obtain ⟨b29, hb29, h⟩ := LT_el h
      refine vm_new (N := 10) (w1 := w28) hR (by decide) (by rw [hw28]; rfl) (fun hcap h9 => pv_new2 (r := r0) (kd := 103) hw28 hb29 hc hX4.1 in_X4 tyX4 tyX4_ok q336 q337 q114 (we103 hW _ _) (fun j hj => by match j, hj with | 0, _ => rfl | 1, _ => rfl | 2, _ => rfl | 3, _ => rfl | 4, _ => rfl | 5, _ => rfl | 6, _ => rfl | 7, _ => rfl | 8, _ => rfl | 9, _ => rfl) hcap dX1_keep_30 h9) ?_
      refine vm_l (fun h9 => pv_dup hc dX1_keep_33 rfl h9) ?_
      obtain ⟨w32, hw32, h⟩ := LT_el h
      refine vm_init hw32 hR (fun hcap h9 => pv_callIN (nA := 0) hc (x4_init_ok hX3 hX4 hW (hb29 ▸ wn_at hw28) (by rw [hw28, hb29]; rfl)) q338 q339 q114 q340 rfl (by decide +kernel) ⟨(by decide), by decide⟩ rfl rfl (Nat.le_of_ble_eq_true rfl) dX1_keep_34 hcap h9) ?_
      refine vm_l (fun h9 => pv_goto (tgt := 49) hc dX1_keep_37 (by decide) h9) ?_
      exact hj4 _ _ h
  · refine vm_l (fun h9 => pv_aload_n 0 hc dX1_keep_9 rfl rfl h9) ?_
    refine vm_l (fun h9 => gf_X1_110 hc hX1 gs1 dX1_keep_10 h9) ?_
    refine vm_l (fun h9 => pv_iconst (0 : Int32) hc dX1_keep_13 rfl h9) ?_
    obtain ⟨b33, hb33, h⟩ := BD_el h
    refine vm_l (fun h9 => pv_aald hc gs1 (v_ahead hX1) 5 (xt5 hX1) (vp_lit (j := 0) (by decide)) hb33 dX1_keep_14 h9) ?_
    refine vm_l (fun h9 => pv_goto (tgt := 49) hc dX1_keep_15 (by decide) h9) ?_
    exact hj4 _ _ h
def x1_undo (G : Wd) (a : Nat) : Option (Int32 × Wd) := RD G a 0 (fun s1 => (if (gI s1 13) = 0 then some ((-1 : Int32), G) else LT (sI s1 13 ((gI s1 13) - (1 : Int32))) (fun s2 => LT (wp G a 0 s2) (fun w3 => IX (gI s2 13) 8 (fun i4 => BD (gQ s2 12 i4) (fun b5 => RD w3 (a + 13) 3 (fun s7 => RD w3 b5 3 (fun s8 => NE b5 (a + 13) (BD (x4_be s7 s8) (fun s10 => LT (wp w3 (a + 13) 3 s10) (fun w11 => RD w11 a 0 (fun s12 => some ((gI s12 13), w11)))))))))))))
set_option maxHeartbeats 4000000 in
theorem x1_undo_ok {l : Launch} {g : Gh} (hW : OKW g) (hX1 : OKX1 g) (hX3 : OKX3 g) (hX4 : OKX4 g) {G : Wd} {a : Nat} {r : Int32} {G' : Wd} (hf : x1_undo G a = some (r, G')) : MTa l g yX1_undo cX1_undo 1 (some .int) 3 (G'.1 - G.1) (1200 * (G'.1 - G.1)) G [.ref a] (some (.int r)) G' := by
  refine vm_start (by decide) (Nat.le_of_ble_eq_true rfl) ?_
  intro X hl hg hN hc hr hni hR hQ
  subst hl; subst hg
  have h := hf
  unfold x1_undo at h
  show VM X G G' G [(0, .ref a)] [] 0
  refine vm_l (fun h9 => pv_aload_n 0 hc dX1_undo_0 rfl rfl h9) ?_
  obtain ⟨s1, gs1, h⟩ := RD_el h
  refine vm_l (fun h9 => gf_X1_169 hc hX1 gs1 dX1_undo_1 h9) ?_
  refine vm_ifn h (fun h k1 k2 => pv_if_ne (tgt := 9) hc dX1_undo_4 (by decide) h k1 k2) (fun h => ?_) (fun h => ?_)
  · refine vm_l (fun h9 => pv_aload_n 0 hc dX1_undo_9 rfl rfl h9) ?_
    refine vm_l (fun h9 => pv_dup hc dX1_undo_10 rfl h9) ?_
    refine vm_l (fun h9 => gf_X1_169 hc hX1 gs1 dX1_undo_11 h9) ?_
    refine vm_l (fun h9 => pv_iconst (1 : Int32) hc dX1_undo_14 rfl h9) ?_
    refine vm_l (fun h9 => pv_isub hc dX1_undo_15 h9) ?_
    obtain ⟨s2, hs2, h⟩ := LT_el h
    obtain ⟨w3, hw3, h⟩ := LT_el h
    refine vm_e hw3 rfl (fun h9 => pf_X1_169 hc hX1 gs1 hs2 rfl dX1_undo_16 h9) ?_
    refine vm_l (fun h9 => pv_aload_n 0 hc dX1_undo_19 rfl rfl h9) ?_
    refine vm_l (fun h9 => gf_X1_83 hc hX1 (wp_at' hw3) dX1_undo_20 h9) ?_
    refine vm_l (fun h9 => pv_aload_n 0 hc dX1_undo_23 rfl rfl h9) ?_
    refine vm_l (fun h9 => gf_X1_110 hc hX1 (wp_at' hw3) dX1_undo_24 h9) ?_
    refine vm_l (fun h9 => pv_aload_n 0 hc dX1_undo_27 rfl rfl h9) ?_
    refine vm_l (fun h9 => gf_X1_169 hc hX1 (wp_at' hw3) dX1_undo_28 h9) ?_
    obtain ⟨i4, hi4, h⟩ := IX_el h
    obtain ⟨b5, hb5, h⟩ := BD_el h
    refine vm_l (fun h9 => pv_aald hc (wp_at' hw3) (v_ahead hX1) 5 (xt5 hX1) hi4 hb5 dX1_undo_31 h9) ?_
    obtain ⟨s7, gs7, h⟩ := RD_el h
    obtain ⟨s8, gs8, h⟩ := RD_el h
    obtain ⟨ne9, h⟩ := NE_el h
    obtain ⟨s10, hf6, h⟩ := BD_el h
    obtain ⟨w11, hw11, h⟩ := LT_el h
    refine vm_e hw11 rfl (fun h9 hk9 hn9 => pv_callV (nA := 1) hc (x4_be_ok hX4 gs7 gs8 ne9 hf6) gs7 (h_X4 hX4) hX4.1 (lw_V q916 q917 q918 q114 q919) (by decide +kernel) ⟨(by decide), by decide⟩ rfl rfl (Nat.le_of_ble_eq_true rfl) dX1_undo_32 ⟨hk9, hn9⟩ h9 hk9 hn9) ?_
    refine vm_l (fun h9 => pv_aload_n 0 hc dX1_undo_35 rfl rfl h9) ?_
    obtain ⟨s12, gs12, h⟩ := RD_el h
    refine vm_l (fun h9 => gf_X1_169 hc hX1 gs12 dX1_undo_36 h9) ?_
    obtain ⟨rfl, rfl⟩ := Prod.mk.inj (Option.some.inj h)
    exact fun _ => ⟨Nat.le_refl _, pv_iret hc hr hQ rfl rfl dX1_undo_39⟩
  · refine vm_l (fun h9 => pv_iconst (-1 : Int32) hc dX1_undo_7 rfl h9) ?_
    obtain ⟨rfl, rfl⟩ := Prod.mk.inj (Option.some.inj h)
    exact fun _ => ⟨Nat.le_refl _, pv_iret hc hr hQ rfl rfl dX1_undo_8⟩
def x1_does (G : Wd) (a : Nat) (x1 : Int32) (x2 : Int32) (x3 : Int32) : Option (Int32 × Wd) := RD G a 0 (fun s3 => BD (gP s3 6) (fun b4 => RD G b4 2 (fun s5 => BD (x1_isPerson s3 b4 s5 x1) (fun v6 => (if v6 = 0 then some ((-1 : Int32), G) else BD (gP s3 6) (fun b9 => RD G b9 2 (fun s10 => BD (x1_isDeed s3 b9 s10 x2) (fun v11 => (if v11 = 0 then some ((-1 : Int32), G) else BD (gP s3 6) (fun b14 => RD G b14 2 (fun s15 => BD (x1_isParlour s3 b14 s15 x3) (fun v16 => (if v16 = 0 then some ((-1 : Int32), G) else RD G (a + 13) 3 (fun s18 => BD (x4_whyDo s18) (fun v19 => (if v19 = 0 then BD (x1_keep G a) (fun w22 => MG G w22 (RD w22 a 0 (fun s24 => BD (gP s24 6) (fun b25 => RD w22 (a + 13) 3 (fun s27 => RD w22 b25 2 (fun s28 => BD (x4_does s27 s28 x1 x2 x3) (fun s29 => LT (wp w22 (a + 13) 3 s29) (fun w30 => some ((0 : Int32), w30))))))))) else some ((1 : Int32), G)))))))))))))))))
set_option maxHeartbeats 4000000 in
theorem x1_does_ok {l : Launch} {g : Gh} (hW : OKW g) (hX1 : OKX1 g) (hX3 : OKX3 g) (hX4 : OKX4 g) {G : Wd} {a : Nat} {x1 : Int32} {x2 : Int32} {x3 : Int32} {r : Int32} {G' : Wd} (hf : x1_does G a x1 x2 x3 = some (r, G')) : MTa l g yX1_does cX1_does 4 (some .int) 5 (G'.1 - G.1) (1200 * (G'.1 - G.1)) G [.ref a, .int x1, .int x2, .int x3] (some (.int r)) G' := by
  refine vm_start (by decide) (Nat.le_of_ble_eq_true rfl) ?_
  intro X hl hg hN hc hr hni hR hQ
  subst hl; subst hg
  have h := hf
  unfold x1_does at h
  show VM X G G' G [(0, .ref a), (1, .int x1), (2, .int x2), (3, .int x3)] [] 0
  refine vm_l (fun h9 => pv_aload_n 0 hc dX1_does_0 rfl rfl h9) ?_
  refine vm_l (fun h9 => pv_iload_n 1 hc dX1_does_1 rfl rfl h9) ?_
  obtain ⟨s3, gs3, h⟩ := RD_el h
  obtain ⟨b4, hb4, h⟩ := BD_el h
  obtain ⟨s5, gs5, h⟩ := RD_el h
  obtain ⟨v6, hf2, h⟩ := BD_el h
  refine vm_l (fun h9 => ca_X1_285 hc hX1 gs3 (x1_isPerson_ok hX1 hX3 gs3 gs5 hf2) (by decide) (Nat.le_of_ble_eq_true rfl) dX1_does_2 h9) ?_
  refine vm_if h (fun h k1 k2 => pv_if_eq (tgt := 24) hc dX1_does_5 (by decide) h k1 k2) (fun h => ?_) (fun h => ?_)
  · refine vm_l (fun h9 => pv_iconst (-1 : Int32) hc dX1_does_24 rfl h9) ?_
    obtain ⟨rfl, rfl⟩ := Prod.mk.inj (Option.some.inj h)
    exact fun _ => ⟨Nat.le_refl _, pv_iret hc hr hQ rfl rfl dX1_does_25⟩
  · refine vm_l (fun h9 => pv_aload_n 0 hc dX1_does_8 rfl rfl h9) ?_
    refine vm_l (fun h9 => pv_iload_n 2 hc dX1_does_9 rfl rfl h9) ?_
    obtain ⟨b9, hb9, h⟩ := BD_el h
    obtain ⟨s10, gs10, h⟩ := RD_el h
    obtain ⟨v11, hf8, h⟩ := BD_el h
    refine vm_l (fun h9 => ca_X1_288 hc hX1 gs3 (x1_isDeed_ok hX1 hX3 gs3 gs10 hf8) (by decide) (Nat.le_of_ble_eq_true rfl) dX1_does_10 h9) ?_
    refine vm_if h (fun h k1 k2 => pv_if_eq (tgt := 24) hc dX1_does_13 (by decide) h k1 k2) (fun h => ?_) (fun h => ?_)
    · refine vm_l (fun h9 => pv_iconst (-1 : Int32) hc dX1_does_24 rfl h9) ?_
      obtain ⟨rfl, rfl⟩ := Prod.mk.inj (Option.some.inj h)
      exact fun _ => ⟨Nat.le_refl _, pv_iret hc hr hQ rfl rfl dX1_does_25⟩
    · refine vm_l (fun h9 => pv_aload_n 0 hc dX1_does_16 rfl rfl h9) ?_
      refine vm_l (fun h9 => pv_iload_n 3 hc dX1_does_17 rfl rfl h9) ?_
      obtain ⟨b14, hb14, h⟩ := BD_el h
      obtain ⟨s15, gs15, h⟩ := RD_el h
      obtain ⟨v16, hf13, h⟩ := BD_el h
      refine vm_l (fun h9 => ca_X1_260 hc hX1 gs3 (x1_isParlour_ok hX1 hX3 gs3 gs15 hf13) (by decide) (Nat.le_of_ble_eq_true rfl) dX1_does_18 h9) ?_
      refine vm_ifn h (fun h k1 k2 => pv_if_ne (tgt := 26) hc dX1_does_21 (by decide) h k1 k2) (fun h => ?_) (fun h => ?_)
      · refine vm_l (fun h9 => pv_aload_n 0 hc dX1_does_26 rfl rfl h9) ?_
        refine vm_l (fun h9 => gf_X1_83 hc hX1 gs3 dX1_does_27 h9) ?_
        obtain ⟨s18, gs18, h⟩ := RD_el h
        obtain ⟨v19, hf17, h⟩ := BD_el h
        refine vm_l (fun h9 hk9 hn9 => pv_callV (nA := 0) hc (x4_whyDo_ok hX4 gs18 hf17) gs18 (h_X4 hX4) hX4.1 (lw_V q932 q933 q934 q114 q935) (by decide +kernel) ⟨(by decide), by decide⟩ rfl rfl (Nat.le_of_ble_eq_true rfl) dX1_does_30 ⟨hk9, hn9⟩ h9 hk9 hn9) ?_
        refine vm_if h (fun h k1 k2 => pv_if_eq (tgt := 38) hc dX1_does_33 (by decide) h k1 k2) (fun h => ?_) (fun h => ?_)
        · refine vm_l (fun h9 => pv_aload_n 0 hc dX1_does_38 rfl rfl h9) ?_
          obtain ⟨w22, hf21, h⟩ := BD_el h
          obtain ⟨hm23, h⟩ := MG_el h
          refine vm_call hR hm23 rfl rfl (fun hcap h9 => pv_callV (nA := 0) hc (x1_keep_ok hW hX1 hX3 hX4 hf21) gs3 (o_X1 hX1) (xk0 hX1) (lw_V q936 q938 qs11 q109 q939) (by decide +kernel) ⟨(by decide), by decide⟩ rfl rfl (Nat.le_of_ble_eq_true rfl) dX1_does_39 hcap h9) ?_
          refine vm_l (fun h9 => pv_aload_n 0 hc dX1_does_42 rfl rfl h9) ?_
          obtain ⟨s24, gs24, h⟩ := RD_el h
          refine vm_l (fun h9 => gf_X1_83 hc hX1 gs24 dX1_does_43 h9) ?_
          refine vm_l (fun h9 => pv_aload_n 0 hc dX1_does_46 rfl rfl h9) ?_
          obtain ⟨b25, hb25, h⟩ := BD_el h
          refine vm_l (fun h9 => gp_X1_76 hc hX1 gs24 hb25 dX1_does_47 h9) ?_
          refine vm_l (fun h9 => pv_iload_n 1 hc dX1_does_50 rfl rfl h9) ?_
          refine vm_l (fun h9 => pv_iload_n 2 hc dX1_does_51 rfl rfl h9) ?_
          refine vm_l (fun h9 => pv_iload_n 3 hc dX1_does_52 rfl rfl h9) ?_
          obtain ⟨s27, gs27, h⟩ := RD_el h
          obtain ⟨s28, gs28, h⟩ := RD_el h
          obtain ⟨s29, hf26, h⟩ := BD_el h
          obtain ⟨w30, hw30, h⟩ := LT_el h
          refine vm_e hw30 rfl (fun h9 hk9 hn9 => pv_callV (nA := 4) hc (x4_does_ok hX3 hX4 gs27 gs28 hf26) gs27 (h_X4 hX4) hX4.1 (lw_V q941 q942 q943 q114 q944) (by decide +kernel) ⟨(by decide), by decide⟩ rfl rfl (Nat.le_of_ble_eq_true rfl) dX1_does_53 ⟨hk9, hn9⟩ h9 hk9 hn9) ?_
          refine vm_l (fun h9 => pv_iconst (0 : Int32) hc dX1_does_56 rfl h9) ?_
          obtain ⟨rfl, rfl⟩ := Prod.mk.inj (Option.some.inj h)
          exact fun _ => ⟨Nat.le_refl _, pv_iret hc hr hQ rfl rfl dX1_does_57⟩
        · refine vm_l (fun h9 => pv_iconst (1 : Int32) hc dX1_does_36 rfl h9) ?_
          obtain ⟨rfl, rfl⟩ := Prod.mk.inj (Option.some.inj h)
          exact fun _ => ⟨Nat.le_refl _, pv_iret hc hr hQ rfl rfl dX1_does_37⟩
      · refine vm_l (fun h9 => pv_iconst (-1 : Int32) hc dX1_does_24 rfl h9) ?_
        obtain ⟨rfl, rfl⟩ := Prod.mk.inj (Option.some.inj h)
        exact fun _ => ⟨Nat.le_refl _, pv_iret hc hr hQ rfl rfl dX1_does_25⟩
def x1_sponge (G : Wd) (a : Nat) (x1 : Int32) : Option (Int32 × Wd) := RD G a 0 (fun s3 => BD (gP s3 6) (fun b4 => RD G b4 2 (fun s5 => BD (x1_isPlant s3 b4 s5 x1) (fun v6 => (if v6 = 0 then some ((-1 : Int32), G) else RD G (a + 13) 3 (fun s8 => BD (x4_whySponge s8 x1) (fun v9 => (if v9 = 0 then BD (x1_keep G a) (fun w12 => MG G w12 (RD w12 a 0 (fun s14 => RD w12 (a + 13) 3 (fun s15 => IX x1 6 (fun i16 => LT (sA s15 1 i16 (0 : Int32)) (fun s17 => LT (wp w12 (a + 13) 3 s17) (fun w18 => some ((0 : Int32), w18)))))))) else some ((1 : Int32), G)))))))))
set_option maxHeartbeats 4000000 in
theorem x1_sponge_ok {l : Launch} {g : Gh} (hW : OKW g) (hX1 : OKX1 g) (hX3 : OKX3 g) (hX4 : OKX4 g) {G : Wd} {a : Nat} {x1 : Int32} {r : Int32} {G' : Wd} (hf : x1_sponge G a x1 = some (r, G')) : MTa l g yX1_sponge cX1_sponge 2 (some .int) 4 (G'.1 - G.1) (1200 * (G'.1 - G.1)) G [.ref a, .int x1] (some (.int r)) G' := by
  refine vm_start (by decide) (Nat.le_of_ble_eq_true rfl) ?_
  intro X hl hg hN hc hr hni hR hQ
  subst hl; subst hg
  have h := hf
  unfold x1_sponge at h
  show VM X G G' G [(0, .ref a), (1, .int x1)] [] 0
  refine vm_l (fun h9 => pv_aload_n 0 hc dX1_sponge_0 rfl rfl h9) ?_
  refine vm_l (fun h9 => pv_iload_n 1 hc dX1_sponge_1 rfl rfl h9) ?_
  obtain ⟨s3, gs3, h⟩ := RD_el h
  obtain ⟨b4, hb4, h⟩ := BD_el h
  obtain ⟨s5, gs5, h⟩ := RD_el h
  obtain ⟨v6, hf2, h⟩ := BD_el h
  refine vm_l (fun h9 => ca_X1_201 hc hX1 gs3 (x1_isPlant_ok hX1 hX3 gs3 gs5 hf2) (by decide) (Nat.le_of_ble_eq_true rfl) dX1_sponge_2 h9) ?_
  refine vm_ifn h (fun h k1 k2 => pv_if_ne (tgt := 10) hc dX1_sponge_5 (by decide) h k1 k2) (fun h => ?_) (fun h => ?_)
  · refine vm_l (fun h9 => pv_aload_n 0 hc dX1_sponge_10 rfl rfl h9) ?_
    refine vm_l (fun h9 => gf_X1_83 hc hX1 gs3 dX1_sponge_11 h9) ?_
    refine vm_l (fun h9 => pv_iload_n 1 hc dX1_sponge_14 rfl rfl h9) ?_
    obtain ⟨s8, gs8, h⟩ := RD_el h
    obtain ⟨v9, hf7, h⟩ := BD_el h
    refine vm_l (fun h9 hk9 hn9 => pv_callV (nA := 1) hc (x4_whySponge_ok hX4 gs8 hf7) gs8 (h_X4 hX4) hX4.1 (lw_V q957 q958 q959 q114 q960) (by decide +kernel) ⟨(by decide), by decide⟩ rfl rfl (Nat.le_of_ble_eq_true rfl) dX1_sponge_15 ⟨hk9, hn9⟩ h9 hk9 hn9) ?_
    refine vm_if h (fun h k1 k2 => pv_if_eq (tgt := 23) hc dX1_sponge_18 (by decide) h k1 k2) (fun h => ?_) (fun h => ?_)
    · refine vm_l (fun h9 => pv_aload_n 0 hc dX1_sponge_23 rfl rfl h9) ?_
      obtain ⟨w12, hf11, h⟩ := BD_el h
      obtain ⟨hm13, h⟩ := MG_el h
      refine vm_call hR hm13 rfl rfl (fun hcap h9 => pv_callV (nA := 0) hc (x1_keep_ok hW hX1 hX3 hX4 hf11) gs3 (o_X1 hX1) (xk0 hX1) (lw_V q936 q938 qs11 q109 q939) (by decide +kernel) ⟨(by decide), by decide⟩ rfl rfl (Nat.le_of_ble_eq_true rfl) dX1_sponge_24 hcap h9) ?_
      refine vm_l (fun h9 => pv_aload_n 0 hc dX1_sponge_27 rfl rfl h9) ?_
      obtain ⟨s14, gs14, h⟩ := RD_el h
      refine vm_l (fun h9 => gf_X1_83 hc hX1 gs14 dX1_sponge_28 h9) ?_
      obtain ⟨s15, gs15, h⟩ := RD_el h
      refine vm_l (fun h9 => gf_X1_221 hc hX4 gs15 dX1_sponge_31 h9) ?_
      refine vm_l (fun h9 => pv_iload_n 1 hc dX1_sponge_34 rfl rfl h9) ?_
      refine vm_l (fun h9 => pv_iconst (0 : Int32) hc dX1_sponge_35 rfl h9) ?_
      obtain ⟨i16, hi16, h⟩ := IX_el h
      obtain ⟨s17, hs17, h⟩ := LT_el h
      obtain ⟨w18, hw18, h⟩ := LT_el h
      refine vm_e hw18 rfl (fun h9 => as_X4_1 hc hX4 gs15 hi16 hs17 rfl dX1_sponge_36 h9) ?_
      refine vm_l (fun h9 => pv_iconst (0 : Int32) hc dX1_sponge_37 rfl h9) ?_
      obtain ⟨rfl, rfl⟩ := Prod.mk.inj (Option.some.inj h)
      exact fun _ => ⟨Nat.le_refl _, pv_iret hc hr hQ rfl rfl dX1_sponge_38⟩
    · refine vm_l (fun h9 => pv_iconst (1 : Int32) hc dX1_sponge_21 rfl h9) ?_
      obtain ⟨rfl, rfl⟩ := Prod.mk.inj (Option.some.inj h)
      exact fun _ => ⟨Nat.le_refl _, pv_iret hc hr hQ rfl rfl dX1_sponge_22⟩
  · refine vm_l (fun h9 => pv_iconst (-1 : Int32) hc dX1_sponge_8 rfl h9) ?_
    obtain ⟨rfl, rfl⟩ := Prod.mk.inj (Option.some.inj h)
    exact fun _ => ⟨Nat.le_refl _, pv_iret hc hr hQ rfl rfl dX1_sponge_9⟩
def x1_carry (G : Wd) (a : Nat) (x1 : Int32) (x2 : Int32) : Option (Int32 × Wd) := RD G a 0 (fun s3 => BD (gP s3 6) (fun b4 => RD G b4 2 (fun s5 => BD (x1_isPlant s3 b4 s5 x1) (fun v6 => (if v6 = 0 then some ((-1 : Int32), G) else BD (gP s3 6) (fun b9 => RD G b9 2 (fun s10 => BD (x1_isParlour s3 b9 s10 x2) (fun v11 => (if v11 = 0 then some ((-1 : Int32), G) else RD G (a + 13) 3 (fun s13 => BD (x4_whyCarry s13 x1 x2) (fun v14 => (if v14 = 0 then BD (x1_keep G a) (fun w17 => MG G w17 (RD w17 a 0 (fun s19 => RD w17 (a + 13) 3 (fun s20 => IX x1 6 (fun i21 => LT (sA s20 0 i21 x2) (fun s22 => LT (wp w17 (a + 13) 3 s22) (fun w23 => some ((0 : Int32), w23)))))))) else some ((1 : Int32), G)))))))))))))
set_option maxHeartbeats 4000000 in
theorem x1_carry_ok {l : Launch} {g : Gh} (hW : OKW g) (hX1 : OKX1 g) (hX3 : OKX3 g) (hX4 : OKX4 g) {G : Wd} {a : Nat} {x1 : Int32} {x2 : Int32} {r : Int32} {G' : Wd} (hf : x1_carry G a x1 x2 = some (r, G')) : MTa l g yX1_carry cX1_carry 3 (some .int) 4 (G'.1 - G.1) (1200 * (G'.1 - G.1)) G [.ref a, .int x1, .int x2] (some (.int r)) G' := by
  refine vm_start (by decide) (Nat.le_of_ble_eq_true rfl) ?_
  intro X hl hg hN hc hr hni hR hQ
  subst hl; subst hg
  have h := hf
  unfold x1_carry at h
  show VM X G G' G [(0, .ref a), (1, .int x1), (2, .int x2)] [] 0
  refine vm_l (fun h9 => pv_aload_n 0 hc dX1_carry_0 rfl rfl h9) ?_
  refine vm_l (fun h9 => pv_iload_n 1 hc dX1_carry_1 rfl rfl h9) ?_
  obtain ⟨s3, gs3, h⟩ := RD_el h
  obtain ⟨b4, hb4, h⟩ := BD_el h
  obtain ⟨s5, gs5, h⟩ := RD_el h
  obtain ⟨v6, hf2, h⟩ := BD_el h
  refine vm_l (fun h9 => ca_X1_201 hc hX1 gs3 (x1_isPlant_ok hX1 hX3 gs3 gs5 hf2) (by decide) (Nat.le_of_ble_eq_true rfl) dX1_carry_2 h9) ?_
  refine vm_if h (fun h k1 k2 => pv_if_eq (tgt := 16) hc dX1_carry_5 (by decide) h k1 k2) (fun h => ?_) (fun h => ?_)
  · refine vm_l (fun h9 => pv_iconst (-1 : Int32) hc dX1_carry_16 rfl h9) ?_
    obtain ⟨rfl, rfl⟩ := Prod.mk.inj (Option.some.inj h)
    exact fun _ => ⟨Nat.le_refl _, pv_iret hc hr hQ rfl rfl dX1_carry_17⟩
  · refine vm_l (fun h9 => pv_aload_n 0 hc dX1_carry_8 rfl rfl h9) ?_
    refine vm_l (fun h9 => pv_iload_n 2 hc dX1_carry_9 rfl rfl h9) ?_
    obtain ⟨b9, hb9, h⟩ := BD_el h
    obtain ⟨s10, gs10, h⟩ := RD_el h
    obtain ⟨v11, hf8, h⟩ := BD_el h
    refine vm_l (fun h9 => ca_X1_260 hc hX1 gs3 (x1_isParlour_ok hX1 hX3 gs3 gs10 hf8) (by decide) (Nat.le_of_ble_eq_true rfl) dX1_carry_10 h9) ?_
    refine vm_ifn h (fun h k1 k2 => pv_if_ne (tgt := 18) hc dX1_carry_13 (by decide) h k1 k2) (fun h => ?_) (fun h => ?_)
    · refine vm_l (fun h9 => pv_aload_n 0 hc dX1_carry_18 rfl rfl h9) ?_
      refine vm_l (fun h9 => gf_X1_83 hc hX1 gs3 dX1_carry_19 h9) ?_
      refine vm_l (fun h9 => pv_iload_n 1 hc dX1_carry_22 rfl rfl h9) ?_
      refine vm_l (fun h9 => pv_iload_n 2 hc dX1_carry_23 rfl rfl h9) ?_
      obtain ⟨s13, gs13, h⟩ := RD_el h
      obtain ⟨v14, hf12, h⟩ := BD_el h
      refine vm_l (fun h9 hk9 hn9 => pv_callV (nA := 2) hc (x4_whyCarry_ok hX4 gs13 hf12) gs13 (h_X4 hX4) hX4.1 (lw_V q965 q966 q967 q114 q968) (by decide +kernel) ⟨(by decide), by decide⟩ rfl rfl (Nat.le_of_ble_eq_true rfl) dX1_carry_24 ⟨hk9, hn9⟩ h9 hk9 hn9) ?_
      refine vm_if h (fun h k1 k2 => pv_if_eq (tgt := 32) hc dX1_carry_27 (by decide) h k1 k2) (fun h => ?_) (fun h => ?_)
      · refine vm_l (fun h9 => pv_aload_n 0 hc dX1_carry_32 rfl rfl h9) ?_
        obtain ⟨w17, hf16, h⟩ := BD_el h
        obtain ⟨hm18, h⟩ := MG_el h
        refine vm_call hR hm18 rfl rfl (fun hcap h9 => pv_callV (nA := 0) hc (x1_keep_ok hW hX1 hX3 hX4 hf16) gs3 (o_X1 hX1) (xk0 hX1) (lw_V q936 q938 qs11 q109 q939) (by decide +kernel) ⟨(by decide), by decide⟩ rfl rfl (Nat.le_of_ble_eq_true rfl) dX1_carry_33 hcap h9) ?_
        refine vm_l (fun h9 => pv_aload_n 0 hc dX1_carry_36 rfl rfl h9) ?_
        obtain ⟨s19, gs19, h⟩ := RD_el h
        refine vm_l (fun h9 => gf_X1_83 hc hX1 gs19 dX1_carry_37 h9) ?_
        obtain ⟨s20, gs20, h⟩ := RD_el h
        refine vm_l (fun h9 => gf_X1_209 hc hX4 gs20 dX1_carry_40 h9) ?_
        refine vm_l (fun h9 => pv_iload_n 1 hc dX1_carry_43 rfl rfl h9) ?_
        refine vm_l (fun h9 => pv_iload_n 2 hc dX1_carry_44 rfl rfl h9) ?_
        obtain ⟨i21, hi21, h⟩ := IX_el h
        obtain ⟨s22, hs22, h⟩ := LT_el h
        obtain ⟨w23, hw23, h⟩ := LT_el h
        refine vm_e hw23 rfl (fun h9 => as_X4_0 hc hX4 gs20 hi21 hs22 rfl dX1_carry_45 h9) ?_
        refine vm_l (fun h9 => pv_iconst (0 : Int32) hc dX1_carry_46 rfl h9) ?_
        obtain ⟨rfl, rfl⟩ := Prod.mk.inj (Option.some.inj h)
        exact fun _ => ⟨Nat.le_refl _, pv_iret hc hr hQ rfl rfl dX1_carry_47⟩
      · refine vm_l (fun h9 => pv_iconst (1 : Int32) hc dX1_carry_30 rfl h9) ?_
        obtain ⟨rfl, rfl⟩ := Prod.mk.inj (Option.some.inj h)
        exact fun _ => ⟨Nat.le_refl _, pv_iret hc hr hQ rfl rfl dX1_carry_31⟩
    · refine vm_l (fun h9 => pv_iconst (-1 : Int32) hc dX1_carry_16 rfl h9) ?_
      obtain ⟨rfl, rfl⟩ := Prod.mk.inj (Option.some.inj h)
      exact fun _ => ⟨Nat.le_refl _, pv_iret hc hr hQ rfl rfl dX1_carry_17⟩
def x1_days (G : Wd) (a : Nat) (x1 : Int32) : Option (Int32 × Wd) := BD (x1_isIn x1 (1 : Int32) (60 : Int32)) (fun v2 => (if v2 = 0 then some ((-1 : Int32), G) else RD G a 0 (fun s3 => RD G (a + 13) 3 (fun s4 => (if (gI s4 7) = (400 : Int32) then some ((0 : Int32), G) else BD (x1_keep G a) (fun w7 => MG G w7 (RD w7 a 0 (fun s9 => BD (gP s9 6) (fun b10 => RD w7 (a + 13) 3 (fun s12 => RD w7 b10 2 (fun s13 => BD2 (x4_days s12 s13 x1) (fun v16 s14 => LT (wp w7 (a + 13) 3 s14) (fun w15 => some (v16, w15))))))))))))))
set_option maxHeartbeats 4000000 in
theorem x1_days_ok {l : Launch} {g : Gh} (hW : OKW g) (hX1 : OKX1 g) (hX3 : OKX3 g) (hX4 : OKX4 g) {G : Wd} {a : Nat} {x1 : Int32} {r : Int32} {G' : Wd} (hf : x1_days G a x1 = some (r, G')) : MTa l g yX1_days cX1_days 2 (some .int) 4 (G'.1 - G.1) (1200 * (G'.1 - G.1)) G [.ref a, .int x1] (some (.int r)) G' := by
  refine vm_start (by decide) (Nat.le_of_ble_eq_true rfl) ?_
  intro X hl hg hN hc hr hni hR hQ
  subst hl; subst hg
  have h := hf
  unfold x1_days at h
  show VM X G G' G [(0, .ref a), (1, .int x1)] [] 0
  refine vm_l (fun h9 => pv_iload_n 1 hc dX1_days_0 rfl rfl h9) ?_
  refine vm_l (fun h9 => pv_iconst (1 : Int32) hc dX1_days_1 rfl h9) ?_
  refine vm_l (fun h9 => pv_bipush (60 : Int32) hc dX1_days_2 rfl h9) ?_
  obtain ⟨v2, hf1, h⟩ := BD_el h
  refine vm_l (fun h9 hk9 hn9 => pv_callS (nA := 3) hc (x1_isIn_ok   hf1) (lw_S q850 q678 q109 q679) (by decide +kernel) ⟨(by decide), by decide⟩ rfl rfl (Nat.le_of_ble_eq_true rfl) dX1_days_4 ⟨hk9, hn9⟩ h9 hk9 hn9) ?_
  refine vm_ifn h (fun h k1 k2 => pv_if_ne (tgt := 12) hc dX1_days_7 (by decide) h k1 k2) (fun h => ?_) (fun h => ?_)
  · refine vm_l (fun h9 => pv_aload_n 0 hc dX1_days_12 rfl rfl h9) ?_
    obtain ⟨s3, gs3, h⟩ := RD_el h
    refine vm_l (fun h9 => gf_X1_83 hc hX1 gs3 dX1_days_13 h9) ?_
    obtain ⟨s4, gs4, h⟩ := RD_el h
    refine vm_l (fun h9 => gf_X1_266 hc hX4 gs4 dX1_days_16 h9) ?_
    refine vm_l (fun h9 => pv_sipush (400 : Int32) hc dX1_days_19 rfl h9) ?_
    refine vm_ifn h (fun h k1 k2 => pv_icmp_ne (tgt := 27) hc dX1_days_22 (by decide) h k1 k2) (fun h => ?_) (fun h => ?_)
    · refine vm_l (fun h9 => pv_aload_n 0 hc dX1_days_27 rfl rfl h9) ?_
      obtain ⟨w7, hf6, h⟩ := BD_el h
      obtain ⟨hm8, h⟩ := MG_el h
      refine vm_call hR hm8 rfl rfl (fun hcap h9 => pv_callV (nA := 0) hc (x1_keep_ok hW hX1 hX3 hX4 hf6) gs3 (o_X1 hX1) (xk0 hX1) (lw_V q936 q938 qs11 q109 q939) (by decide +kernel) ⟨(by decide), by decide⟩ rfl rfl (Nat.le_of_ble_eq_true rfl) dX1_days_28 hcap h9) ?_
      refine vm_l (fun h9 => pv_aload_n 0 hc dX1_days_31 rfl rfl h9) ?_
      obtain ⟨s9, gs9, h⟩ := RD_el h
      refine vm_l (fun h9 => gf_X1_83 hc hX1 gs9 dX1_days_32 h9) ?_
      refine vm_l (fun h9 => pv_aload_n 0 hc dX1_days_35 rfl rfl h9) ?_
      obtain ⟨b10, hb10, h⟩ := BD_el h
      refine vm_l (fun h9 => gp_X1_76 hc hX1 gs9 hb10 dX1_days_36 h9) ?_
      refine vm_l (fun h9 => pv_iload_n 1 hc dX1_days_39 rfl rfl h9) ?_
      obtain ⟨s12, gs12, h⟩ := RD_el h
      obtain ⟨s13, gs13, h⟩ := RD_el h
      obtain ⟨v16, s14, hf11, h⟩ := BD2_el h
      obtain ⟨w15, hw15, h⟩ := LT_el h
      refine vm_e hw15 rfl (fun h9 hk9 hn9 => pv_callV (nA := 2) hc (x4_days_ok hX3 hX4 gs12 gs13 hf11) gs12 (h_X4 hX4) hX4.1 (lw_V q973 q974 q975 q114 q976) (by decide +kernel) ⟨(by decide), by decide⟩ rfl rfl (Nat.le_of_ble_eq_true rfl) dX1_days_40 ⟨hk9, hn9⟩ h9 hk9 hn9) ?_
      obtain ⟨rfl, rfl⟩ := Prod.mk.inj (Option.some.inj h)
      exact fun _ => ⟨Nat.le_refl _, pv_iret hc hr hQ rfl rfl dX1_days_43⟩
    · refine vm_l (fun h9 => pv_iconst (0 : Int32) hc dX1_days_25 rfl h9) ?_
      obtain ⟨rfl, rfl⟩ := Prod.mk.inj (Option.some.inj h)
      exact fun _ => ⟨Nat.le_refl _, pv_iret hc hr hQ rfl rfl dX1_days_26⟩
  · refine vm_l (fun h9 => pv_iconst (-1 : Int32) hc dX1_days_10 rfl h9) ?_
    obtain ⟨rfl, rfl⟩ := Prod.mk.inj (Option.some.inj h)
    exact fun _ => ⟨Nat.le_refl _, pv_iret hc hr hQ rfl rfl dX1_days_11⟩
def x1_drawn (G : Wd) (a : Nat) (x1 : Int32) (x2 : Int32) : Option (Int32 × Wd) := BD (x1_isIn x1 (1 : Int32) (60 : Int32)) (fun v2 => (if v2 = 0 then some ((-1 : Int32), G) else RD G a 0 (fun s3 => RD G (a + 13) 3 (fun s4 => JN1 (fun (s5 : Wd) => RD s5 a 0 (fun s7 => BD (gP s7 6) (fun b8 => RD s5 (a + 13) 3 (fun s10 => RD s5 b8 2 (fun s11 => BD2 (x4_draws s10 s11 x1 x2) (fun v14 s12 => LT (wp s5 (a + 13) 3 s12) (fun w13 => some (v14, w13)))))))) (fun (j6 : Wd → Option (Int32 × Wd)) => (if (400 : Int32) ≤ (gI s4 7) then j6 G else BD (x1_keep G a) (fun w17 => MG G w17 (j6 w17))))))))
set_option maxHeartbeats 4000000 in
theorem x1_drawn_ok {l : Launch} {g : Gh} (hW : OKW g) (hX1 : OKX1 g) (hX3 : OKX3 g) (hX4 : OKX4 g) {G : Wd} {a : Nat} {x1 : Int32} {x2 : Int32} {r : Int32} {G' : Wd} (hf : x1_drawn G a x1 x2 = some (r, G')) : MTa l g yX1_drawn cX1_drawn 3 (some .int) 7 (G'.1 - G.1) (1200 * (G'.1 - G.1)) G [.ref a, .int x1, .int x2] (some (.int r)) G' := by
  refine vm_start (by decide) (Nat.le_of_ble_eq_true rfl) ?_
  intro X hl hg hN hc hr hni hR hQ
  subst hl; subst hg
  have h := hf
  unfold x1_drawn at h
  show VM X G G' G [(0, .ref a), (1, .int x1), (2, .int x2)] [] 0
  refine vm_l (fun h9 => pv_iload_n 1 hc dX1_drawn_0 rfl rfl h9) ?_
  refine vm_l (fun h9 => pv_iconst (1 : Int32) hc dX1_drawn_1 rfl h9) ?_
  refine vm_l (fun h9 => pv_bipush (60 : Int32) hc dX1_drawn_2 rfl h9) ?_
  obtain ⟨v2, hf1, h⟩ := BD_el h
  refine vm_l (fun h9 hk9 hn9 => pv_callS (nA := 3) hc (x1_isIn_ok   hf1) (lw_S q850 q678 q109 q679) (by decide +kernel) ⟨(by decide), by decide⟩ rfl rfl (Nat.le_of_ble_eq_true rfl) dX1_drawn_4 ⟨hk9, hn9⟩ h9 hk9 hn9) ?_
  refine vm_ifn h (fun h k1 k2 => pv_if_ne (tgt := 12) hc dX1_drawn_7 (by decide) h k1 k2) (fun h => ?_) (fun h => ?_)
  · refine vm_l (fun h9 => pv_aload_n 0 hc dX1_drawn_12 rfl rfl h9) ?_
    obtain ⟨s3, gs3, h⟩ := RD_el h
    refine vm_l (fun h9 => gf_X1_83 hc hX1 gs3 dX1_drawn_13 h9) ?_
    obtain ⟨s4, gs4, h⟩ := RD_el h
    refine vm_l (fun h9 => gf_X1_266 hc hX4 gs4 dX1_drawn_16 h9) ?_
    refine vm_l (fun h9 => pv_sipush (400 : Int32) hc dX1_drawn_19 rfl h9) ?_
    obtain ⟨j6, hj6, h⟩ := JN1_el (P := fun s5 => VM X G G' s5 [(0, .ref a), (1, .int x1), (2, .int x2)] [] 29) h (by
        intro s5 h
        refine vm_l (fun h9 => pv_aload_n 0 hc dX1_drawn_29 rfl rfl h9) ?_
        obtain ⟨s7, gs7, h⟩ := RD_el h
        refine vm_l (fun h9 => gf_X1_83 hc hX1 gs7 dX1_drawn_30 h9) ?_
        refine vm_l (fun h9 => pv_aload_n 0 hc dX1_drawn_33 rfl rfl h9) ?_
        obtain ⟨b8, hb8, h⟩ := BD_el h
        refine vm_l (fun h9 => gp_X1_76 hc hX1 gs7 hb8 dX1_drawn_34 h9) ?_
        refine vm_l (fun h9 => pv_iload_n 1 hc dX1_drawn_37 rfl rfl h9) ?_
        refine vm_l (fun h9 => pv_iload_n 2 hc dX1_drawn_38 rfl rfl h9) ?_
        obtain ⟨s10, gs10, h⟩ := RD_el h
        obtain ⟨s11, gs11, h⟩ := RD_el h
        obtain ⟨v14, s12, hf9, h⟩ := BD2_el h
        obtain ⟨w13, hw13, h⟩ := LT_el h
        refine vm_e hw13 rfl (fun h9 hk9 hn9 => pv_callV (nA := 3) hc (x4_draws_ok hX3 hX4 gs10 gs11 hf9) gs10 (h_X4 hX4) hX4.1 (lw_V q1143 q1144 q1145 q114 q1146) (by decide +kernel) ⟨(by decide), by decide⟩ rfl rfl (Nat.le_of_ble_eq_true rfl) dX1_drawn_39 ⟨hk9, hn9⟩ h9 hk9 hn9) ?_
        obtain ⟨rfl, rfl⟩ := Prod.mk.inj (Option.some.inj h)
        exact fun _ => ⟨Nat.le_refl _, pv_iret hc hr hQ rfl rfl dX1_drawn_42⟩)
    refine vm_if h (fun h k1 k2 => pv_icmp_ge (tgt := 29) hc dX1_drawn_22 (by decide) h k1 k2) (fun h => ?_) (fun h => ?_)
    · exact hj6 _ h
    · refine vm_l (fun h9 => pv_aload_n 0 hc dX1_drawn_25 rfl rfl h9) ?_
      obtain ⟨w17, hf16, h⟩ := BD_el h
      obtain ⟨hm18, h⟩ := MG_el h
      refine vm_call hR hm18 rfl rfl (fun hcap h9 => pv_callV (nA := 0) hc (x1_keep_ok hW hX1 hX3 hX4 hf16) gs3 (o_X1 hX1) (xk0 hX1) (lw_V q936 q938 qs11 q109 q939) (by decide +kernel) ⟨(by decide), by decide⟩ rfl rfl (Nat.le_of_ble_eq_true rfl) dX1_drawn_26 hcap h9) ?_
      exact hj6 _ h
  · refine vm_l (fun h9 => pv_iconst (-1 : Int32) hc dX1_drawn_10 rfl h9) ?_
    obtain ⟨rfl, rfl⟩ := Prod.mk.inj (Option.some.inj h)
    exact fun _ => ⟨Nat.le_refl _, pv_iret hc hr hQ rfl rfl dX1_drawn_11⟩
def x1_image (G : Wd) (a : Nat) (x1 : Int32) : Option (Int32 × Wd) := BD (x1_isIn x1 (0 : Int32) (1 : Int32)) (fun v2 => (if v2 = 0 then some ((0 : Int32), G) else RD G a 0 (fun s3 => IX x1 2 (fun i4 => JN1 (fun (s5 : Wd) => RD s5 a 0 (fun s7 => IX x1 2 (fun i8 => BD (gQ s7 32 i8) (fun b9 => RD s5 b9 17 (fun s10 => LT (sP s10 0 (gP s7 6)) (fun s11 => LT (wp s5 b9 17 s11) (fun w12 => BD (gP s11 1) (fun b13 => RD w12 a 0 (fun s14 => RD w12 b13 3 (fun s16 => RD w12 (a + 13) 3 (fun s17 => NE (a + 13) b13 (BD (x4_be s16 s17) (fun s19 => LT (wp w12 b13 3 s19) (fun w20 => RD w20 a 0 (fun s21 => RD w20 b9 17 (fun s22 => LT (sP s22 2 (gP s21 31)) (fun s23 => LT (wp w20 b9 17 s23) (fun w24 => some ((1 : Int32), w24))))))))))))))))))) (fun (j6 : Wd → Option (Int32 × Wd)) => (if (gQ s3 32 i4) = none then LT (wn G 17 r0) (fun w25 => LT G.1 (fun b26 => BD (x20_init w25 b26) (fun w29 => MG w25 w29 (RD w29 a 0 (fun s31 => RD w29 b26 17 (fun s32 => LT (sQ s31 32 i4 (some b26)) (fun s33 => LT (wp w29 a 0 s33) (fun w34 => j6 w34)))))))) else j6 G))))))
set_option maxHeartbeats 4000000 in
theorem x1_image_ok {l : Launch} {g : Gh} (hW : OKW g) (hX1 : OKX1 g) (hX3 : OKX3 g) (hX4 : OKX4 g) {G : Wd} {a : Nat} {x1 : Int32} {r : Int32} {G' : Wd} (hf : x1_image G a x1 = some (r, G')) : MTa l g yX1_image cX1_image 3 (some .boolean) 4 (G'.1 - G.1) (1200 * (G'.1 - G.1)) G [.ref a, .int x1] (some (.int r)) G' := by
  refine vm_start (by decide) (Nat.le_of_ble_eq_true rfl) ?_
  intro X hl hg hN hc hr hni hR hQ
  subst hl; subst hg
  have h := hf
  unfold x1_image at h
  show VM X G G' G [(0, .ref a), (1, .int x1)] [] 0
  refine vm_l (fun h9 => pv_iload_n 1 hc dX1_image_0 rfl rfl h9) ?_
  refine vm_l (fun h9 => pv_iconst (0 : Int32) hc dX1_image_1 rfl h9) ?_
  refine vm_l (fun h9 => pv_iconst (1 : Int32) hc dX1_image_2 rfl h9) ?_
  obtain ⟨v2, hf1, h⟩ := BD_el h
  refine vm_l (fun h9 hk9 hn9 => pv_callS (nA := 3) hc (x1_isIn_ok   hf1) (lw_S q850 q678 q109 q679) (by decide +kernel) ⟨(by decide), by decide⟩ rfl rfl (Nat.le_of_ble_eq_true rfl) dX1_image_3 ⟨hk9, hn9⟩ h9 hk9 hn9) ?_
  refine vm_ifn h (fun h k1 k2 => pv_if_ne (tgt := 11) hc dX1_image_6 (by decide) h k1 k2) (fun h => ?_) (fun h => ?_)
  · refine vm_l (fun h9 => pv_aload_n 0 hc dX1_image_11 rfl rfl h9) ?_
    obtain ⟨s3, gs3, h⟩ := RD_el h
    refine vm_l (fun h9 => gf_X1_142 hc hX1 gs3 dX1_image_12 h9) ?_
    refine vm_l (fun h9 => pv_iload_n 1 hc dX1_image_15 rfl rfl h9) ?_
    obtain ⟨i4, hi4, h⟩ := IX_el h
    refine vm_l (fun h9 => pv_aaldN hc gs3 (v_images hX1) 6 (xt6 hX1) hi4 dX1_image_16 h9) ?_
    obtain ⟨j6, hj6, h⟩ := JN1_el (P := fun s5 => VM X G G' s5 [(0, .ref a), (1, .int x1)] [] 33) h (by
        intro s5 h
        refine vm_l (fun h9 => pv_aload_n 0 hc dX1_image_33 rfl rfl h9) ?_
        obtain ⟨s7, gs7, h⟩ := RD_el h
        refine vm_l (fun h9 => gf_X1_142 hc hX1 gs7 dX1_image_34 h9) ?_
        refine vm_l (fun h9 => pv_iload_n 1 hc dX1_image_37 rfl rfl h9) ?_
        obtain ⟨i8, hi8, h⟩ := IX_el h
        obtain ⟨b9, hb9, h⟩ := BD_el h
        refine vm_l (fun h9 => pv_aald hc gs7 (v_images hX1) 6 (xt6 hX1) hi8 hb9 dX1_image_38 h9) ?_
        refine vm_l (fun h9 => pv_astore_n (L' := [(2, .ref b9), (0, .ref a), (1, .int x1)]) hc dX1_image_39 rfl hN (by decide) rfl h9) ?_
        refine vm_l (fun h9 => pv_aload_n 0 hc dX1_image_40 rfl rfl h9) ?_
        refine vm_l (fun h9 => pv_aload_n 1 hc dX1_image_41 rfl rfl h9) ?_
        refine vm_l (fun h9 => gf_X1_76 hc hX1 gs7 dX1_image_42 h9) ?_
        obtain ⟨s10, gs10, h⟩ := RD_el h
        obtain ⟨s11, hs11, h⟩ := LT_el h
        obtain ⟨w12, hw12, h⟩ := LT_el h
        refine vm_e hw12 rfl (fun h9 => pw_X1_458 (x := (gP s7 6)) hc hW gs10 hs11 rfl dX1_image_45 h9) ?_
        refine vm_l (fun h9 => pv_aload_n 0 hc dX1_image_48 rfl rfl h9) ?_
        obtain ⟨b13, hb13, h⟩ := BD_el h
        refine vm_l (fun h9 => gq_X1_459 hc hW (wp_at' hw12) hb13 dX1_image_49 h9) ?_
        refine vm_l (fun h9 => pv_aload_n 1 hc dX1_image_52 rfl rfl h9) ?_
        obtain ⟨s14, gs14, h⟩ := RD_el h
        refine vm_l (fun h9 => gf_X1_83 hc hX1 gs14 dX1_image_53 h9) ?_
        obtain ⟨s16, gs16, h⟩ := RD_el h
        obtain ⟨s17, gs17, h⟩ := RD_el h
        obtain ⟨ne18, h⟩ := NE_el h
        obtain ⟨s19, hf15, h⟩ := BD_el h
        obtain ⟨w20, hw20, h⟩ := LT_el h
        refine vm_e hw20 rfl (fun h9 hk9 hn9 => pv_callV (nA := 1) hc (x4_be_ok hX4 gs16 gs17 ne18 hf15) gs16 (h_X4 hX4) hX4.1 (lw_V q916 q917 q918 q114 q919) (by decide +kernel) ⟨(by decide), by decide⟩ rfl rfl (Nat.le_of_ble_eq_true rfl) dX1_image_56 ⟨hk9, hn9⟩ h9 hk9 hn9) ?_
        refine vm_l (fun h9 => pv_aload_n 0 hc dX1_image_59 rfl rfl h9) ?_
        refine vm_l (fun h9 => pv_aload_n 1 hc dX1_image_60 rfl rfl h9) ?_
        obtain ⟨s21, gs21, h⟩ := RD_el h
        refine vm_l (fun h9 => gf_X1_172 hc hX1 gs21 dX1_image_61 h9) ?_
        obtain ⟨s22, gs22, h⟩ := RD_el h
        obtain ⟨s23, hs23, h⟩ := LT_el h
        obtain ⟨w24, hw24, h⟩ := LT_el h
        refine vm_e hw24 rfl (fun h9 => pw_X1_462 (x := (gP s21 31)) hc hW gs22 hs23 rfl dX1_image_64 h9) ?_
        refine vm_l (fun h9 => pv_iconst (1 : Int32) hc dX1_image_67 rfl h9) ?_
        obtain ⟨rfl, rfl⟩ := Prod.mk.inj (Option.some.inj h)
        exact fun _ => ⟨Nat.le_refl _, pv_zret hc hr hQ (by decide) rfl rfl dX1_image_68⟩)
    refine vm_ifn h (fun h k1 k2 => pv_ifnonnull (tgt := 33) hc dX1_image_17 (by decide) h k1 k2) (fun h => ?_) (fun h => ?_)
    · exact hj6 _ h
    · refine vm_l (fun h9 => pv_aload_n 0 hc dX1_image_20 rfl rfl h9) ?_
      refine vm_l (fun h9 => gf_X1_142 hc hX1 gs3 dX1_image_21 h9) ?_
      refine vm_l (fun h9 => pv_iload_n 1 hc dX1_image_24 rfl rfl h9) ?_
      obtain ⟨w25, hw25, h⟩ := LT_el h
      obtain ⟨b26, hb26, h⟩ := LT_el h
      refine vm_new (N := 3) (w1 := w25) hR (by decide) (by rw [hw25]; rfl) (fun hcap h9 => pv_new2 (r := r0) (kd := 17) hw25 hb26 hc (wc17 hW) in_X20 tyX20 tyX20_ok q519 q1472 q141 (we17 hW _ _) (fun j hj => by match j, hj with | 0, _ => rfl | 1, _ => rfl | 2, _ => rfl) hcap dX1_image_25 h9) ?_
      refine vm_l (fun h9 => pv_dup hc dX1_image_28 rfl h9) ?_
      obtain ⟨w29, hf28, h⟩ := BD_el h
      obtain ⟨hm30, h⟩ := MG_el h
      refine vm_call hR hm30 rfl rfl (fun hcap h9 => pv_callIN (nA := 0) hc (x20_init_ok hW hX1 hX3 hX4 hf28) q1473 q1474 q141 q1475 rfl (by decide +kernel) ⟨(by decide), by decide⟩ rfl rfl (Nat.le_of_ble_eq_true rfl) dX1_image_29 hcap h9) ?_
      obtain ⟨s31, gs31, h⟩ := RD_el h
      obtain ⟨s32, gs32, h⟩ := RD_el h
      obtain ⟨s33, hs33, h⟩ := LT_el h
      obtain ⟨w34, hw34, h⟩ := LT_el h
      refine vm_e hw34 rfl (fun h9 => pv_aast hc gs31 (v_images hX1) 6 (xt6 hX1) gs32 (wo_17 hW) (wc17 hW) (Or.inl rfl) hi4 (r' := s33) (by subst hs33; rw [xenc hX1, xenc hX1]; rfl) dX1_image_32 h9) ?_
      exact hj6 _ h
  · refine vm_l (fun h9 => pv_iconst (0 : Int32) hc dX1_image_9 rfl h9) ?_
    obtain ⟨rfl, rfl⟩ := Prod.mk.inj (Option.some.inj h)
    exact fun _ => ⟨Nat.le_refl _, pv_zret hc hr hQ (by decide) rfl rfl dX1_image_10⟩
def x1_restore (G : Wd) (a : Nat) (x1 : Int32) : Option (Int32 × Wd) := BD (x1_isIn x1 (0 : Int32) (1 : Int32)) (fun v2 => (if v2 = 0 then some ((0 : Int32), G) else RD G a 0 (fun s3 => IX x1 2 (fun i4 => (if (gQ s3 32 i4) = none then some ((0 : Int32), G) else BD (gQ s3 32 i4) (fun b5 => RD G b5 17 (fun s6 => BD (gP s6 0) (fun b7 => LT (sP s3 6 (some b7)) (fun s8 => LT (wp G a 0 s8) (fun w9 => RD w9 b5 17 (fun s10 => BD (gP s10 1) (fun b11 => RD w9 (a + 13) 3 (fun s13 => RD w9 b11 3 (fun s14 => NE b11 (a + 13) (BD (x4_be s13 s14) (fun s16 => LT (wp w9 (a + 13) 3 s16) (fun w17 => RD w17 b5 17 (fun s18 => RD w17 a 0 (fun s19 => LT (sP s19 31 (gP s18 2)) (fun s20 => LT (wp w17 a 0 s20) (fun w21 => LT (sI s20 13 (0 : Int32)) (fun s22 => LT (wp w21 a 0 s22) (fun w23 => some ((1 : Int32), w23))))))))))))))))))))))))
set_option maxHeartbeats 4000000 in
theorem x1_restore_ok {l : Launch} {g : Gh} (hW : OKW g) (hX1 : OKX1 g) (hX3 : OKX3 g) (hX4 : OKX4 g) {G : Wd} {a : Nat} {x1 : Int32} {r : Int32} {G' : Wd} (hf : x1_restore G a x1 = some (r, G')) : MTa l g yX1_restore cX1_restore 3 (some .boolean) 3 (G'.1 - G.1) (1200 * (G'.1 - G.1)) G [.ref a, .int x1] (some (.int r)) G' := by
  refine vm_start (by decide) (Nat.le_of_ble_eq_true rfl) ?_
  intro X hl hg hN hc hr hni hR hQ
  subst hl; subst hg
  have h := hf
  unfold x1_restore at h
  show VM X G G' G [(0, .ref a), (1, .int x1)] [] 0
  refine vm_l (fun h9 => pv_iload_n 1 hc dX1_restore_0 rfl rfl h9) ?_
  refine vm_l (fun h9 => pv_iconst (0 : Int32) hc dX1_restore_1 rfl h9) ?_
  refine vm_l (fun h9 => pv_iconst (1 : Int32) hc dX1_restore_2 rfl h9) ?_
  obtain ⟨v2, hf1, h⟩ := BD_el h
  refine vm_l (fun h9 hk9 hn9 => pv_callS (nA := 3) hc (x1_isIn_ok   hf1) (lw_S q850 q678 q109 q679) (by decide +kernel) ⟨(by decide), by decide⟩ rfl rfl (Nat.le_of_ble_eq_true rfl) dX1_restore_3 ⟨hk9, hn9⟩ h9 hk9 hn9) ?_
  refine vm_if h (fun h k1 k2 => pv_if_eq (tgt := 18) hc dX1_restore_6 (by decide) h k1 k2) (fun h => ?_) (fun h => ?_)
  · refine vm_l (fun h9 => pv_iconst (0 : Int32) hc dX1_restore_18 rfl h9) ?_
    obtain ⟨rfl, rfl⟩ := Prod.mk.inj (Option.some.inj h)
    exact fun _ => ⟨Nat.le_refl _, pv_zret hc hr hQ (by decide) rfl rfl dX1_restore_19⟩
  · refine vm_l (fun h9 => pv_aload_n 0 hc dX1_restore_9 rfl rfl h9) ?_
    obtain ⟨s3, gs3, h⟩ := RD_el h
    refine vm_l (fun h9 => gf_X1_142 hc hX1 gs3 dX1_restore_10 h9) ?_
    refine vm_l (fun h9 => pv_iload_n 1 hc dX1_restore_13 rfl rfl h9) ?_
    obtain ⟨i4, hi4, h⟩ := IX_el h
    refine vm_l (fun h9 => pv_aaldN hc gs3 (v_images hX1) 6 (xt6 hX1) hi4 dX1_restore_14 h9) ?_
    refine vm_ifn h (fun h k1 k2 => pv_ifnonnull (tgt := 20) hc dX1_restore_15 (by decide) h k1 k2) (fun h => ?_) (fun h => ?_)
    · refine vm_l (fun h9 => pv_aload_n 0 hc dX1_restore_20 rfl rfl h9) ?_
      refine vm_l (fun h9 => gf_X1_142 hc hX1 gs3 dX1_restore_21 h9) ?_
      refine vm_l (fun h9 => pv_iload_n 1 hc dX1_restore_24 rfl rfl h9) ?_
      obtain ⟨b5, hb5, h⟩ := BD_el h
      refine vm_l (fun h9 => pv_aald hc gs3 (v_images hX1) 6 (xt6 hX1) hi4 hb5 dX1_restore_25 h9) ?_
      refine vm_l (fun h9 => pv_astore_n (L' := [(2, .ref b5), (0, .ref a), (1, .int x1)]) hc dX1_restore_26 rfl hN (by decide) rfl h9) ?_
      refine vm_l (fun h9 => pv_aload_n 1 hc dX1_restore_27 rfl rfl h9) ?_
      refine vm_l (fun h9 => pv_aload_n 0 hc dX1_restore_28 rfl rfl h9) ?_
      obtain ⟨s6, gs6, h⟩ := RD_el h
      obtain ⟨b7, hb7, h⟩ := BD_el h
      refine vm_l (fun h9 => gq_X1_458 hc hW gs6 hb7 dX1_restore_29 h9) ?_
      obtain ⟨s8, hs8, h⟩ := LT_el h
      obtain ⟨w9, hw9, h⟩ := LT_el h
      refine vm_e hw9 rfl (fun h9 => pf_X1_76 (x := (some b7)) hc hX1 gs3 hs8 rfl dX1_restore_32 h9) ?_
      refine vm_l (fun h9 => pv_aload_n 1 hc dX1_restore_35 rfl rfl h9) ?_
      refine vm_l (fun h9 => gf_X1_83 hc hX1 (wp_at' hw9) dX1_restore_36 h9) ?_
      refine vm_l (fun h9 => pv_aload_n 0 hc dX1_restore_39 rfl rfl h9) ?_
      obtain ⟨s10, gs10, h⟩ := RD_el h
      obtain ⟨b11, hb11, h⟩ := BD_el h
      refine vm_l (fun h9 => gq_X1_459 hc hW gs10 hb11 dX1_restore_40 h9) ?_
      obtain ⟨s13, gs13, h⟩ := RD_el h
      obtain ⟨s14, gs14, h⟩ := RD_el h
      obtain ⟨ne15, h⟩ := NE_el h
      obtain ⟨s16, hf12, h⟩ := BD_el h
      obtain ⟨w17, hw17, h⟩ := LT_el h
      refine vm_e hw17 rfl (fun h9 hk9 hn9 => pv_callV (nA := 1) hc (x4_be_ok hX4 gs13 gs14 ne15 hf12) gs13 (h_X4 hX4) hX4.1 (lw_V q916 q917 q918 q114 q919) (by decide +kernel) ⟨(by decide), by decide⟩ rfl rfl (Nat.le_of_ble_eq_true rfl) dX1_restore_43 ⟨hk9, hn9⟩ h9 hk9 hn9) ?_
      refine vm_l (fun h9 => pv_aload_n 1 hc dX1_restore_46 rfl rfl h9) ?_
      refine vm_l (fun h9 => pv_aload_n 0 hc dX1_restore_47 rfl rfl h9) ?_
      obtain ⟨s18, gs18, h⟩ := RD_el h
      refine vm_l (fun h9 => gw_X1_462 hc hW gs18 dX1_restore_48 h9) ?_
      obtain ⟨s19, gs19, h⟩ := RD_el h
      obtain ⟨s20, hs20, h⟩ := LT_el h
      obtain ⟨w21, hw21, h⟩ := LT_el h
      refine vm_e hw21 rfl (fun h9 => pf_X1_172 (x := (gP s18 2)) hc hX1 gs19 hs20 rfl dX1_restore_51 h9) ?_
      refine vm_l (fun h9 => pv_aload_n 1 hc dX1_restore_54 rfl rfl h9) ?_
      refine vm_l (fun h9 => pv_iconst (0 : Int32) hc dX1_restore_55 rfl h9) ?_
      obtain ⟨s22, hs22, h⟩ := LT_el h
      obtain ⟨w23, hw23, h⟩ := LT_el h
      refine vm_e hw23 rfl (fun h9 => pf_X1_169 hc hX1 (wp_at' hw21) hs22 rfl dX1_restore_56 h9) ?_
      refine vm_l (fun h9 => pv_iconst (1 : Int32) hc dX1_restore_59 rfl h9) ?_
      obtain ⟨rfl, rfl⟩ := Prod.mk.inj (Option.some.inj h)
      exact fun _ => ⟨Nat.le_refl _, pv_zret hc hr hQ (by decide) rfl rfl dX1_restore_60⟩
    · refine vm_l (fun h9 => pv_iconst (0 : Int32) hc dX1_restore_18 rfl h9) ?_
      obtain ⟨rfl, rfl⟩ := Prod.mk.inj (Option.some.inj h)
      exact fun _ => ⟨Nat.le_refl _, pv_zret hc hr hQ (by decide) rfl rfl dX1_restore_19⟩
