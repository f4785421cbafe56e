/-! The reader of sentences (written by gen/x6.py) -/
set_option maxRecDepth 100000
def b_single (rs ra : Wd → Nat → Int32 → Option (Option Nat × Wd)) (G : Wd) (a : Nat) (x1 : Int32) : Option (Option Nat × Wd) := RD G a 0 (fun s3 => BD (x5_is 2 s3 38) (fun v4 => BD (x5_is_2 2 s3 (40 : Int32)) (fun v7 => BD (x5_find 2 s3 (fun i => i + 30) 5) (fun v10 => BD (x5_find 2 s3 (fun i => i + 35) 3) (fun v13 => JN1 (fun (v14 : Int32) => RD G a 0 (fun s18 => BX (x5_must 2 s18 v14 (1 : Int32)) (fun s19 => some (none, (wp G a 0 s19))) (fun u21 s19 => LT (wp G a 0 s19) (fun w20 => JN1 (fun (v22 : Int32) => RD w20 a 0 (fun s26 => BX (x5_must 2 s26 v22 (4 : Int32)) (fun s27 => some (none, (wp w20 a 0 s27))) (fun u29 s27 => LT (wp w20 a 0 s27) (fun w28 => LT (sI s27 150 ((gI s27 150) + (1 : Int32))) (fun s30 => LT (wp w28 a 0 s30) (fun w31 => BD (x5_next 2 s30) (fun s34 => LT (wp w31 a 0 s34) (fun w35 => (if v4 = 0 then (if v7 = 0 then (if v10 = (-1 : Int32) then BD (x5_is_2 2 s34 (60 : Int32)) (fun v38 => JN1 (fun (v39 : Int32) => RD w35 a 0 (fun s43 => BX (x5_must 2 s43 v39 (1 : Int32)) (fun s44 => some (none, (wp w35 a 0 s44))) (fun u46 s44 => LT (wp w35 a 0 s44) (fun w45 => BD (x5_next 2 s44) (fun s49 => LT (wp w45 a 0 s49) (fun w50 => JN1 (fun (v51 : Int32) => RD w50 a 0 (fun s55 => BX (x5_must 2 s55 v51 (1 : Int32)) (fun s56 => some (none, (wp w50 a 0 s56))) (fun u58 s56 => LT (wp w50 a 0 s56) (fun w57 => BD (x5_next 2 s56) (fun s61 => LT (wp w57 a 0 s61) (fun w62 => LT (wn w62 14 r0) (fun w63 => LT w62.1 (fun b64 => BD (x17_init w63 b64 v13 (gI s44 144) (gI s56 144)) (fun w67 => MG w63 w67 (some (some b64, w67))))))))))) (fun (j52 : Int32 → Option (Option Nat × Wd)) => (if (gI s49 143) = (2 : Int32) then j52 (1 : Int32) else j52 (0 : Int32))))))))) (fun (j40 : Int32 → Option (Option Nat × Wd)) => (if v38 = 0 then BD (x5_is_2 2 s34 (61 : Int32)) (fun v71 => (if v71 = 0 then BD (x5_is_2 2 s34 (62 : Int32)) (fun v74 => (if v74 = 0 then j40 (0 : Int32) else j40 (1 : Int32))) else j40 (1 : Int32))) else j40 (1 : Int32)))) else LT (wn w35 13 r0) (fun w75 => LT w35.1 (fun b76 => (if (2 : Int32) ≤ v10 then (if (4 : Int32) ≤ v10 then RD w75 a 0 (fun s77 => BD (gP s77 6) (fun b78 => RD w75 b78 2 (fun s79 => BD (gP s77 6) (fun b80 => RD w75 b80 2 (fun s81 => BX (x5_known 2 s77 (gL s79 2) 4 (gI s81 9)) (fun s84 => some (none, (wp w75 a 0 s84))) (fun v86 s84 => LT (wp w75 a 0 s84) (fun w85 => BD (x16_init w85 b76 v10 v86) (fun w89 => MG w85 w89 (some (some b76, w89)))))))))) else RD w75 a 0 (fun s91 => BD (gP s91 6) (fun b92 => RD w75 b92 2 (fun s93 => BD (gP s91 6) (fun b94 => RD w75 b94 2 (fun s95 => BX (x5_known 2 s91 (gL s93 0) 5 (gI s95 7)) (fun s98 => some (none, (wp w75 a 0 s98))) (fun v100 s98 => LT (wp w75 a 0 s98) (fun w99 => BD (x16_init w99 b76 v10 v100) (fun w103 => MG w99 w103 (some (some b76, w103))))))))))) else BD (x16_init w75 b76 v10 (-1 : Int32)) (fun w107 => MG w75 w107 (some (some b76, w107))))))) else BXW (ra w35 a (x1 + (1 : Int32))) (fun w111 => MG w35 w111 (some (none, w111))) (fun v112 w111 => MG w35 w111 (RD w111 a 0 (fun s116 => BX (x5_sign 2 s116 (41 : Int32)) (fun s117 => some (none, (wp w111 a 0 s117))) (fun u119 s117 => LT (wp w111 a 0 s117) (fun w118 => some (some v112, w118))))))) else LT (wn w35 12 r0) (fun w120 => LT w35.1 (fun b121 => RD w120 a 0 (fun s125 => BXW (rs w120 a (x1 + (1 : Int32))) (fun w124 => MG w120 w124 (some (none, w124))) (fun v126 w124 => MG w120 w124 (BD (x15_init w124 b121 v126) (fun w130 => MG w124 w130 (some (some b121, w130))))))))))))))))) (fun (j23 : Int32 → Option (Option Nat × Wd)) => (if (20 : Int32) ≤ (gI s19 150) then j23 (0 : Int32) else (if (8 : Int32) < x1 then j23 (0 : Int32) else j23 (1 : Int32)))))))) (fun (j15 : Int32 → Option (Option Nat × Wd)) => (if v4 = 0 then (if v7 = 0 then (if v10 = (-1 : Int32) then (if v13 = (-1 : Int32) then j15 (0 : Int32) else j15 (1 : Int32)) else j15 (1 : Int32)) else j15 (1 : Int32)) else j15 (1 : Int32))))))))
set_option maxHeartbeats 4000000 in
theorem b_single_ok {l : Launch} {g : Gh} {rs ra : Wd → Nat → Int32 → Option (Option Nat × Wd)} {N : Nat} (hrs : ∀ {G : Wd} {a : Nat} {x1 : Int32} {o : Option Nat} {G' : Wd}, rs G a x1 = some (o, G') → MXa l g yX8_single cX8_single 8 (some (.object "ParlourLeaves$Cond")) (10 + 3 * N) (G'.1 - G.1) (1200 * (G'.1 - G.1)) (a + 2) "ParlourLeaves$Fault" G [.ref (a + 69), .int x1] (o.map (fun v => some (.ref v))) G') (hra : ∀ {G : Wd} {a : Nat} {x1 : Int32} {o : Option Nat} {G' : Wd}, ra G a x1 = some (o, G') → MXa l g yX8_any cX8_any 3 (some (.object "ParlourLeaves$Cond")) (10 + 3 * N + 2) (G'.1 - G.1) (1200 * (G'.1 - G.1)) (a + 2) "ParlourLeaves$Fault" G [.ref (a + 69), .int x1] (o.map (fun v => some (.ref v))) G') (hW : OKW g) (hX1 : OKX1 g) (hX3 : OKX3 g) (hX4 : OKX4 g) {G : Wd} {a : Nat} {x1 : Int32} {o : Option Nat} {G' : Wd} (hf : b_single rs ra G a x1 = some (o, G')) : MXa l g yX8_single cX8_single 8 (some (.object "ParlourLeaves$Cond")) (10 + 3 * N + 3) (G'.1 - G.1) (1200 * (G'.1 - G.1)) (a + 2) "ParlourLeaves$Fault" G [.ref (a + 69), .int x1] (o.map (fun v => some (.ref v))) G' := by
  refine vm_startX (by decide) (Nat.le_of_ble_eq_true rfl) ?_
  intro X hl hg hN hc hr htb hR hQ
  subst hl; subst hg
  have h := hf
  unfold b_single at h
  show VM X G G' G [(0, .ref (a + 69)), (1, .int x1)] [] 0
  refine vm_l (fun h9 => pv_aload_n 0 hc dX8_single_0 rfl rfl h9) ?_
  refine vm_l (fun h9 => pv_str hc ((xstr hX1 _ hc.2.2.2.2.2.1.2.2.1).2.1.2.2.2.2.2.2.2.2.2.2.2.2.2.2.2.2.2.2.2.2.2.2.2.2.2.2.2.2.2.2.2.2.2.2.2.2.2.2.1) dX8_single_1 h9) ?_
  obtain ⟨s3, gs3, h⟩ := RD_el h
  obtain ⟨v4, hf2, h⟩ := BD_el h
  refine vm_l (fun h9 => ca_X8_64 hc hX1 gs3 (x5_is_ok hX1 (j := 2) (by decide) gs3 (by decide) hf2) (by omega) (Nat.le_of_ble_eq_true rfl) dX8_single_3 h9) ?_
  refine vm_l (fun h9 => pv_istore_n (L' := [(2, .int v4), (0, .ref (a + 69)), (1, .int x1)]) hc dX8_single_6 rfl hN (by decide) rfl h9) ?_
  refine vm_l (fun h9 => pv_aload_n 1 hc dX8_single_7 rfl rfl h9) ?_
  refine vm_l (fun h9 => pv_bipush (40 : Int32) hc dX8_single_8 rfl h9) ?_
  obtain ⟨v7, hf6, h⟩ := BD_el h
  refine vm_l (fun h9 => ca_X8_86 hc hX1 gs3 (x5_is_2_ok hX1 (j := 2) (by decide) gs3 hf6) (by omega) (Nat.le_of_ble_eq_true rfl) dX8_single_10 h9) ?_
  refine vm_l (fun h9 => pv_istore_n (L' := [(3, .int v7), (2, .int v4), (0, .ref (a + 69)), (1, .int x1)]) hc dX8_single_13 rfl hN (by decide) rfl h9) ?_
  refine vm_l (fun h9 => pv_aload_n 2 hc dX8_single_14 rfl rfl h9) ?_
  refine vm_l (fun h9 => pv_aload_n 2 hc dX8_single_15 rfl rfl h9) ?_
  refine vm_l (fun h9 => gf_X8_27 hc hX1 gs3 dX8_single_16 h9) ?_
  obtain ⟨v10, hf9, h⟩ := BD_el h
  refine vm_l (fun h9 => ca_X8_89 hc hX1 gs3 (x5_find_ok hX1 (j := 2) (by decide) gs3 (fun _ => v_marks hX1) (fun i hi => by omega) hf9) (by omega) (Nat.le_of_ble_eq_true rfl) dX8_single_19 h9) ?_
  refine vm_l (fun h9 => pv_istore (L' := [(4, .int v10), (3, .int v7), (2, .int v4), (0, .ref (a + 69)), (1, .int x1)]) hc dX8_single_22 hN (by decide) rfl h9) ?_
  refine vm_l (fun h9 => pv_aload_n 3 hc dX8_single_24 rfl rfl h9) ?_
  refine vm_l (fun h9 => pv_aload_n 3 hc dX8_single_25 rfl rfl h9) ?_
  refine vm_l (fun h9 => gf_X8_37 hc hX1 gs3 dX8_single_26 h9) ?_
  obtain ⟨v13, hf12, h⟩ := BD_el h
  refine vm_l (fun h9 => ca_X8_89 hc hX1 gs3 (x5_find_ok hX1 (j := 2) (by decide) gs3 (fun _ => v_counts hX1) (fun i hi => by omega) hf12) (by omega) (Nat.le_of_ble_eq_true rfl) dX8_single_29 h9) ?_
  refine vm_l (fun h9 => pv_istore (L' := [(5, .int v13), (4, .int v10), (3, .int v7), (2, .int v4), (0, .ref (a + 69)), (1, .int x1)]) hc dX8_single_32 hN (by decide) rfl h9) ?_
  refine vm_l (fun h9 => pv_aload_n 4 hc dX8_single_34 rfl rfl h9) ?_
  refine vm_l (fun h9 => pv_iload_n 3 hc dX8_single_35 rfl rfl h9) ?_
  obtain ⟨j15, hj15, h⟩ := JN1_el (P := fun v14 => VM X G G' G [(0, .ref (a + 69)), (1, .int x1), (2, .int v4), (3, .int v7), (4, .int v10), (5, .int v13)] [.int v14, .ref (a + 69)] 60) h (by
      intro v14 h
      refine vm_l (fun h9 => pv_iconst (1 : Int32) hc dX8_single_60 rfl h9) ?_
      obtain ⟨s18, gs18, h⟩ := RD_el h
      rcases BX_el h with ⟨s19, hf17, h⟩ | ⟨u21, s19, hf17, h⟩
      · cases h
        exact vm_T0 hR rfl (fun hcap hk9 hn9 => px_backT hc htb (cr_X8_55 hc hX1 gs18 (x5_must_ok hX1 (j := 2) (by decide) gs18 hf17) (by omega) (Nat.le_of_ble_eq_true rfl) dX8_single_61) hcap hQ rfl rfl hk9 hn9)
      obtain ⟨w20, hw20, h⟩ := LT_el h
      refine vm_call0 hw20 rfl hR (fun hcap h9 => px_backRv (cr_X8_55 hc hX1 gs18 (x5_must_ok hX1 (j := 2) (by decide) gs18 hf17) (by omega) (Nat.le_of_ble_eq_true rfl) dX8_single_61) hcap h9) ?_
      refine vm_l (fun h9 => pv_aload_n 0 hc dX8_single_64 rfl rfl h9) ?_
      refine vm_l (fun h9 => pv_aload_n 0 hc dX8_single_65 rfl rfl h9) ?_
      refine vm_l (fun h9 => gf_X8_40 hc hX1 (wp_at' hw20) dX8_single_66 h9) ?_
      refine vm_l (fun h9 => pv_bipush (20 : Int32) hc dX8_single_69 rfl h9) ?_
      obtain ⟨j23, hj23, h⟩ := JN1_el (P := fun v22 => VM X G G' w20 [(0, .ref (a + 69)), (1, .int x1), (2, .int v4), (3, .int v7), (4, .int v10), (5, .int v13)] [.int v22, .ref (a + 69)] 85) h (by
          intro v22 h
          refine vm_l (fun h9 => pv_iconst (4 : Int32) hc dX8_single_85 rfl h9) ?_
          obtain ⟨s26, gs26, h⟩ := RD_el h
          rcases BX_el h with ⟨s27, hf25, h⟩ | ⟨u29, s27, hf25, h⟩
          · cases h
            exact vm_T0 hR rfl (fun hcap hk9 hn9 => px_backT hc htb (cr_X8_55 hc hX1 gs26 (x5_must_ok hX1 (j := 2) (by decide) gs26 hf25) (by omega) (Nat.le_of_ble_eq_true rfl) dX8_single_86) hcap hQ rfl rfl hk9 hn9)
          obtain ⟨w28, hw28, h⟩ := LT_el h
          refine vm_call0 hw28 rfl hR (fun hcap h9 => px_backRv (cr_X8_55 hc hX1 gs26 (x5_must_ok hX1 (j := 2) (by decide) gs26 hf25) (by omega) (Nat.le_of_ble_eq_true rfl) dX8_single_86) hcap h9) ?_
          refine vm_l (fun h9 => pv_aload_n 0 hc dX8_single_89 rfl rfl h9) ?_
          refine vm_l (fun h9 => pv_dup hc dX8_single_90 rfl h9) ?_
          refine vm_l (fun h9 => gf_X8_40 hc hX1 (wp_at' hw28) dX8_single_91 h9) ?_
          refine vm_l (fun h9 => pv_iconst (1 : Int32) hc dX8_single_94 rfl h9) ?_
          refine vm_l (fun h9 => pv_iadd hc dX8_single_95 h9) ?_
          obtain ⟨s30, hs30, h⟩ := LT_el h
          obtain ⟨w31, hw31, h⟩ := LT_el h
          refine vm_e hw31 rfl (fun h9 => pf_X8_40 hc hX1 (wp_at' hw28) hs30 rfl dX8_single_96 h9) ?_
          refine vm_l (fun h9 => pv_aload_n 0 hc dX8_single_99 rfl rfl h9) ?_
          obtain ⟨s34, hf33, h⟩ := BD_el h
          obtain ⟨w35, hw35, h⟩ := LT_el h
          refine vm_e hw35 rfl (fun h9 => ca_X8_68 hc hX1 (wp_at' hw31) (x5_next_ok hX1 (j := 2) (by decide) (wp_at' hw31) hf33) (by omega) (Nat.le_of_ble_eq_true rfl) dX8_single_100 h9) ?_
          refine vm_l (fun h9 => pv_iload_n 2 hc dX8_single_103 rfl rfl h9) ?_
          refine vm_if h (fun h k1 k2 => pv_if_eq (tgt := 122) hc dX8_single_104 (by decide) h k1 k2) (fun h => ?_) (fun h => ?_)
          · refine vm_l (fun h9 => pv_iload_n 3 hc dX8_single_122 rfl rfl h9) ?_
            refine vm_if h (fun h k1 k2 => pv_if_eq (tgt := 144) hc dX8_single_123 (by decide) h k1 k2) (fun h => ?_) (fun h => ?_)
            · refine vm_l (fun h9 => pv_iload 4 hc dX8_single_144 rfl h9) ?_
              refine vm_l (fun h9 => pv_iconst (-1 : Int32) hc dX8_single_146 rfl h9) ?_
              refine vm_if h (fun h k1 k2 => pv_icmp_eq (tgt := 227) hc dX8_single_147 (by decide) h k1 k2) (fun h => ?_) (fun h => ?_)
              · refine vm_l (fun h9 => pv_aload_n 0 hc dX8_single_227 rfl rfl h9) ?_
                refine vm_l (fun h9 => pv_aload_n 0 hc dX8_single_228 rfl rfl h9) ?_
                refine vm_l (fun h9 => pv_bipush (60 : Int32) hc dX8_single_229 rfl h9) ?_
                obtain ⟨v38, hf37, h⟩ := BD_el h
                refine vm_l (fun h9 => ca_X8_86 hc hX1 (wp_at' hw35) (x5_is_2_ok hX1 (j := 2) (by decide) (wp_at' hw35) hf37) (by omega) (Nat.le_of_ble_eq_true rfl) dX8_single_231 h9) ?_
                obtain ⟨j40, hj40, h⟩ := JN1_el (P := fun v39 => VM X G G' w35 [(0, .ref (a + 69)), (5, .int v13)] [.int v39, .ref (a + 69)] 260) h (by
                    intro v39 h
                    refine vm_l (fun h9 => pv_iconst (1 : Int32) hc dX8_single_260 rfl h9) ?_
                    obtain ⟨s43, gs43, h⟩ := RD_el h
                    rcases BX_el h with ⟨s44, hf42, h⟩ | ⟨u46, s44, hf42, h⟩
                    · cases h
                      exact vm_T0 hR rfl (fun hcap hk9 hn9 => px_backT hc htb (cr_X8_55 hc hX1 gs43 (x5_must_ok hX1 (j := 2) (by decide) gs43 hf42) (by omega) (Nat.le_of_ble_eq_true rfl) dX8_single_261) hcap hQ rfl rfl hk9 hn9)
                    obtain ⟨w45, hw45, h⟩ := LT_el h
                    refine vm_call0 hw45 rfl hR (fun hcap h9 => px_backRv (cr_X8_55 hc hX1 gs43 (x5_must_ok hX1 (j := 2) (by decide) gs43 hf42) (by omega) (Nat.le_of_ble_eq_true rfl) dX8_single_261) hcap h9) ?_
                    refine vm_l (fun h9 => pv_aload_n 0 hc dX8_single_264 rfl rfl h9) ?_
                    refine vm_l (fun h9 => gf_X8_130 hc hX1 (wp_at' hw45) dX8_single_265 h9) ?_
                    refine vm_l (fun h9 => pv_istore (L' := [(6, .int (gI s44 144)), (0, .ref (a + 69)), (5, .int v13)]) hc dX8_single_268 hN (by decide) rfl h9) ?_
                    refine vm_l (fun h9 => pv_aload_n 1 hc dX8_single_270 rfl rfl h9) ?_
                    obtain ⟨s49, hf48, h⟩ := BD_el h
                    obtain ⟨w50, hw50, h⟩ := LT_el h
                    refine vm_e hw50 rfl (fun h9 => ca_X8_68 hc hX1 (wp_at' hw45) (x5_next_ok hX1 (j := 2) (by decide) (wp_at' hw45) hf48) (by omega) (Nat.le_of_ble_eq_true rfl) dX8_single_271 h9) ?_
                    refine vm_l (fun h9 => pv_aload_n 1 hc dX8_single_274 rfl rfl h9) ?_
                    refine vm_l (fun h9 => pv_aload_n 1 hc dX8_single_275 rfl rfl h9) ?_
                    refine vm_l (fun h9 => gf_X8_52 hc hX1 (wp_at' hw50) dX8_single_276 h9) ?_
                    refine vm_l (fun h9 => pv_iconst (2 : Int32) hc dX8_single_279 rfl h9) ?_
                    obtain ⟨j52, hj52, h⟩ := JN1_el (P := fun v51 => VM X G G' w50 [(0, .ref (a + 69)), (5, .int v13), (6, .int (gI s44 144))] [.int v51, .ref (a + 69)] 288) h (by
                        intro v51 h
                        refine vm_l (fun h9 => pv_iconst (1 : Int32) hc dX8_single_288 rfl h9) ?_
                        obtain ⟨s55, gs55, h⟩ := RD_el h
                        rcases BX_el h with ⟨s56, hf54, h⟩ | ⟨u58, s56, hf54, h⟩
                        · cases h
                          exact vm_T0 hR rfl (fun hcap hk9 hn9 => px_backT hc htb (cr_X8_55 hc hX1 gs55 (x5_must_ok hX1 (j := 2) (by decide) gs55 hf54) (by omega) (Nat.le_of_ble_eq_true rfl) dX8_single_289) hcap hQ rfl rfl hk9 hn9)
                        obtain ⟨w57, hw57, h⟩ := LT_el h
                        refine vm_call0 hw57 rfl hR (fun hcap h9 => px_backRv (cr_X8_55 hc hX1 gs55 (x5_must_ok hX1 (j := 2) (by decide) gs55 hf54) (by omega) (Nat.le_of_ble_eq_true rfl) dX8_single_289) hcap h9) ?_
                        refine vm_l (fun h9 => pv_aload_n 0 hc dX8_single_292 rfl rfl h9) ?_
                        refine vm_l (fun h9 => gf_X8_130 hc hX1 (wp_at' hw57) dX8_single_293 h9) ?_
                        refine vm_l (fun h9 => pv_istore (L' := [(7, .int (gI s56 144)), (0, .ref (a + 69)), (5, .int v13), (6, .int (gI s44 144))]) hc dX8_single_296 hN (by decide) rfl h9) ?_
                        refine vm_l (fun h9 => pv_aload_n 1 hc dX8_single_298 rfl rfl h9) ?_
                        obtain ⟨s61, hf60, h⟩ := BD_el h
                        obtain ⟨w62, hw62, h⟩ := LT_el h
                        refine vm_e hw62 rfl (fun h9 => ca_X8_68 hc hX1 (wp_at' hw57) (x5_next_ok hX1 (j := 2) (by decide) (wp_at' hw57) hf60) (by omega) (Nat.le_of_ble_eq_true rfl) dX8_single_299 h9) ?_
                        obtain ⟨w63, hw63, h⟩ := LT_el h
                        obtain ⟨b64, hb64, h⟩ := LT_el h
                        refine vm_new (N := 3) (w1 := w63) hR (by decide) (by rw [hw63]; rfl) (fun hcap h9 => pv_new2 (r := r0) (kd := 14) hw63 hb64 hc (wc14 hW) in_X17 tyX17 tyX17_ok q1372 q1373 q138 (we14 hW _ _) (fun j hj => by match j, hj with | 0, _ => rfl | 1, _ => rfl | 2, _ => rfl) hcap dX8_single_302 h9) ?_
                        refine vm_l (fun h9 => pv_dup hc dX8_single_305 rfl h9) ?_
                        refine vm_l (fun h9 => pv_iload 2 hc dX8_single_306 rfl h9) ?_
                        refine vm_l (fun h9 => pv_iload 3 hc dX8_single_308 rfl h9) ?_
                        refine vm_l (fun h9 => pv_iload 0 hc dX8_single_310 rfl h9) ?_
                        obtain ⟨w67, hf66, h⟩ := BD_el h
                        obtain ⟨hm68, h⟩ := MG_el h
                        refine vm_call hR hm68 rfl rfl (fun hcap h9 => pv_callI (nA := 3) hc (x17_init_ok hW hX1 hX3 hX4 hf66) q1374 q1375 q138 q1376 rfl (by decide +kernel) ⟨(by omega), by decide⟩ rfl rfl (Nat.le_of_ble_eq_true rfl) dX8_single_312 hcap h9) ?_
                        obtain ⟨rfl, rfl⟩ := Prod.mk.inj (Option.some.inj h)
                        exact fun _ => ⟨Nat.le_refl _, px_aret hc hr hQ rfl rfl dX8_single_315⟩)
                    refine vm_ifn h (fun h k1 k2 => pv_icmp_ne (tgt := 287) hc dX8_single_280 (by decide) h k1 k2) (fun h => ?_) (fun h => ?_)
                    · refine vm_l (fun h9 => pv_iconst (0 : Int32) hc dX8_single_287 rfl h9) ?_
                      refine vm_sub [1, 2, 0] rfl ?_
                      exact hj52 _ h
                    · refine vm_l (fun h9 => pv_iconst (1 : Int32) hc dX8_single_283 rfl h9) ?_
                      refine vm_l (fun h9 => pv_goto (tgt := 288) hc dX8_single_284 (by decide) h9) ?_
                      refine vm_sub [1, 2, 0] rfl ?_
                      exact hj52 _ h)
                refine vm_ifn h (fun h k1 k2 => pv_if_ne (tgt := 255) hc dX8_single_234 (by decide) h k1 k2) (fun h => ?_) (fun h => ?_)
                · refine vm_l (fun h9 => pv_iconst (1 : Int32) hc dX8_single_255 rfl h9) ?_
                  refine vm_l (fun h9 => pv_goto (tgt := 260) hc dX8_single_256 (by decide) h9) ?_
                  refine vm_sub [0, 5] rfl ?_
                  exact hj40 _ h
                · refine vm_l (fun h9 => pv_aload_n 0 hc dX8_single_237 rfl rfl h9) ?_
                  refine vm_l (fun h9 => pv_bipush (61 : Int32) hc dX8_single_238 rfl h9) ?_
                  obtain ⟨v71, hf70, h⟩ := BD_el h
                  refine vm_l (fun h9 => ca_X8_86 hc hX1 (wp_at' hw35) (x5_is_2_ok hX1 (j := 2) (by decide) (wp_at' hw35) hf70) (by omega) (Nat.le_of_ble_eq_true rfl) dX8_single_240 h9) ?_
                  refine vm_ifn h (fun h k1 k2 => pv_if_ne (tgt := 255) hc dX8_single_243 (by decide) h k1 k2) (fun h => ?_) (fun h => ?_)
                  · refine vm_l (fun h9 => pv_iconst (1 : Int32) hc dX8_single_255 rfl h9) ?_
                    refine vm_l (fun h9 => pv_goto (tgt := 260) hc dX8_single_256 (by decide) h9) ?_
                    refine vm_sub [0, 5] rfl ?_
                    exact hj40 _ h
                  · refine vm_l (fun h9 => pv_aload_n 0 hc dX8_single_246 rfl rfl h9) ?_
                    refine vm_l (fun h9 => pv_bipush (62 : Int32) hc dX8_single_247 rfl h9) ?_
                    obtain ⟨v74, hf73, h⟩ := BD_el h
                    refine vm_l (fun h9 => ca_X8_86 hc hX1 (wp_at' hw35) (x5_is_2_ok hX1 (j := 2) (by decide) (wp_at' hw35) hf73) (by omega) (Nat.le_of_ble_eq_true rfl) dX8_single_249 h9) ?_
                    refine vm_if h (fun h k1 k2 => pv_if_eq (tgt := 259) hc dX8_single_252 (by decide) h k1 k2) (fun h => ?_) (fun h => ?_)
                    · refine vm_l (fun h9 => pv_iconst (0 : Int32) hc dX8_single_259 rfl h9) ?_
                      refine vm_sub [0, 5] rfl ?_
                      exact hj40 _ h
                    · refine vm_l (fun h9 => pv_iconst (1 : Int32) hc dX8_single_255 rfl h9) ?_
                      refine vm_l (fun h9 => pv_goto (tgt := 260) hc dX8_single_256 (by decide) h9) ?_
                      refine vm_sub [0, 5] rfl ?_
                      exact hj40 _ h
              · obtain ⟨w75, hw75, h⟩ := LT_el h
                obtain ⟨b76, hb76, h⟩ := LT_el h
                refine vm_new (N := 2) (w1 := w75) hR (by decide) (by rw [hw75]; rfl) (fun hcap h9 => pv_new2 (r := r0) (kd := 13) hw75 hb76 hc (wc13 hW) in_X16 tyX16 tyX16_ok q1356 q1357 q137 (we13 hW _ _) (fun j hj => by match j, hj with | 0, _ => rfl | 1, _ => rfl) hcap dX8_single_150 h9) ?_
                refine vm_l (fun h9 => pv_dup hc dX8_single_153 rfl h9) ?_
                refine vm_l (fun h9 => pv_iload 4 hc dX8_single_154 rfl h9) ?_
                refine vm_l (fun h9 => pv_iload 4 hc dX8_single_156 rfl h9) ?_
                refine vm_l (fun h9 => pv_iconst (2 : Int32) hc dX8_single_158 rfl h9) ?_
                refine vm_if h (fun h k1 k2 => pv_icmp_ge (tgt := 166) hc dX8_single_159 (by decide) h k1 k2) (fun h => ?_) (fun h => ?_)
                · refine vm_l (fun h9 => pv_iload 4 hc dX8_single_166 rfl h9) ?_
                  refine vm_l (fun h9 => pv_iconst (4 : Int32) hc dX8_single_168 rfl h9) ?_
                  refine vm_if h (fun h k1 k2 => pv_icmp_ge (tgt := 199) hc dX8_single_169 (by decide) h k1 k2) (fun h => ?_) (fun h => ?_)
                  · refine vm_l (fun h9 => pv_aload_n 0 hc dX8_single_199 rfl rfl h9) ?_
                    refine vm_l (fun h9 => pv_aload_n 0 hc dX8_single_200 rfl rfl h9) ?_
                    obtain ⟨s77, gs77, h⟩ := RD_el h
                    refine vm_l (fun h9 => gf_X8_3 hc hX1 gs77 dX8_single_201 h9) ?_
                    obtain ⟨b78, hb78, h⟩ := BD_el h
                    refine vm_l (fun h9 => gp_X8_104 hc hX1 gs77 hb78 dX8_single_204 h9) ?_
                    obtain ⟨s79, gs79, h⟩ := RD_el h
                    refine vm_l (fun h9 => gf_X8_121 hc hX3 gs79 dX8_single_207 h9) ?_
                    refine vm_l (fun h9 => pv_aload_n 0 hc dX8_single_210 rfl rfl h9) ?_
                    refine vm_l (fun h9 => gf_X8_3 hc hX1 gs77 dX8_single_211 h9) ?_
                    obtain ⟨b80, hb80, h⟩ := BD_el h
                    refine vm_l (fun h9 => gp_X8_104 hc hX1 gs77 hb80 dX8_single_214 h9) ?_
                    obtain ⟨s81, gs81, h⟩ := RD_el h
                    refine vm_l (fun h9 => gf_X8_124 hc hX3 gs81 dX8_single_217 h9) ?_
                    rcases BX_el h with ⟨s84, hf83, h⟩ | ⟨v86, s84, hf83, h⟩
                    · cases h
                      exact vm_T0 hR rfl (fun hcap hk9 hn9 => px_backT hc htb (cr_X8_117 hc hX1 gs77 (x5_known_ok hX1 hX3 (j := 2) (by decide) gs77 gs79 (c_X3_2 hX3) hf83) (by omega) (Nat.le_of_ble_eq_true rfl) dX8_single_220) hcap hQ rfl rfl hk9 hn9)
                    obtain ⟨w85, hw85, h⟩ := LT_el h
                    refine vm_call0 hw85 rfl hR (fun hcap h9 => px_backRi (cr_X8_117 hc hX1 gs77 (x5_known_ok hX1 hX3 (j := 2) (by decide) gs77 gs79 (c_X3_2 hX3) hf83) (by omega) (Nat.le_of_ble_eq_true rfl) dX8_single_220) hcap h9) ?_
                    obtain ⟨w89, hf88, h⟩ := BD_el h
                    obtain ⟨hm90, h⟩ := MG_el h
                    refine vm_call hR hm90 rfl rfl (fun hcap h9 => pv_callI (nA := 2) hc (x16_init_ok hW hX1 hX3 hX4 hf88) q1361 q1362 q137 q1363 rfl (by decide +kernel) ⟨(by omega), by decide⟩ rfl rfl (Nat.le_of_ble_eq_true rfl) dX8_single_223 hcap h9) ?_
                    obtain ⟨rfl, rfl⟩ := Prod.mk.inj (Option.some.inj h)
                    exact fun _ => ⟨Nat.le_refl _, px_aret hc hr hQ rfl rfl dX8_single_226⟩
                  · refine vm_l (fun h9 => pv_aload_n 0 hc dX8_single_172 rfl rfl h9) ?_
                    refine vm_l (fun h9 => pv_aload_n 0 hc dX8_single_173 rfl rfl h9) ?_
                    obtain ⟨s91, gs91, h⟩ := RD_el h
                    refine vm_l (fun h9 => gf_X8_3 hc hX1 gs91 dX8_single_174 h9) ?_
                    obtain ⟨b92, hb92, h⟩ := BD_el h
                    refine vm_l (fun h9 => gp_X8_104 hc hX1 gs91 hb92 dX8_single_177 h9) ?_
                    obtain ⟨s93, gs93, h⟩ := RD_el h
                    refine vm_l (fun h9 => gf_X8_108 hc hX3 gs93 dX8_single_180 h9) ?_
                    refine vm_l (fun h9 => pv_aload_n 0 hc dX8_single_183 rfl rfl h9) ?_
                    refine vm_l (fun h9 => gf_X8_3 hc hX1 gs91 dX8_single_184 h9) ?_
                    obtain ⟨b94, hb94, h⟩ := BD_el h
                    refine vm_l (fun h9 => gp_X8_104 hc hX1 gs91 hb94 dX8_single_187 h9) ?_
                    obtain ⟨s95, gs95, h⟩ := RD_el h
                    refine vm_l (fun h9 => gf_X8_114 hc hX3 gs95 dX8_single_190 h9) ?_
                    rcases BX_el h with ⟨s98, hf97, h⟩ | ⟨v100, s98, hf97, h⟩
                    · cases h
                      exact vm_T0 hR rfl (fun hcap hk9 hn9 => px_backT hc htb (cr_X8_117 hc hX1 gs91 (x5_known_ok hX1 hX3 (j := 2) (by decide) gs91 gs93 (c_X3_0 hX3) hf97) (by omega) (Nat.le_of_ble_eq_true rfl) dX8_single_193) hcap hQ rfl rfl hk9 hn9)
                    obtain ⟨w99, hw99, h⟩ := LT_el h
                    refine vm_call0 hw99 rfl hR (fun hcap h9 => px_backRi (cr_X8_117 hc hX1 gs91 (x5_known_ok hX1 hX3 (j := 2) (by decide) gs91 gs93 (c_X3_0 hX3) hf97) (by omega) (Nat.le_of_ble_eq_true rfl) dX8_single_193) hcap h9) ?_
                    refine vm_l (fun h9 => pv_goto (tgt := 223) hc dX8_single_196 (by decide) h9) ?_
                    obtain ⟨w103, hf102, h⟩ := BD_el h
                    obtain ⟨hm104, h⟩ := MG_el h
                    refine vm_call hR hm104 rfl rfl (fun hcap h9 => pv_callI (nA := 2) hc (x16_init_ok hW hX1 hX3 hX4 hf102) q1361 q1362 q137 q1363 rfl (by decide +kernel) ⟨(by omega), by decide⟩ rfl rfl (Nat.le_of_ble_eq_true rfl) dX8_single_223 hcap h9) ?_
                    obtain ⟨rfl, rfl⟩ := Prod.mk.inj (Option.some.inj h)
                    exact fun _ => ⟨Nat.le_refl _, px_aret hc hr hQ rfl rfl dX8_single_226⟩
                · refine vm_l (fun h9 => pv_iconst (-1 : Int32) hc dX8_single_162 rfl h9) ?_
                  refine vm_l (fun h9 => pv_goto (tgt := 223) hc dX8_single_163 (by decide) h9) ?_
                  obtain ⟨w107, hf106, h⟩ := BD_el h
                  obtain ⟨hm108, h⟩ := MG_el h
                  refine vm_call hR hm108 rfl rfl (fun hcap h9 => pv_callI (nA := 2) hc (x16_init_ok hW hX1 hX3 hX4 hf106) q1361 q1362 q137 q1363 rfl (by decide +kernel) ⟨(by omega), by decide⟩ rfl rfl (Nat.le_of_ble_eq_true rfl) dX8_single_223 hcap h9) ?_
                  obtain ⟨rfl, rfl⟩ := Prod.mk.inj (Option.some.inj h)
                  exact fun _ => ⟨Nat.le_refl _, px_aret hc hr hQ rfl rfl dX8_single_226⟩
            · refine vm_l (fun h9 => pv_aload_n 0 hc dX8_single_126 rfl rfl h9) ?_
              refine vm_l (fun h9 => pv_iload_n 1 hc dX8_single_127 rfl rfl h9) ?_
              refine vm_l (fun h9 => pv_iconst (1 : Int32) hc dX8_single_128 rfl h9) ?_
              refine vm_l (fun h9 => pv_iadd hc dX8_single_129 h9) ?_
              rcases BXW_el h with ⟨w111, hf110, h⟩ | ⟨v112, w111, hf110, h⟩
              · obtain ⟨hm113, h⟩ := MG_el h
                cases h
                exact vm_T hR hm113 rfl rfl (fun hcap hk9 hn9 => px_backT hc htb (px_runV (nA := 1) hc (hra  hf110) (wp_at' hw35) (o_X8 hX1) (xk6 hX1) (lw_V q1314 q1316 qs25 q120 q1317) (by decide +kernel) ⟨(by omega), by decide⟩ rfl rfl (Nat.le_of_ble_eq_true rfl) dX8_single_130) hcap hQ rfl rfl hk9 hn9)
              obtain ⟨hm113, h⟩ := MG_el h
              refine vm_call hR hm113 rfl rfl (fun hcap h9 => px_backRa (px_runV (nA := 1) hc (hra  hf110) (wp_at' hw35) (o_X8 hX1) (xk6 hX1) (lw_V q1314 q1316 qs25 q120 q1317) (by decide +kernel) ⟨(by omega), by decide⟩ rfl rfl (Nat.le_of_ble_eq_true rfl) dX8_single_130) hcap h9) ?_
              refine vm_l (fun h9 => pv_astore (L' := [(6, .ref v112), (0, .ref (a + 69)), (1, .int x1), (2, .int v4), (3, .int v7), (4, .int v10), (5, .int v13)]) hc dX8_single_133 hN (by decide) rfl h9) ?_
              refine vm_l (fun h9 => pv_aload_n 1 hc dX8_single_135 rfl rfl h9) ?_
              refine vm_l (fun h9 => pv_bipush (41 : Int32) hc dX8_single_136 rfl h9) ?_
              obtain ⟨s116, gs116, h⟩ := RD_el h
              rcases BX_el h with ⟨s117, hf115, h⟩ | ⟨u119, s117, hf115, h⟩
              · cases h
                exact vm_T0 hR rfl (fun hcap hk9 hn9 => px_backT hc htb (cr_X8_98 hc hX1 gs116 (x5_sign_ok hX1 (j := 2) (by decide) gs116 hf115) (by omega) (Nat.le_of_ble_eq_true rfl) dX8_single_138) hcap hQ rfl rfl hk9 hn9)
              obtain ⟨w118, hw118, h⟩ := LT_el h
              refine vm_call0 hw118 rfl hR (fun hcap h9 => px_backRv (cr_X8_98 hc hX1 gs116 (x5_sign_ok hX1 (j := 2) (by decide) gs116 hf115) (by omega) (Nat.le_of_ble_eq_true rfl) dX8_single_138) hcap h9) ?_
              refine vm_l (fun h9 => pv_aload 0 hc dX8_single_141 rfl h9) ?_
              obtain ⟨rfl, rfl⟩ := Prod.mk.inj (Option.some.inj h)
              exact fun _ => ⟨Nat.le_refl _, px_aret hc hr hQ rfl rfl dX8_single_143⟩
          · obtain ⟨w120, hw120, h⟩ := LT_el h
            obtain ⟨b121, hb121, h⟩ := LT_el h
            refine vm_new (N := 1) (w1 := w120) hR (by decide) (by rw [hw120]; rfl) (fun hcap h9 => pv_new2 (r := r0) (kd := 12) hw120 hb121 hc (wc12 hW) in_X15 tyX15 tyX15_ok q1343 q1344 q136 (we12 hW _ _) (fun j hj => by match j, hj with | 0, _ => rfl) hcap dX8_single_107 h9) ?_
            refine vm_l (fun h9 => pv_dup hc dX8_single_110 rfl h9) ?_
            refine vm_l (fun h9 => pv_aload_n 0 hc dX8_single_111 rfl rfl h9) ?_
            refine vm_l (fun h9 => pv_iload_n 1 hc dX8_single_112 rfl rfl h9) ?_
            refine vm_l (fun h9 => pv_iconst (1 : Int32) hc dX8_single_113 rfl h9) ?_
            refine vm_l (fun h9 => pv_iadd hc dX8_single_114 h9) ?_
            obtain ⟨s125, gs125, h⟩ := RD_el h
            rcases BXW_el h with ⟨w124, hf123, h⟩ | ⟨v126, w124, hf123, h⟩
            · obtain ⟨hm127, h⟩ := MG_el h
              cases h
              exact vm_T hR hm127 rfl rfl (fun hcap hk9 hn9 => px_backT hc htb (px_runV (nA := 1) hc (hrs  hf123) gs125 (o_X8 hX1) (xk6 hX1) (lw_V q1322 q1324 qs27 q120 q1325) (by decide +kernel) ⟨(by omega), by decide⟩ rfl rfl (Nat.le_of_ble_eq_true rfl) dX8_single_115) hcap hQ rfl rfl hk9 hn9)
            obtain ⟨hm127, h⟩ := MG_el h
            refine vm_call hR hm127 rfl rfl (fun hcap h9 => px_backRa (px_runV (nA := 1) hc (hrs  hf123) gs125 (o_X8 hX1) (xk6 hX1) (lw_V q1322 q1324 qs27 q120 q1325) (by decide +kernel) ⟨(by omega), by decide⟩ rfl rfl (Nat.le_of_ble_eq_true rfl) dX8_single_115) hcap h9) ?_
            obtain ⟨w130, hf129, h⟩ := BD_el h
            obtain ⟨hm131, h⟩ := MG_el h
            refine vm_call hR hm131 rfl rfl (fun hcap h9 => pv_callI (nA := 1) hc (x15_init_ok hW hX1 hX3 hX4 hf129) q1345 q1346 q136 q1347 rfl (by decide +kernel) ⟨(by omega), by decide⟩ rfl rfl (Nat.le_of_ble_eq_true rfl) dX8_single_118 hcap h9) ?_
            obtain ⟨rfl, rfl⟩ := Prod.mk.inj (Option.some.inj h)
            exact fun _ => ⟨Nat.le_refl _, px_aret hc hr hQ rfl rfl dX8_single_121⟩)
      refine vm_if h (fun h k1 k2 => pv_icmp_ge (tgt := 84) hc dX8_single_71 (by decide) h k1 k2) (fun h => ?_) (fun h => ?_)
      · refine vm_l (fun h9 => pv_iconst (0 : Int32) hc dX8_single_84 rfl h9) ?_
        exact hj23 _ h
      · refine vm_l (fun h9 => pv_iload_n 1 hc dX8_single_74 rfl rfl h9) ?_
        refine vm_l (fun h9 => pv_bipush (8 : Int32) hc dX8_single_75 rfl h9) ?_
        refine vm_if h (fun h k1 k2 => pv_icmp_gt (tgt := 84) hc dX8_single_77 (by decide) h k1 k2) (fun h => ?_) (fun h => ?_)
        · refine vm_l (fun h9 => pv_iconst (0 : Int32) hc dX8_single_84 rfl h9) ?_
          exact hj23 _ h
        · refine vm_l (fun h9 => pv_iconst (1 : Int32) hc dX8_single_80 rfl h9) ?_
          refine vm_l (fun h9 => pv_goto (tgt := 85) hc dX8_single_81 (by decide) h9) ?_
          exact hj23 _ h)
  refine vm_ifn h (fun h k1 k2 => pv_if_ne (tgt := 55) hc dX8_single_36 (by decide) h k1 k2) (fun h => ?_) (fun h => ?_)
  · refine vm_l (fun h9 => pv_iconst (1 : Int32) hc dX8_single_55 rfl h9) ?_
    refine vm_l (fun h9 => pv_goto (tgt := 60) hc dX8_single_56 (by decide) h9) ?_
    refine vm_sub [4, 5, 3, 2, 1, 0] rfl ?_
    exact hj15 _ h
  · refine vm_l (fun h9 => pv_iload_n 2 hc dX8_single_39 rfl rfl h9) ?_
    refine vm_ifn h (fun h k1 k2 => pv_if_ne (tgt := 55) hc dX8_single_40 (by decide) h k1 k2) (fun h => ?_) (fun h => ?_)
    · refine vm_l (fun h9 => pv_iconst (1 : Int32) hc dX8_single_55 rfl h9) ?_
      refine vm_l (fun h9 => pv_goto (tgt := 60) hc dX8_single_56 (by decide) h9) ?_
      refine vm_sub [4, 5, 3, 2, 1, 0] rfl ?_
      exact hj15 _ h
    · refine vm_l (fun h9 => pv_iload 1 hc dX8_single_43 rfl h9) ?_
      refine vm_l (fun h9 => pv_iconst (-1 : Int32) hc dX8_single_45 rfl h9) ?_
      refine vm_ifn h (fun h k1 k2 => pv_icmp_ne (tgt := 55) hc dX8_single_46 (by decide) h k1 k2) (fun h => ?_) (fun h => ?_)
      · refine vm_l (fun h9 => pv_iconst (1 : Int32) hc dX8_single_55 rfl h9) ?_
        refine vm_l (fun h9 => pv_goto (tgt := 60) hc dX8_single_56 (by decide) h9) ?_
        refine vm_sub [4, 5, 3, 2, 1, 0] rfl ?_
        exact hj15 _ h
      · refine vm_l (fun h9 => pv_iload 0 hc dX8_single_49 rfl h9) ?_
        refine vm_l (fun h9 => pv_iconst (-1 : Int32) hc dX8_single_51 rfl h9) ?_
        refine vm_if h (fun h k1 k2 => pv_icmp_eq (tgt := 59) hc dX8_single_52 (by decide) h k1 k2) (fun h => ?_) (fun h => ?_)
        · refine vm_l (fun h9 => pv_iconst (0 : Int32) hc dX8_single_59 rfl h9) ?_
          refine vm_sub [4, 5, 3, 2, 1, 0] rfl ?_
          exact hj15 _ h
        · refine vm_l (fun h9 => pv_iconst (1 : Int32) hc dX8_single_55 rfl h9) ?_
          refine vm_l (fun h9 => pv_goto (tgt := 60) hc dX8_single_56 (by decide) h9) ?_
          refine vm_sub [4, 5, 3, 2, 1, 0] rfl ?_
          exact hj15 _ h
def b_both (rs : Wd → Nat → Int32 → Option (Option Nat × Wd)) (G : Wd) (a : Nat) (x1 : Int32) : Option (Option Nat × Wd) := RD G a 0 (fun s4 => BXW (rs G a x1) (fun w3 => MG G w3 (some (none, w3))) (fun v5 w3 => MG G w3 (LP2 (fun (rec9 : Nat → Wd → Option (Option Nat × Wd)) (v7 : Nat) (s8 : Wd) => RD s8 a 0 (fun s12 => BD (x5_is 2 s12 39) (fun v13 => (if v13 = 0 then some (some v7, s8) else BD (x5_next 2 s12) (fun s16 => LT (wp s8 a 0 s16) (fun w17 => LT (wn w17 15 r0) (fun w18 => LT w17.1 (fun b19 => RD w18 a 0 (fun s23 => BXW (rs w18 a x1) (fun w22 => MG w18 w22 (some (none, w22))) (fun v24 w22 => MG w18 w22 (BD (x18_init w22 b19 v7 v24) (fun w28 => MG w22 w28 (rec9 b19 w28))))))))))))) FU v5 w3)))
set_option maxHeartbeats 4000000 in
theorem b_both_ok {l : Launch} {g : Gh} {rs : Wd → Nat → Int32 → Option (Option Nat × Wd)} {N : Nat} (hrs : ∀ {G : Wd} {a : Nat} {x1 : Int32} {o : Option Nat} {G' : Wd}, rs G a x1 = some (o, G') → MXa l g yX8_single cX8_single 8 (some (.object "ParlourLeaves$Cond")) (10 + 3 * N) (G'.1 - G.1) (1200 * (G'.1 - G.1)) (a + 2) "ParlourLeaves$Fault" G [.ref (a + 69), .int x1] (o.map (fun v => some (.ref v))) G') (hW : OKW g) (hX1 : OKX1 g) (hX3 : OKX3 g) (hX4 : OKX4 g) {G : Wd} {a : Nat} {x1 : Int32} {o : Option Nat} {G' : Wd} (hf : b_both rs G a x1 = some (o, G')) : MXa l g yX8_both cX8_both 3 (some (.object "ParlourLeaves$Cond")) (10 + 3 * N + 1) (G'.1 - G.1) (1200 * (G'.1 - G.1)) (a + 2) "ParlourLeaves$Fault" G [.ref (a + 69), .int x1] (o.map (fun v => some (.ref v))) G' := by
  refine vm_startX (by decide) (Nat.le_of_ble_eq_true rfl) ?_
  intro X hl hg hN hc hr htb hR hQ
  subst hl; subst hg
  have h := hf
  unfold b_both at h
  show VM X G G' G [(0, .ref (a + 69)), (1, .int x1)] [] 0
  refine vm_l (fun h9 => pv_aload_n 0 hc dX8_both_0 rfl rfl h9) ?_
  refine vm_l (fun h9 => pv_iload_n 1 hc dX8_both_1 rfl rfl h9) ?_
  obtain ⟨s4, gs4, h⟩ := RD_el h
  rcases BXW_el h with ⟨w3, hf2, h⟩ | ⟨v5, w3, hf2, h⟩
  · obtain ⟨hm6, h⟩ := MG_el h
    cases h
    exact vm_T hR hm6 rfl rfl (fun hcap hk9 hn9 => px_backT hc htb (px_runV (nA := 1) hc (hrs  hf2) gs4 (o_X8 hX1) (xk6 hX1) (lw_V q1322 q1324 qs27 q120 q1325) (by decide +kernel) ⟨(by omega), by decide⟩ rfl rfl (Nat.le_of_ble_eq_true rfl) dX8_both_2) hcap hQ rfl rfl hk9 hn9)
  obtain ⟨hm6, h⟩ := MG_el h
  refine vm_call hR hm6 rfl rfl (fun hcap h9 => px_backRa (px_runV (nA := 1) hc (hrs  hf2) gs4 (o_X8 hX1) (xk6 hX1) (lw_V q1322 q1324 qs27 q120 q1325) (by decide +kernel) ⟨(by omega), by decide⟩ rfl rfl (Nat.le_of_ble_eq_true rfl) dX8_both_2) hcap h9) ?_
  refine vm_l (fun h9 => pv_astore_n (L' := [(2, .ref v5), (0, .ref (a + 69)), (1, .int x1)]) hc dX8_both_5 rfl hN (by decide) rfl h9) ?_
  refine vm_sub [1, 2, 0] rfl ?_
  refine LP2_el (P := fun v7 s8 => VM X G G' s8 [(0, .ref (a + 69)), (1, .int x1), (2, .ref v7)] [] 6) ?_ FU _ _ h
  intro rec9 hrec9 v7 s8 h
  refine vm_l (fun h9 => pv_aload_n 0 hc dX8_both_6 rfl rfl h9) ?_
  refine vm_l (fun h9 => pv_str hc ((xstr hX1 _ hc.2.2.2.2.2.1.2.2.1).2.1.2.2.2.2.2.2.2.2.2.2.2.2.2.2.2.2.2.2.2.2.2.2.2.2.2.2.2.2.2.2.2.2.2.2.2.2.2.2.2.1) dX8_both_7 h9) ?_
  obtain ⟨s12, gs12, h⟩ := RD_el h
  obtain ⟨v13, hf11, h⟩ := BD_el h
  refine vm_l (fun h9 => ca_X8_64 hc hX1 gs12 (x5_is_ok hX1 (j := 2) (by decide) gs12 (by decide) hf11) (by omega) (Nat.le_of_ble_eq_true rfl) dX8_both_9 h9) ?_
  refine vm_if h (fun h k1 k2 => pv_if_eq (tgt := 36) hc dX8_both_12 (by decide) h k1 k2) (fun h => ?_) (fun h => ?_)
  · refine vm_l (fun h9 => pv_aload_n 2 hc dX8_both_36 rfl rfl h9) ?_
    obtain ⟨rfl, rfl⟩ := Prod.mk.inj (Option.some.inj h)
    exact fun _ => ⟨Nat.le_refl _, px_aret hc hr hQ rfl rfl dX8_both_37⟩
  · refine vm_l (fun h9 => pv_aload_n 0 hc dX8_both_15 rfl rfl h9) ?_
    obtain ⟨s16, hf15, h⟩ := BD_el h
    obtain ⟨w17, hw17, h⟩ := LT_el h
    refine vm_e hw17 rfl (fun h9 => ca_X8_68 hc hX1 gs12 (x5_next_ok hX1 (j := 2) (by decide) gs12 hf15) (by omega) (Nat.le_of_ble_eq_true rfl) dX8_both_16 h9) ?_
    obtain ⟨w18, hw18, h⟩ := LT_el h
    obtain ⟨b19, hb19, h⟩ := LT_el h
    refine vm_new (N := 2) (w1 := w18) hR (by decide) (by rw [hw18]; rfl) (fun hcap h9 => pv_new2 (r := r0) (kd := 15) hw18 hb19 hc (wc15 hW) in_X18 tyX18 tyX18_ok q1389 q1390 q139 (we15 hW _ _) (fun j hj => by match j, hj with | 0, _ => rfl | 1, _ => rfl) hcap dX8_both_19 h9) ?_
    refine vm_l (fun h9 => pv_dup hc dX8_both_22 rfl h9) ?_
    refine vm_l (fun h9 => pv_aload_n 2 hc dX8_both_23 rfl rfl h9) ?_
    refine vm_l (fun h9 => pv_aload_n 0 hc dX8_both_24 rfl rfl h9) ?_
    refine vm_l (fun h9 => pv_iload_n 1 hc dX8_both_25 rfl rfl h9) ?_
    obtain ⟨s23, gs23, h⟩ := RD_el h
    rcases BXW_el h with ⟨w22, hf21, h⟩ | ⟨v24, w22, hf21, h⟩
    · obtain ⟨hm25, h⟩ := MG_el h
      cases h
      exact vm_T hR hm25 rfl rfl (fun hcap hk9 hn9 => px_backT hc htb (px_runV (nA := 1) hc (hrs  hf21) gs23 (o_X8 hX1) (xk6 hX1) (lw_V q1322 q1324 qs27 q120 q1325) (by decide +kernel) ⟨(by omega), by decide⟩ rfl rfl (Nat.le_of_ble_eq_true rfl) dX8_both_26) hcap hQ rfl rfl hk9 hn9)
    obtain ⟨hm25, h⟩ := MG_el h
    refine vm_call hR hm25 rfl rfl (fun hcap h9 => px_backRa (px_runV (nA := 1) hc (hrs  hf21) gs23 (o_X8 hX1) (xk6 hX1) (lw_V q1322 q1324 qs27 q120 q1325) (by decide +kernel) ⟨(by omega), by decide⟩ rfl rfl (Nat.le_of_ble_eq_true rfl) dX8_both_26) hcap h9) ?_
    obtain ⟨w28, hf27, h⟩ := BD_el h
    obtain ⟨hm29, h⟩ := MG_el h
    refine vm_call hR hm29 rfl rfl (fun hcap h9 => pv_callI (nA := 2) hc (x18_init_ok hW hX1 hX3 hX4 hf27) q1391 q1392 q139 q1393 rfl (by decide +kernel) ⟨(by omega), by decide⟩ rfl rfl (Nat.le_of_ble_eq_true rfl) dX8_both_29 hcap h9) ?_
    refine vm_l (fun h9 => pv_astore_n (L' := [(2, .ref b19), (0, .ref (a + 69)), (1, .int x1)]) hc dX8_both_32 rfl hN (by decide) rfl h9) ?_
    refine vm_l (fun h9 => pv_goto (tgt := 6) hc dX8_both_33 (by decide) h9) ?_
    refine vm_sub [1, 2, 0] rfl ?_
    exact hrec9 _ _ h
def b_any (rb : Wd → Nat → Int32 → Option (Option Nat × Wd)) (G : Wd) (a : Nat) (x1 : Int32) : Option (Option Nat × Wd) := RD G a 0 (fun s4 => BXW (rb G a x1) (fun w3 => MG G w3 (some (none, w3))) (fun v5 w3 => MG G w3 (LP2 (fun (rec9 : Nat → Wd → Option (Option Nat × Wd)) (v7 : Nat) (s8 : Wd) => RD s8 a 0 (fun s12 => BD (x5_is 2 s12 40) (fun v13 => (if v13 = 0 then some (some v7, s8) else BD (x5_next 2 s12) (fun s16 => LT (wp s8 a 0 s16) (fun w17 => LT (wn w17 16 r0) (fun w18 => LT w17.1 (fun b19 => RD w18 a 0 (fun s23 => BXW (rb w18 a x1) (fun w22 => MG w18 w22 (some (none, w22))) (fun v24 w22 => MG w18 w22 (BD (x19_init w22 b19 v7 v24) (fun w28 => MG w22 w28 (rec9 b19 w28))))))))))))) FU v5 w3)))
set_option maxHeartbeats 4000000 in
theorem b_any_ok {l : Launch} {g : Gh} {rb : Wd → Nat → Int32 → Option (Option Nat × Wd)} {N : Nat} (hrb : ∀ {G : Wd} {a : Nat} {x1 : Int32} {o : Option Nat} {G' : Wd}, rb G a x1 = some (o, G') → MXa l g yX8_both cX8_both 3 (some (.object "ParlourLeaves$Cond")) (10 + 3 * N + 1) (G'.1 - G.1) (1200 * (G'.1 - G.1)) (a + 2) "ParlourLeaves$Fault" G [.ref (a + 69), .int x1] (o.map (fun v => some (.ref v))) G') (hW : OKW g) (hX1 : OKX1 g) (hX3 : OKX3 g) (hX4 : OKX4 g) {G : Wd} {a : Nat} {x1 : Int32} {o : Option Nat} {G' : Wd} (hf : b_any rb G a x1 = some (o, G')) : MXa l g yX8_any cX8_any 3 (some (.object "ParlourLeaves$Cond")) (10 + 3 * N + 2) (G'.1 - G.1) (1200 * (G'.1 - G.1)) (a + 2) "ParlourLeaves$Fault" G [.ref (a + 69), .int x1] (o.map (fun v => some (.ref v))) G' := by
  refine vm_startX (by decide) (Nat.le_of_ble_eq_true rfl) ?_
  intro X hl hg hN hc hr htb hR hQ
  subst hl; subst hg
  have h := hf
  unfold b_any at h
  show VM X G G' G [(0, .ref (a + 69)), (1, .int x1)] [] 0
  refine vm_l (fun h9 => pv_aload_n 0 hc dX8_any_0 rfl rfl h9) ?_
  refine vm_l (fun h9 => pv_iload_n 1 hc dX8_any_1 rfl rfl h9) ?_
  obtain ⟨s4, gs4, h⟩ := RD_el h
  rcases BXW_el h with ⟨w3, hf2, h⟩ | ⟨v5, w3, hf2, h⟩
  · obtain ⟨hm6, h⟩ := MG_el h
    cases h
    exact vm_T hR hm6 rfl rfl (fun hcap hk9 hn9 => px_backT hc htb (px_runV (nA := 1) hc (hrb  hf2) gs4 (o_X8 hX1) (xk6 hX1) (lw_V q1318 q1320 qs26 q120 q1321) (by decide +kernel) ⟨(by omega), by decide⟩ rfl rfl (Nat.le_of_ble_eq_true rfl) dX8_any_2) hcap hQ rfl rfl hk9 hn9)
  obtain ⟨hm6, h⟩ := MG_el h
  refine vm_call hR hm6 rfl rfl (fun hcap h9 => px_backRa (px_runV (nA := 1) hc (hrb  hf2) gs4 (o_X8 hX1) (xk6 hX1) (lw_V q1318 q1320 qs26 q120 q1321) (by decide +kernel) ⟨(by omega), by decide⟩ rfl rfl (Nat.le_of_ble_eq_true rfl) dX8_any_2) hcap h9) ?_
  refine vm_l (fun h9 => pv_astore_n (L' := [(2, .ref v5), (0, .ref (a + 69)), (1, .int x1)]) hc dX8_any_5 rfl hN (by decide) rfl h9) ?_
  refine vm_sub [1, 2, 0] rfl ?_
  refine LP2_el (P := fun v7 s8 => VM X G G' s8 [(0, .ref (a + 69)), (1, .int x1), (2, .ref v7)] [] 6) ?_ FU _ _ h
  intro rec9 hrec9 v7 s8 h
  refine vm_l (fun h9 => pv_aload_n 0 hc dX8_any_6 rfl rfl h9) ?_
  refine vm_l (fun h9 => pv_str hc ((xstr hX1 _ hc.2.2.2.2.2.1.2.2.1).2.1.2.2.2.2.2.2.2.2.2.2.2.2.2.2.2.2.2.2.2.2.2.2.2.2.2.2.2.2.2.2.2.2.2.2.2.2.2.2.2.2) dX8_any_7 h9) ?_
  obtain ⟨s12, gs12, h⟩ := RD_el h
  obtain ⟨v13, hf11, h⟩ := BD_el h
  refine vm_l (fun h9 => ca_X8_64 hc hX1 gs12 (x5_is_ok hX1 (j := 2) (by decide) gs12 (by decide) hf11) (by omega) (Nat.le_of_ble_eq_true rfl) dX8_any_9 h9) ?_
  refine vm_if h (fun h k1 k2 => pv_if_eq (tgt := 36) hc dX8_any_12 (by decide) h k1 k2) (fun h => ?_) (fun h => ?_)
  · refine vm_l (fun h9 => pv_aload_n 2 hc dX8_any_36 rfl rfl h9) ?_
    obtain ⟨rfl, rfl⟩ := Prod.mk.inj (Option.some.inj h)
    exact fun _ => ⟨Nat.le_refl _, px_aret hc hr hQ rfl rfl dX8_any_37⟩
  · refine vm_l (fun h9 => pv_aload_n 0 hc dX8_any_15 rfl rfl h9) ?_
    obtain ⟨s16, hf15, h⟩ := BD_el h
    obtain ⟨w17, hw17, h⟩ := LT_el h
    refine vm_e hw17 rfl (fun h9 => ca_X8_68 hc hX1 gs12 (x5_next_ok hX1 (j := 2) (by decide) gs12 hf15) (by omega) (Nat.le_of_ble_eq_true rfl) dX8_any_16 h9) ?_
    obtain ⟨w18, hw18, h⟩ := LT_el h
    obtain ⟨b19, hb19, h⟩ := LT_el h
    refine vm_new (N := 2) (w1 := w18) hR (by decide) (by rw [hw18]; rfl) (fun hcap h9 => pv_new2 (r := r0) (kd := 16) hw18 hb19 hc (wc16 hW) in_X19 tyX19 tyX19_ok q1403 q1404 q140 (we16 hW _ _) (fun j hj => by match j, hj with | 0, _ => rfl | 1, _ => rfl) hcap dX8_any_19 h9) ?_
    refine vm_l (fun h9 => pv_dup hc dX8_any_22 rfl h9) ?_
    refine vm_l (fun h9 => pv_aload_n 2 hc dX8_any_23 rfl rfl h9) ?_
    refine vm_l (fun h9 => pv_aload_n 0 hc dX8_any_24 rfl rfl h9) ?_
    refine vm_l (fun h9 => pv_iload_n 1 hc dX8_any_25 rfl rfl h9) ?_
    obtain ⟨s23, gs23, h⟩ := RD_el h
    rcases BXW_el h with ⟨w22, hf21, h⟩ | ⟨v24, w22, hf21, h⟩
    · obtain ⟨hm25, h⟩ := MG_el h
      cases h
      exact vm_T hR hm25 rfl rfl (fun hcap hk9 hn9 => px_backT hc htb (px_runV (nA := 1) hc (hrb  hf21) gs23 (o_X8 hX1) (xk6 hX1) (lw_V q1318 q1320 qs26 q120 q1321) (by decide +kernel) ⟨(by omega), by decide⟩ rfl rfl (Nat.le_of_ble_eq_true rfl) dX8_any_26) hcap hQ rfl rfl hk9 hn9)
    obtain ⟨hm25, h⟩ := MG_el h
    refine vm_call hR hm25 rfl rfl (fun hcap h9 => px_backRa (px_runV (nA := 1) hc (hrb  hf21) gs23 (o_X8 hX1) (xk6 hX1) (lw_V q1318 q1320 qs26 q120 q1321) (by decide +kernel) ⟨(by omega), by decide⟩ rfl rfl (Nat.le_of_ble_eq_true rfl) dX8_any_26) hcap h9) ?_
    obtain ⟨w28, hf27, h⟩ := BD_el h
    obtain ⟨hm29, h⟩ := MG_el h
    refine vm_call hR hm29 rfl rfl (fun hcap h9 => pv_callI (nA := 2) hc (x19_init_ok hW hX1 hX3 hX4 hf27) q1405 q1406 q140 q1407 rfl (by decide +kernel) ⟨(by omega), by decide⟩ rfl rfl (Nat.le_of_ble_eq_true rfl) dX8_any_29 hcap h9) ?_
    refine vm_l (fun h9 => pv_astore_n (L' := [(2, .ref b19), (0, .ref (a + 69)), (1, .int x1)]) hc dX8_any_32 rfl hN (by decide) rfl h9) ?_
    refine vm_l (fun h9 => pv_goto (tgt := 6) hc dX8_any_33 (by decide) h9) ?_
    refine vm_sub [1, 2, 0] rfl ?_
    exact hrec9 _ _ h
def x8_sg : Nat → Wd → Nat → Int32 → Option (Option Nat × Wd)
  | 0, _, _, _ => none
  | n + 1, G, a, x => b_single (x8_sg n) (b_any (b_both (x8_sg n))) G a x
theorem x8_sg_ok {l : Launch} {g : Gh} (hW : OKW g) (hX1 : OKX1 g) (hX3 : OKX3 g) (hX4 : OKX4 g) : ∀ (n : Nat) {G : Wd} {a : Nat} {x1 : Int32} {o : Option Nat} {G' : Wd}, x8_sg n G a x1 = some (o, G') → MXa l g yX8_single cX8_single 8 (some (.object "ParlourLeaves$Cond")) (10 + 3 * n) (G'.1 - G.1) (1200 * (G'.1 - G.1)) (a + 2) "ParlourLeaves$Fault" G [.ref (a + 69), .int x1] (o.map (fun v => some (.ref v))) G' := by
  intro n
  induction n with
  | zero => intro G a x1 o G' h; cases h
  | succ n ih =>
    intro G a x1 o G' h
    exact b_single_ok (N := n) (fun h => ih h) (fun h => b_any_ok (N := n) (fun h => b_both_ok (N := n) (fun h => ih h) hW hX1 hX3 hX4 h) hW hX1 hX3 hX4 h) hW hX1 hX3 hX4 h
def x8_any : Wd → Nat → Int32 → Option (Option Nat × Wd) := b_any (b_both (x8_sg 10))
theorem x8_any_ok {l : Launch} {g : Gh} (hW : OKW g) (hX1 : OKX1 g) (hX3 : OKX3 g) (hX4 : OKX4 g) {G : Wd} {a : Nat} {x1 : Int32} {o : Option Nat} {G' : Wd} (h : x8_any G a x1 = some (o, G')) : MXa l g yX8_any cX8_any 3 (some (.object "ParlourLeaves$Cond")) (42) (G'.1 - G.1) (1200 * (G'.1 - G.1)) (a + 2) "ParlourLeaves$Fault" G [.ref (a + 69), .int x1] (o.map (fun v => some (.ref v))) G' := b_any_ok (N := 10) (fun h => b_both_ok (N := 10) (fun h => x8_sg_ok hW hX1 hX3 hX4 10 h) hW hX1 hX3 hX4 h) hW hX1 hX3 hX4 h
def x8_read (G : Wd) (a : Nat) : Option (Option Nat × Wd) := RD G a 0 (fun s1 => LT (sI s1 150 (0 : Int32)) (fun s2 => LT (wp G a 0 s2) (fun w3 => BD (x5_begin 2 s2) (fun s6 => LT (wp w3 a 0 s6) (fun w7 => BXW (x8_any w7 a (1 : Int32)) (fun w10 => MG w7 w10 (some (none, w10))) (fun v11 w10 => MG w7 w10 (RD w10 a 0 (fun s13 => (if (gI s13 143) = 0 then BX (x5_must 2 s13 (1 : Int32) (1 : Int32)) (fun s21 => some (none, (wp w10 a 0 s21))) (fun u23 s21 => LT (wp w10 a 0 s21) (fun w22 => some (some v11, w22))) else BX (x5_must 2 s13 (0 : Int32) (1 : Int32)) (fun s16 => some (none, (wp w10 a 0 s16))) (fun u18 s16 => LT (wp w10 a 0 s16) (fun w17 => some (some v11, w17))))))))))))
set_option maxHeartbeats 4000000 in
theorem x8_read_ok {l : Launch} {g : Gh} (hW : OKW g) (hX1 : OKX1 g) (hX3 : OKX3 g) (hX4 : OKX4 g) {G : Wd} {a : Nat} {o : Option Nat} {G' : Wd} (hf : x8_read G a = some (o, G')) : MXa l g yX8_read cX8_read 2 (some (.object "ParlourLeaves$Cond")) 43 (G'.1 - G.1) (1200 * (G'.1 - G.1)) (a + 2) "ParlourLeaves$Fault" G [.ref (a + 69)] (o.map (fun v => some (.ref v))) G' := by
  refine vm_startX (by decide) (Nat.le_of_ble_eq_true rfl) ?_
  intro X hl hg hN hc hr htb hR hQ
  subst hl; subst hg
  have h := hf
  unfold x8_read at h
  show VM X G G' G [(0, .ref (a + 69))] [] 0
  refine vm_l (fun h9 => pv_aload_n 0 hc dX8_read_0 rfl rfl h9) ?_
  refine vm_l (fun h9 => pv_iconst (0 : Int32) hc dX8_read_1 rfl h9) ?_
  obtain ⟨s1, gs1, h⟩ := RD_el h
  obtain ⟨s2, hs2, h⟩ := LT_el h
  obtain ⟨w3, hw3, h⟩ := LT_el h
  refine vm_e hw3 rfl (fun h9 => pf_X8_40 hc hX1 gs1 hs2 rfl dX8_read_2 h9) ?_
  refine vm_l (fun h9 => pv_aload_n 0 hc dX8_read_5 rfl rfl h9) ?_
  obtain ⟨s6, hf5, h⟩ := BD_el h
  obtain ⟨w7, hw7, h⟩ := LT_el h
  refine vm_e hw7 rfl (fun h9 => ca_X8_44 hc hX1 (wp_at' hw3) (x5_begin_ok hX1 (j := 2) (by decide) (wp_at' hw3) hf5) (by decide) (Nat.le_of_ble_eq_true rfl) dX8_read_6 h9) ?_
  refine vm_l (fun h9 => pv_aload_n 0 hc dX8_read_9 rfl rfl h9) ?_
  refine vm_l (fun h9 => pv_iconst (1 : Int32) hc dX8_read_10 rfl h9) ?_
  rcases BXW_el h with ⟨w10, hf9, h⟩ | ⟨v11, w10, hf9, h⟩
  · obtain ⟨hm12, h⟩ := MG_el h
    cases h
    exact vm_T hR hm12 rfl rfl (fun hcap hk9 hn9 => px_backT hc htb (px_runV (nA := 1) hc (x8_any_ok hW hX1 hX3 hX4 hf9) (wp_at' hw7) (o_X8 hX1) (xk6 hX1) (lw_V q1314 q1316 qs25 q120 q1317) (by decide +kernel) ⟨(by decide), by decide⟩ rfl rfl (Nat.le_of_ble_eq_true rfl) dX8_read_11) hcap hQ rfl rfl hk9 hn9)
  obtain ⟨hm12, h⟩ := MG_el h
  refine vm_call hR hm12 rfl rfl (fun hcap h9 => px_backRa (px_runV (nA := 1) hc (x8_any_ok hW hX1 hX3 hX4 hf9) (wp_at' hw7) (o_X8 hX1) (xk6 hX1) (lw_V q1314 q1316 qs25 q120 q1317) (by decide +kernel) ⟨(by decide), by decide⟩ rfl rfl (Nat.le_of_ble_eq_true rfl) dX8_read_11) hcap h9) ?_
  refine vm_l (fun h9 => pv_astore_n (L' := [(1, .ref v11), (0, .ref (a + 69))]) hc dX8_read_14 rfl hN (by decide) rfl h9) ?_
  refine vm_l (fun h9 => pv_aload_n 1 hc dX8_read_15 rfl rfl h9) ?_
  refine vm_l (fun h9 => pv_aload_n 1 hc dX8_read_16 rfl rfl h9) ?_
  obtain ⟨s13, gs13, h⟩ := RD_el h
  refine vm_l (fun h9 => gf_X8_52 hc hX1 gs13 dX8_read_17 h9) ?_
  refine vm_ifn h (fun h k1 k2 => pv_if_ne (tgt := 27) hc dX8_read_20 (by decide) h k1 k2) (fun h => ?_) (fun h => ?_)
  · refine vm_l (fun h9 => pv_iconst (0 : Int32) hc dX8_read_27 rfl h9) ?_
    refine vm_l (fun h9 => pv_iconst (1 : Int32) hc dX8_read_28 rfl h9) ?_
    rcases BX_el h with ⟨s16, hf15, h⟩ | ⟨u18, s16, hf15, h⟩
    · cases h
      exact vm_T0 hR rfl (fun hcap hk9 hn9 => px_backT hc htb (cr_X8_55 hc hX1 gs13 (x5_must_ok hX1 (j := 2) (by decide) gs13 hf15) (by decide) (Nat.le_of_ble_eq_true rfl) dX8_read_29) hcap hQ rfl rfl hk9 hn9)
    obtain ⟨w17, hw17, h⟩ := LT_el h
    refine vm_call0 hw17 rfl hR (fun hcap h9 => px_backRv (cr_X8_55 hc hX1 gs13 (x5_must_ok hX1 (j := 2) (by decide) gs13 hf15) (by decide) (Nat.le_of_ble_eq_true rfl) dX8_read_29) hcap h9) ?_
    refine vm_l (fun h9 => pv_aload_n 0 hc dX8_read_32 rfl rfl h9) ?_
    obtain ⟨rfl, rfl⟩ := Prod.mk.inj (Option.some.inj h)
    exact fun _ => ⟨Nat.le_refl _, px_aret hc hr hQ rfl rfl dX8_read_33⟩
  · refine vm_l (fun h9 => pv_iconst (1 : Int32) hc dX8_read_23 rfl h9) ?_
    refine vm_l (fun h9 => pv_goto (tgt := 28) hc dX8_read_24 (by decide) h9) ?_
    refine vm_l (fun h9 => pv_iconst (1 : Int32) hc dX8_read_28 rfl h9) ?_
    rcases BX_el h with ⟨s21, hf20, h⟩ | ⟨u23, s21, hf20, h⟩
    · cases h
      exact vm_T0 hR rfl (fun hcap hk9 hn9 => px_backT hc htb (cr_X8_55 hc hX1 gs13 (x5_must_ok hX1 (j := 2) (by decide) gs13 hf20) (by decide) (Nat.le_of_ble_eq_true rfl) dX8_read_29) hcap hQ rfl rfl hk9 hn9)
    obtain ⟨w22, hw22, h⟩ := LT_el h
    refine vm_call0 hw22 rfl hR (fun hcap h9 => px_backRv (cr_X8_55 hc hX1 gs13 (x5_must_ok hX1 (j := 2) (by decide) gs13 hf20) (by decide) (Nat.le_of_ble_eq_true rfl) dX8_read_29) hcap h9) ?_
    refine vm_l (fun h9 => pv_aload_n 0 hc dX8_read_32 rfl rfl h9) ?_
    obtain ⟨rfl, rfl⟩ := Prod.mk.inj (Option.some.inj h)
    exact fun _ => ⟨Nat.le_refl _, px_aret hc hr hQ rfl rfl dX8_read_33⟩
def x1_sentence (G : Wd) (a : Nat) : Option (Int32 × Wd) := RD G a 0 (fun s3 => BD (x1_taken s3) (fun s4 => LT (wp G a 0 s4) (fun w5 => LT (sI s4 11 (0 : Int32)) (fun s6 => LT (wp w5 a 0 s6) (fun w7 => BXW (x8_read w7 a) (fun w10 => MG w7 w10 (RD w10 a 0 (fun s13 => LT (sI s13 11 (gI s13 40)) (fun s14 => LT (wp w10 a 0 s14) (fun w15 => some (((-1 : Int32) - (gI s14 41)), w15)))))) (fun v11 w10 => MG w7 w10 (RD w10 a 0 (fun s16 => LT (sP s16 31 (some v11)) (fun s17 => LT (wp w10 a 0 s17) (fun w18 => some ((gI s17 150), w18)))))))))))
set_option maxHeartbeats 4000000 in
theorem x1_sentence_ok {l : Launch} {g : Gh} (hW : OKW g) (hX1 : OKX1 g) (hX3 : OKX3 g) (hX4 : OKX4 g) {G : Wd} {a : Nat} {r : Int32} {G' : Wd} (hf : x1_sentence G a = some (r, G')) : MHa l g yX1_sentence cX1_sentence 2 (some .int) [(9, 27, 28, 13)] 44 (G'.1 - G.1) (1200 * (G'.1 - G.1)) (a + 2) "ParlourLeaves$Fault" G [.ref a] (some (some (.int r))) G' := by
  refine vm_startH (by decide) (Nat.le_of_ble_eq_true rfl) ?_
  intro X hl hg hN hc hr htb hR hQ
  subst hl; subst hg
  have h := hf
  unfold x1_sentence at h
  show VM X G G' G [(0, .ref a)] [] 0
  refine vm_l (fun h9 => pv_aload_n 0 hc dX1_sentence_0 rfl rfl h9) ?_
  obtain ⟨s3, gs3, h⟩ := RD_el h
  obtain ⟨s4, hf2, h⟩ := BD_el h
  obtain ⟨w5, hw5, h⟩ := LT_el h
  refine vm_e hw5 rfl (fun h9 => ca_X1_159 hc hX1 gs3 (x1_taken_ok hX1 gs3 hf2) (by decide) (Nat.le_of_ble_eq_true rfl) dX1_sentence_1 h9) ?_
  refine vm_l (fun h9 => pv_aload_n 0 hc dX1_sentence_4 rfl rfl h9) ?_
  refine vm_l (fun h9 => pv_iconst (0 : Int32) hc dX1_sentence_5 rfl h9) ?_
  obtain ⟨s6, hs6, h⟩ := LT_el h
  obtain ⟨w7, hw7, h⟩ := LT_el h
  refine vm_e hw7 rfl (fun h9 => pf_X1_162 hc hX1 (wp_at' hw5) hs6 rfl dX1_sentence_6 h9) ?_
  refine vm_l (fun h9 => pv_aload_n 0 hc dX1_sentence_9 rfl rfl h9) ?_
  refine vm_l (fun h9 => pv_aload_n 0 hc dX1_sentence_10 rfl rfl h9) ?_
  refine vm_l (fun h9 => gf_X1_136 hc hX1 (wp_at' hw7) dX1_sentence_11 h9) ?_
  rcases BXW_el h with ⟨w10, hf9, h⟩ | ⟨v11, w10, hf9, h⟩
  · obtain ⟨hm12, h⟩ := MG_el h
    refine vm_call hR hm12 rfl rfl (fun hcap h9 => px_catch hc htb ⟨by decide, by decide⟩ (by decide) q150 (wax hW _ hc.2.2.2.2.2.1.2.2.1).1 (px_runV (nA := 0) hc (x8_read_ok hW hX1 hX3 hX4 hf9) (wp_at' hw7) (o_X8 hX1) (xk6 hX1) (lw_V q1307 q1308 q1309 q120 q1310) (by decide +kernel) ⟨(by decide), by decide⟩ rfl rfl (Nat.le_of_ble_eq_true rfl) dX1_sentence_14) hcap h9) ?_
    refine vm_l (fun h9 => pv_astore_n (L' := [(1, .ref (a + 2)), (0, .ref a)]) hc dX1_sentence_28 rfl hN (by decide) rfl h9) ?_
    refine vm_l (fun h9 => pv_aload_n 1 hc dX1_sentence_29 rfl rfl h9) ?_
    refine vm_l (fun h9 => pv_aload_n 0 hc dX1_sentence_30 rfl rfl h9) ?_
    obtain ⟨s13, gs13, h⟩ := RD_el h
    refine vm_l (fun h9 => gf_X1_176 hc hX1 gs13 dX1_sentence_31 h9) ?_
    obtain ⟨s14, hs14, h⟩ := LT_el h
    obtain ⟨w15, hw15, h⟩ := LT_el h
    refine vm_e hw15 rfl (fun h9 => pf_X1_162 hc hX1 gs13 hs14 rfl dX1_sentence_34 h9) ?_
    refine vm_l (fun h9 => pv_iconst (-1 : Int32) hc dX1_sentence_37 rfl h9) ?_
    refine vm_l (fun h9 => pv_aload_n 0 hc dX1_sentence_38 rfl rfl h9) ?_
    refine vm_l (fun h9 => gf_X1_179 hc hX1 (wp_at' hw15) dX1_sentence_39 h9) ?_
    refine vm_l (fun h9 => pv_isub hc dX1_sentence_42 h9) ?_
    obtain ⟨rfl, rfl⟩ := Prod.mk.inj (Option.some.inj h)
    exact fun _ => ⟨Nat.le_refl _, px_iret hc hr hQ rfl rfl dX1_sentence_43⟩
  obtain ⟨hm12, h⟩ := MG_el h
  refine vm_call hR hm12 rfl rfl (fun hcap h9 => px_backRa (px_runV (nA := 0) hc (x8_read_ok hW hX1 hX3 hX4 hf9) (wp_at' hw7) (o_X8 hX1) (xk6 hX1) (lw_V q1307 q1308 q1309 q120 q1310) (by decide +kernel) ⟨(by decide), by decide⟩ rfl rfl (Nat.le_of_ble_eq_true rfl) dX1_sentence_14) hcap h9) ?_
  obtain ⟨s16, gs16, h⟩ := RD_el h
  obtain ⟨s17, hs17, h⟩ := LT_el h
  obtain ⟨w18, hw18, h⟩ := LT_el h
  refine vm_e hw18 rfl (fun h9 => pf_X1_172 (x := (some v11)) hc hX1 gs16 hs17 rfl dX1_sentence_17 h9) ?_
  refine vm_l (fun h9 => pv_aload_n 0 hc dX1_sentence_20 rfl rfl h9) ?_
  refine vm_l (fun h9 => gf_X1_136 hc hX1 (wp_at' hw18) dX1_sentence_21 h9) ?_
  refine vm_l (fun h9 => gf_X1_448 hc hX1 (wp_at' hw18) dX1_sentence_24 h9) ?_
  obtain ⟨rfl, rfl⟩ := Prod.mk.inj (Option.some.inj h)
  exact fun _ => ⟨Nat.le_refl _, px_iret hc hr hQ rfl rfl dX1_sentence_27⟩
