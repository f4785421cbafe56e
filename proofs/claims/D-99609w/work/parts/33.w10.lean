/-! the constructor of ParlourLeaves (written by gen/x6.py) -/
set_option maxRecDepth 100000
def x1_init (gn : Nat → Nat) (G : Wd) (q : Nat) : Option Wd := LT (wn G 62 (sP r0 0 (some 940))) (fun w1 => LT G.1 (fun b2 => RD w1 q 100 (fun s3 => LT (sP s3 0 (some b2)) (fun s4 => LT (wp w1 q 100 s4) (fun w5 => LT (wn w5 101 r0) (fun w6 => LT w5.1 (fun b7 => RD w6 q 100 (fun s11 => LT (sP s11 3 (some b7)) (fun s12 => LT (wp w6 q 100 s12) (fun w13 => LT (wn w13 64 (sP r0 0 (some 7))) (fun w14 => LT w13.1 (fun b15 => IX (0 : Int32) ((gP (sP r0 0 (some 7)) 0).getD 0) (fun i16 => LT (sQ (sP r0 0 (some 7)) 0 i16 (some (gn 0))) (fun s17 => LT (wp w14 b15 64 s17) (fun w18 => IX (1 : Int32) ((gP s17 0).getD 0) (fun i19 => LT (sQ s17 0 i19 (some (gn 2))) (fun s20 => LT (wp w18 b15 64 s20) (fun w21 => IX (2 : Int32) ((gP s20 0).getD 0) (fun i22 => LT (sQ s20 0 i22 (some (gn 4))) (fun s23 => LT (wp w21 b15 64 s23) (fun w24 => IX (3 : Int32) ((gP s23 0).getD 0) (fun i25 => LT (sQ s23 0 i25 (some (gn 6))) (fun s26 => LT (wp w24 b15 64 s26) (fun w27 => IX (4 : Int32) ((gP s26 0).getD 0) (fun i28 => LT (sQ s26 0 i28 (some (gn 8))) (fun s29 => LT (wp w27 b15 64 s29) (fun w30 => IX (5 : Int32) ((gP s29 0).getD 0) (fun i31 => LT (sQ s29 0 i31 (some (gn 10))) (fun s32 => LT (wp w30 b15 64 s32) (fun w33 => IX (6 : Int32) ((gP s32 0).getD 0) (fun i34 => LT (sQ s32 0 i34 (some (gn 12))) (fun s35 => LT (wp w33 b15 64 s35) (fun w36 => RD w36 q 100 (fun s37 => LT (sP s37 4 (some b15)) (fun s38 => LT (wp w36 q 100 s38) (fun w39 => LT (wn w39 64 (sP r0 0 (some 15))) (fun w40 => LT w39.1 (fun b41 => IX (0 : Int32) ((gP (sP r0 0 (some 15)) 0).getD 0) (fun i42 => LT (sQ (sP r0 0 (some 15)) 0 i42 (some (gn 14))) (fun s43 => LT (wp w40 b41 64 s43) (fun w44 => IX (1 : Int32) ((gP s43 0).getD 0) (fun i45 => LT (sQ s43 0 i45 (some (gn 16))) (fun s46 => LT (wp w44 b41 64 s46) (fun w47 => IX (2 : Int32) ((gP s46 0).getD 0) (fun i48 => LT (sQ s46 0 i48 (some (gn 18))) (fun s49 => LT (wp w47 b41 64 s49) (fun w50 => IX (3 : Int32) ((gP s49 0).getD 0) (fun i51 => LT (sQ s49 0 i51 (some (gn 20))) (fun s52 => LT (wp w50 b41 64 s52) (fun w53 => IX (4 : Int32) ((gP s52 0).getD 0) (fun i54 => LT (sQ s52 0 i54 (some (gn 22))) (fun s55 => LT (wp w53 b41 64 s55) (fun w56 => IX (5 : Int32) ((gP s55 0).getD 0) (fun i57 => LT (sQ s55 0 i57 (some (gn 24))) (fun s58 => LT (wp w56 b41 64 s58) (fun w59 => IX (6 : Int32) ((gP s58 0).getD 0) (fun i60 => LT (sQ s58 0 i60 (some (gn 26))) (fun s61 => LT (wp w59 b41 64 s61) (fun w62 => IX (7 : Int32) ((gP s61 0).getD 0) (fun i63 => LT (sQ s61 0 i63 (some (gn 28))) (fun s64 => LT (wp w62 b41 64 s64) (fun w65 => IX (8 : Int32) ((gP s64 0).getD 0) (fun i66 => LT (sQ s64 0 i66 (some (gn 30))) (fun s67 => LT (wp w65 b41 64 s67) (fun w68 => IX (9 : Int32) ((gP s67 0).getD 0) (fun i69 => LT (sQ s67 0 i69 (some (gn 32))) (fun s70 => LT (wp w68 b41 64 s70) (fun w71 => IX (10 : Int32) ((gP s70 0).getD 0) (fun i72 => LT (sQ s70 0 i72 (some (gn 34))) (fun s73 => LT (wp w71 b41 64 s73) (fun w74 => IX (11 : Int32) ((gP s73 0).getD 0) (fun i75 => LT (sQ s73 0 i75 (some (gn 36))) (fun s76 => LT (wp w74 b41 64 s76) (fun w77 => IX (12 : Int32) ((gP s76 0).getD 0) (fun i78 => LT (sQ s76 0 i78 (some (gn 38))) (fun s79 => LT (wp w77 b41 64 s79) (fun w80 => IX (13 : Int32) ((gP s79 0).getD 0) (fun i81 => LT (sQ s79 0 i81 (some (gn 40))) (fun s82 => LT (wp w80 b41 64 s82) (fun w83 => IX (14 : Int32) ((gP s82 0).getD 0) (fun i84 => LT (sQ s82 0 i84 (some (gn 42))) (fun s85 => LT (wp w83 b41 64 s85) (fun w86 => RD w86 q 100 (fun s87 => LT (sP s87 5 (some b41)) (fun s88 => LT (wp w86 q 100 s88) (fun w89 => LT (wn w89 102 r0) (fun w90 => LT w89.1 (fun b91 => LT (wf w90 b91 2 zH 7) (fun w94 => RD w94 q 100 (fun s95 => LT (sP s95 6 (some b91)) (fun s96 => LT (wp w94 q 100 s96) (fun w97 => LT (wn w97 103 r0) (fun w98 => LT w97.1 (fun b99 => LT (wf w98 b99 3 zS 7) (fun w102 => RD w102 q 100 (fun s103 => LT (sP s103 7 (some b99)) (fun s104 => LT (wp w102 q 100 s104) (fun w105 => LT (wn w105 103 r0) (fun w106 => LT w105.1 (fun b107 => LT (wf w106 b107 3 zS 7) (fun w110 => RD w110 q 100 (fun s111 => LT (sP s111 8 (some b107)) (fun s112 => LT (wp w110 q 100 s112) (fun w113 => LT (wn w113 104 r0) (fun w114 => LT w113.1 (fun b115 => BD (x6_init w114 b115 q) (fun w118 => MG w114 w118 (RD w118 q 100 (fun s120 => LT (sP s120 9 (some b115)) (fun s121 => LT (wp w118 q 100 s121) (fun w122 => LT (wn w122 105 r0) (fun w123 => LT w122.1 (fun b124 => BD (x7_init w123 b124 q) (fun w127 => MG w123 w127 (RD w127 q 100 (fun s129 => LT (sP s129 10 (some b124)) (fun s130 => LT (wp w127 q 100 s130) (fun w131 => BD (gP s130 7) (fun b132 => BD (gP s130 6) (fun b133 => RD w131 b132 3 (fun s135 => RD w131 b133 2 (fun s136 => BD (x4_begin s135 s136) (fun s137 => LT (wp w131 b132 3 s137) (fun w138 => LT (wn w138 65 (sP r0 0 (some 8))) (fun w139 => LT w138.1 (fun b140 => RD w139 q 100 (fun s141 => LT (sP s141 12 (some b140)) (fun s142 => LT (wp w139 q 100 s142) (fun w143 => LT (wf w143 w143.1 69 r0 33) (fun w144 => LT w143.1 (fun b145 => RD w144 q 100 (fun s146 => LT (sP s146 18 (some b145)) (fun s147 => LT (wp w144 q 100 s147) (fun w148 => LT (wn w148 60 (sP r0 0 (some 40))) (fun w149 => LT w148.1 (fun b150 => RD w149 q 100 (fun s151 => LT (sP s151 19 (some b150)) (fun s152 => LT (wp w149 q 100 s152) (fun w153 => LT (sI s152 20 (-1 : Int32)) (fun s154 => LT (wp w153 q 100 s154) (fun w155 => LT (wn w155 62 (sP r0 0 (some 40))) (fun w156 => LT w155.1 (fun b157 => RD w156 q 100 (fun s158 => LT (sP s158 26 (some b157)) (fun s159 => LT (wp w156 q 100 s159) (fun w160 => LT (wn w160 60 (sP r0 0 (some 4))) (fun w161 => LT w160.1 (fun b162 => RD w161 q 100 (fun s163 => LT (sP s163 28 (some b162)) (fun s164 => LT (wp w161 q 100 s164) (fun w165 => LT (wn w165 106 r0) (fun w166 => LT w165.1 (fun b167 => BD (x8_init gn w166 b167 q) (fun w170 => MG w166 w170 (RD w170 q 100 (fun s172 => LT (sP s172 30 (some b167)) (fun s173 => LT (wp w170 q 100 s173) (fun w174 => LT (wn w174 66 (sP r0 0 (some 2))) (fun w175 => LT w174.1 (fun b176 => RD w175 q 100 (fun s177 => LT (sP s177 32 (some b176)) (fun s178 => LT (wp w175 q 100 s178) (fun w179 => some w179)))))))))))))))))))))))))))))))))))))))))))))))))))))))))))))))))))))))))))))))))))))))))))))))))))))))))))))))))))))))))))))))))))))))))))))))))))))))))))))))))))
set_option maxHeartbeats 4000000 in
theorem x1_init_ok {l : Launch} {g : Gh} (hL : OKL g) (hRw : OKRw g) (hW : OKW g) (hX1 : OKX1 g) (hX3 : OKX3 g) (hX4 : OKX4 g) (hZ : OKZ g) {G : Wd} {q : Nat} {G' : Wd} (hf : x1_init (gN g) G q = some G') : MTa l g yX1_init cX1_init 1 none 5 (G'.1 - G.1) (1200 * (G'.1 - G.1)) G [.ref q] none G' := by
  refine vm_start (by decide) (Nat.le_of_ble_eq_true rfl) ?_
  intro X hl hg hN hc hr hni hR hQ
  subst hl; subst hg
  have h := hf
  unfold x1_init at h
  show VM X G G' G [(0, .ref q)] [] 0
  refine vm_l (fun h9 => pv_aload_n 0 hc dX1_init_0 rfl rfl h9) ?_
  refine vm_l (fun h9 => pv_objInit hc q147 q148 q149 (by decide) (Nat.le_of_ble_eq_true rfl) dX1_init_1 h9) ?_
  refine vm_l (fun h9 => pv_aload_n 0 hc dX1_init_4 rfl rfl h9) ?_
  refine vm_l (fun h9 => pv_sipush (940 : Int32) hc dX1_init_5 rfl h9) ?_
  obtain ⟨w1, hw1, h⟩ := LT_el h
  obtain ⟨b2, hb2, h⟩ := LT_el h
  refine vm_new (N := 940) (w1 := w1) hR (by decide) (by rw [hw1]; rfl) (fun hcap h9 => pv_newa2 hw1 hb2 (atype := .byte) (ty := .byte) (a0 := (940, .inl (fun _ => (0 : Int32)))) (cA := kap (xg X) 3) (N := 940) hc q218 rfl (fun _ => rfl) (xt3 hX1) rfl (we62 hW _ _) (by decide) (by decide) (by decide) hcap dX1_init_8 h9) ?_
  obtain ⟨s3, gs3, h⟩ := RD_el h
  obtain ⟨s4, hs4, h⟩ := LT_el h
  obtain ⟨w5, hw5, h⟩ := LT_el h
  refine vm_e hw5 rfl (fun h9 => pr_X1_9_100 (x := (some b2)) hc hRw hX1 gs3 hni hs4 rfl dX1_init_10 h9) ?_
  refine vm_l (fun h9 => pv_aload_n 0 hc dX1_init_13 rfl rfl h9) ?_
  obtain ⟨w6, hw6, h⟩ := LT_el h
  obtain ⟨b7, hb7, h⟩ := LT_el h
  refine vm_new (N := 8) (w1 := w6) hR (by decide) (by rw [hw6]; rfl) (fun hcap h9 => pv_new2 (r := r0) (kd := 101) hw6 hb7 hc (xk1 hX1) in_X2 tyX2 tyX2_ok q150 q151 q112 (re101 hRw _ _) (fun j hj => by match j, hj with | 0, _ => rfl | 1, _ => rfl | 2, _ => rfl | 3, _ => rfl | 4, _ => rfl | 5, _ => rfl | 6, _ => rfl | 7, _ => rfl) hcap dX1_init_14 h9) ?_
  refine vm_l (fun h9 => pv_dup hc dX1_init_17 rfl h9) ?_
  refine vm_l (fun h9 hk9 hn9 => pv_callI (nA := 0) hc (x2_init_ok hRw hX1 hZ (hb7 ▸ wn_at hw6)) q188 q189 q112 q190 rfl (by decide +kernel) ⟨(by decide), by decide⟩ rfl rfl (Nat.le_of_ble_eq_true rfl) dX1_init_18 ⟨hk9, hn9⟩ h9 hk9 hn9) ?_
  obtain ⟨s11, gs11, h⟩ := RD_el h
  obtain ⟨s12, hs12, h⟩ := LT_el h
  obtain ⟨w13, hw13, h⟩ := LT_el h
  refine vm_e hw13 rfl (fun h9 => pr_X1_16_100 (x := (some b7)) hc hRw hX1 gs11 hni hs12 rfl dX1_init_21 h9) ?_
  refine vm_l (fun h9 => pv_aload_n 0 hc dX1_init_24 rfl rfl h9) ?_
  refine vm_l (fun h9 => pv_bipush (7 : Int32) hc dX1_init_25 rfl h9) ?_
  obtain ⟨w14, hw14, h⟩ := LT_el h
  obtain ⟨b15, hb15, h⟩ := LT_el h
  refine vm_new (N := 7) (w1 := w14) hR (by decide) (by rw [hw14]; rfl) (fun hcap h9 => pv_newq2 hw14 hb15 hc q219 (wax hW _ hc.2.2.2.2.2.1.2.2.1).2.2.2.2.1 (xt4 hX1) (re64 hRw _ _) (by decide) (by decide) (by decide) hcap dX1_init_27 h9) ?_
  refine vm_l (fun h9 => pv_dup hc dX1_init_30 rfl h9) ?_
  refine vm_l (fun h9 => pv_iconst (0 : Int32) hc dX1_init_31 rfl h9) ?_
  refine vm_l (fun h9 => pv_str hc ((xstr hX1 _ hc.2.2.2.2.2.1.2.2.1).2.1.1) dX1_init_32 h9) ?_
  obtain ⟨i16, hi16, h⟩ := IX_el h
  obtain ⟨s17, hs17, h⟩ := LT_el h
  obtain ⟨w18, hw18, h⟩ := LT_el h
  refine vm_e hw18 rfl (fun h9 => pv_aastS hc (hb15 ▸ wn_at hw14) (ro_64 hRw) 4 (xt4 hX1) (fun H hW9 => (sa_of (i := 0) hX1 (by decide) H hW9 _ _ hc.2.2.2.2.2.1 hc.2.2.2.2.1).1) (hc.2.2.2.2.2.1.1.1 18 _ (wc18 hW)).2 hi16 (r' := s17) (by subst hs17; rw [re64 hRw, re64 hRw]; rfl) dX1_init_34 h9) ?_
  refine vm_l (fun h9 => pv_dup hc dX1_init_35 rfl h9) ?_
  refine vm_l (fun h9 => pv_iconst (1 : Int32) hc dX1_init_36 rfl h9) ?_
  refine vm_l (fun h9 => pv_str hc ((xstr hX1 _ hc.2.2.2.2.2.1.2.2.1).2.1.2.1) dX1_init_37 h9) ?_
  obtain ⟨i19, hi19, h⟩ := IX_el h
  obtain ⟨s20, hs20, h⟩ := LT_el h
  obtain ⟨w21, hw21, h⟩ := LT_el h
  refine vm_e hw21 rfl (fun h9 => pv_aastS hc (wp_at' hw18) (ro_64 hRw) 4 (xt4 hX1) (fun H hW9 => (sa_of (i := 1) hX1 (by decide) H hW9 _ _ hc.2.2.2.2.2.1 hc.2.2.2.2.1).1) (hc.2.2.2.2.2.1.1.1 18 _ (wc18 hW)).2 hi19 (r' := s20) (by subst hs20; rw [re64 hRw, re64 hRw]; rfl) dX1_init_39 h9) ?_
  refine vm_l (fun h9 => pv_dup hc dX1_init_40 rfl h9) ?_
  refine vm_l (fun h9 => pv_iconst (2 : Int32) hc dX1_init_41 rfl h9) ?_
  refine vm_l (fun h9 => pv_str hc ((xstr hX1 _ hc.2.2.2.2.2.1.2.2.1).2.1.2.2.1) dX1_init_42 h9) ?_
  obtain ⟨i22, hi22, h⟩ := IX_el h
  obtain ⟨s23, hs23, h⟩ := LT_el h
  obtain ⟨w24, hw24, h⟩ := LT_el h
  refine vm_e hw24 rfl (fun h9 => pv_aastS hc (wp_at' hw21) (ro_64 hRw) 4 (xt4 hX1) (fun H hW9 => (sa_of (i := 2) hX1 (by decide) H hW9 _ _ hc.2.2.2.2.2.1 hc.2.2.2.2.1).1) (hc.2.2.2.2.2.1.1.1 18 _ (wc18 hW)).2 hi22 (r' := s23) (by subst hs23; rw [re64 hRw, re64 hRw]; rfl) dX1_init_44 h9) ?_
  refine vm_l (fun h9 => pv_dup hc dX1_init_45 rfl h9) ?_
  refine vm_l (fun h9 => pv_iconst (3 : Int32) hc dX1_init_46 rfl h9) ?_
  refine vm_l (fun h9 => pv_str hc ((xstr hX1 _ hc.2.2.2.2.2.1.2.2.1).2.1.2.2.2.1) dX1_init_47 h9) ?_
  obtain ⟨i25, hi25, h⟩ := IX_el h
  obtain ⟨s26, hs26, h⟩ := LT_el h
  obtain ⟨w27, hw27, h⟩ := LT_el h
  refine vm_e hw27 rfl (fun h9 => pv_aastS hc (wp_at' hw24) (ro_64 hRw) 4 (xt4 hX1) (fun H hW9 => (sa_of (i := 3) hX1 (by decide) H hW9 _ _ hc.2.2.2.2.2.1 hc.2.2.2.2.1).1) (hc.2.2.2.2.2.1.1.1 18 _ (wc18 hW)).2 hi25 (r' := s26) (by subst hs26; rw [re64 hRw, re64 hRw]; rfl) dX1_init_49 h9) ?_
  refine vm_l (fun h9 => pv_dup hc dX1_init_50 rfl h9) ?_
  refine vm_l (fun h9 => pv_iconst (4 : Int32) hc dX1_init_51 rfl h9) ?_
  refine vm_l (fun h9 => pv_str hc ((xstr hX1 _ hc.2.2.2.2.2.1.2.2.1).2.1.2.2.2.2.1) dX1_init_52 h9) ?_
  obtain ⟨i28, hi28, h⟩ := IX_el h
  obtain ⟨s29, hs29, h⟩ := LT_el h
  obtain ⟨w30, hw30, h⟩ := LT_el h
  refine vm_e hw30 rfl (fun h9 => pv_aastS hc (wp_at' hw27) (ro_64 hRw) 4 (xt4 hX1) (fun H hW9 => (sa_of (i := 4) hX1 (by decide) H hW9 _ _ hc.2.2.2.2.2.1 hc.2.2.2.2.1).1) (hc.2.2.2.2.2.1.1.1 18 _ (wc18 hW)).2 hi28 (r' := s29) (by subst hs29; rw [re64 hRw, re64 hRw]; rfl) dX1_init_54 h9) ?_
  refine vm_l (fun h9 => pv_dup hc dX1_init_55 rfl h9) ?_
  refine vm_l (fun h9 => pv_iconst (5 : Int32) hc dX1_init_56 rfl h9) ?_
  refine vm_l (fun h9 => pv_str hc ((xstr hX1 _ hc.2.2.2.2.2.1.2.2.1).2.1.2.2.2.2.2.1) dX1_init_57 h9) ?_
  obtain ⟨i31, hi31, h⟩ := IX_el h
  obtain ⟨s32, hs32, h⟩ := LT_el h
  obtain ⟨w33, hw33, h⟩ := LT_el h
  refine vm_e hw33 rfl (fun h9 => pv_aastS hc (wp_at' hw30) (ro_64 hRw) 4 (xt4 hX1) (fun H hW9 => (sa_of (i := 5) hX1 (by decide) H hW9 _ _ hc.2.2.2.2.2.1 hc.2.2.2.2.1).1) (hc.2.2.2.2.2.1.1.1 18 _ (wc18 hW)).2 hi31 (r' := s32) (by subst hs32; rw [re64 hRw, re64 hRw]; rfl) dX1_init_59 h9) ?_
  refine vm_l (fun h9 => pv_dup hc dX1_init_60 rfl h9) ?_
  refine vm_l (fun h9 => pv_bipush (6 : Int32) hc dX1_init_61 rfl h9) ?_
  refine vm_l (fun h9 => pv_str hc ((xstr hX1 _ hc.2.2.2.2.2.1.2.2.1).2.1.2.2.2.2.2.2.1) dX1_init_63 h9) ?_
  obtain ⟨i34, hi34, h⟩ := IX_el h
  obtain ⟨s35, hs35, h⟩ := LT_el h
  obtain ⟨w36, hw36, h⟩ := LT_el h
  refine vm_e hw36 rfl (fun h9 => pv_aastS hc (wp_at' hw33) (ro_64 hRw) 4 (xt4 hX1) (fun H hW9 => (sa_of (i := 6) hX1 (by decide) H hW9 _ _ hc.2.2.2.2.2.1 hc.2.2.2.2.1).1) (hc.2.2.2.2.2.1.1.1 18 _ (wc18 hW)).2 hi34 (r' := s35) (by subst hs35; rw [re64 hRw, re64 hRw]; rfl) dX1_init_65 h9) ?_
  obtain ⟨s37, gs37, h⟩ := RD_el h
  obtain ⟨s38, hs38, h⟩ := LT_el h
  obtain ⟨w39, hw39, h⟩ := LT_el h
  refine vm_e hw39 rfl (fun h9 => pr_X1_36_100 (x := (some b15)) hc hRw hX1 gs37 hni hs38 rfl dX1_init_66 h9) ?_
  refine vm_l (fun h9 => pv_aload_n 0 hc dX1_init_69 rfl rfl h9) ?_
  refine vm_l (fun h9 => pv_bipush (15 : Int32) hc dX1_init_70 rfl h9) ?_
  obtain ⟨w40, hw40, h⟩ := LT_el h
  obtain ⟨b41, hb41, h⟩ := LT_el h
  refine vm_new (N := 15) (w1 := w40) hR (by decide) (by rw [hw40]; rfl) (fun hcap h9 => pv_newq2 hw40 hb41 hc q219 (wax hW _ hc.2.2.2.2.2.1.2.2.1).2.2.2.2.1 (xt4 hX1) (re64 hRw _ _) (by decide) (by decide) (by decide) hcap dX1_init_72 h9) ?_
  refine vm_l (fun h9 => pv_dup hc dX1_init_75 rfl h9) ?_
  refine vm_l (fun h9 => pv_iconst (0 : Int32) hc dX1_init_76 rfl h9) ?_
  refine vm_l (fun h9 => pv_str hc ((xstr hX1 _ hc.2.2.2.2.2.1.2.2.1).2.1.2.2.2.2.2.2.2.1) dX1_init_77 h9) ?_
  obtain ⟨i42, hi42, h⟩ := IX_el h
  obtain ⟨s43, hs43, h⟩ := LT_el h
  obtain ⟨w44, hw44, h⟩ := LT_el h
  refine vm_e hw44 rfl (fun h9 => pv_aastS hc (hb41 ▸ wn_at hw40) (ro_64 hRw) 4 (xt4 hX1) (fun H hW9 => (sa_of (i := 7) hX1 (by decide) H hW9 _ _ hc.2.2.2.2.2.1 hc.2.2.2.2.1).1) (hc.2.2.2.2.2.1.1.1 18 _ (wc18 hW)).2 hi42 (r' := s43) (by subst hs43; rw [re64 hRw, re64 hRw]; rfl) dX1_init_79 h9) ?_
  refine vm_l (fun h9 => pv_dup hc dX1_init_80 rfl h9) ?_
  refine vm_l (fun h9 => pv_iconst (1 : Int32) hc dX1_init_81 rfl h9) ?_
  refine vm_l (fun h9 => pv_str hc ((xstr hX1 _ hc.2.2.2.2.2.1.2.2.1).2.1.2.2.2.2.2.2.2.2.1) dX1_init_82 h9) ?_
  obtain ⟨i45, hi45, h⟩ := IX_el h
  obtain ⟨s46, hs46, h⟩ := LT_el h
  obtain ⟨w47, hw47, h⟩ := LT_el h
  refine vm_e hw47 rfl (fun h9 => pv_aastS hc (wp_at' hw44) (ro_64 hRw) 4 (xt4 hX1) (fun H hW9 => (sa_of (i := 8) hX1 (by decide) H hW9 _ _ hc.2.2.2.2.2.1 hc.2.2.2.2.1).1) (hc.2.2.2.2.2.1.1.1 18 _ (wc18 hW)).2 hi45 (r' := s46) (by subst hs46; rw [re64 hRw, re64 hRw]; rfl) dX1_init_84 h9) ?_
  refine vm_l (fun h9 => pv_dup hc dX1_init_85 rfl h9) ?_
  refine vm_l (fun h9 => pv_iconst (2 : Int32) hc dX1_init_86 rfl h9) ?_
  refine vm_l (fun h9 => pv_str hc ((xstr hX1 _ hc.2.2.2.2.2.1.2.2.1).2.1.2.2.2.2.2.2.2.2.2.1) dX1_init_87 h9) ?_
  obtain ⟨i48, hi48, h⟩ := IX_el h
  obtain ⟨s49, hs49, h⟩ := LT_el h
  obtain ⟨w50, hw50, h⟩ := LT_el h
  refine vm_e hw50 rfl (fun h9 => pv_aastS hc (wp_at' hw47) (ro_64 hRw) 4 (xt4 hX1) (fun H hW9 => (sa_of (i := 9) hX1 (by decide) H hW9 _ _ hc.2.2.2.2.2.1 hc.2.2.2.2.1).1) (hc.2.2.2.2.2.1.1.1 18 _ (wc18 hW)).2 hi48 (r' := s49) (by subst hs49; rw [re64 hRw, re64 hRw]; rfl) dX1_init_89 h9) ?_
  refine vm_l (fun h9 => pv_dup hc dX1_init_90 rfl h9) ?_
  refine vm_l (fun h9 => pv_iconst (3 : Int32) hc dX1_init_91 rfl h9) ?_
  refine vm_l (fun h9 => pv_str hc ((xstr hX1 _ hc.2.2.2.2.2.1.2.2.1).2.1.2.2.2.2.2.2.2.2.2.2.1) dX1_init_92 h9) ?_
  obtain ⟨i51, hi51, h⟩ := IX_el h
  obtain ⟨s52, hs52, h⟩ := LT_el h
  obtain ⟨w53, hw53, h⟩ := LT_el h
  refine vm_e hw53 rfl (fun h9 => pv_aastS hc (wp_at' hw50) (ro_64 hRw) 4 (xt4 hX1) (fun H hW9 => (sa_of (i := 10) hX1 (by decide) H hW9 _ _ hc.2.2.2.2.2.1 hc.2.2.2.2.1).1) (hc.2.2.2.2.2.1.1.1 18 _ (wc18 hW)).2 hi51 (r' := s52) (by subst hs52; rw [re64 hRw, re64 hRw]; rfl) dX1_init_94 h9) ?_
  refine vm_l (fun h9 => pv_dup hc dX1_init_95 rfl h9) ?_
  refine vm_l (fun h9 => pv_iconst (4 : Int32) hc dX1_init_96 rfl h9) ?_
  refine vm_l (fun h9 => pv_str hc ((xstr hX1 _ hc.2.2.2.2.2.1.2.2.1).2.1.2.2.2.2.2.2.2.2.2.2.2.1) dX1_init_97 h9) ?_
  obtain ⟨i54, hi54, h⟩ := IX_el h
  obtain ⟨s55, hs55, h⟩ := LT_el h
  obtain ⟨w56, hw56, h⟩ := LT_el h
  refine vm_e hw56 rfl (fun h9 => pv_aastS hc (wp_at' hw53) (ro_64 hRw) 4 (xt4 hX1) (fun H hW9 => (sa_of (i := 11) hX1 (by decide) H hW9 _ _ hc.2.2.2.2.2.1 hc.2.2.2.2.1).1) (hc.2.2.2.2.2.1.1.1 18 _ (wc18 hW)).2 hi54 (r' := s55) (by subst hs55; rw [re64 hRw, re64 hRw]; rfl) dX1_init_99 h9) ?_
  refine vm_l (fun h9 => pv_dup hc dX1_init_100 rfl h9) ?_
  refine vm_l (fun h9 => pv_iconst (5 : Int32) hc dX1_init_101 rfl h9) ?_
  refine vm_l (fun h9 => pv_str hc ((xstr hX1 _ hc.2.2.2.2.2.1.2.2.1).2.1.2.2.2.2.2.2.2.2.2.2.2.2.1) dX1_init_102 h9) ?_
  obtain ⟨i57, hi57, h⟩ := IX_el h
  obtain ⟨s58, hs58, h⟩ := LT_el h
  obtain ⟨w59, hw59, h⟩ := LT_el h
  refine vm_e hw59 rfl (fun h9 => pv_aastS hc (wp_at' hw56) (ro_64 hRw) 4 (xt4 hX1) (fun H hW9 => (sa_of (i := 12) hX1 (by decide) H hW9 _ _ hc.2.2.2.2.2.1 hc.2.2.2.2.1).1) (hc.2.2.2.2.2.1.1.1 18 _ (wc18 hW)).2 hi57 (r' := s58) (by subst hs58; rw [re64 hRw, re64 hRw]; rfl) dX1_init_104 h9) ?_
  refine vm_l (fun h9 => pv_dup hc dX1_init_105 rfl h9) ?_
  refine vm_l (fun h9 => pv_bipush (6 : Int32) hc dX1_init_106 rfl h9) ?_
  refine vm_l (fun h9 => pv_str hc ((xstr hX1 _ hc.2.2.2.2.2.1.2.2.1).2.1.2.2.2.2.2.2.2.2.2.2.2.2.2.1) dX1_init_108 h9) ?_
  obtain ⟨i60, hi60, h⟩ := IX_el h
  obtain ⟨s61, hs61, h⟩ := LT_el h
  obtain ⟨w62, hw62, h⟩ := LT_el h
  refine vm_e hw62 rfl (fun h9 => pv_aastS hc (wp_at' hw59) (ro_64 hRw) 4 (xt4 hX1) (fun H hW9 => (sa_of (i := 13) hX1 (by decide) H hW9 _ _ hc.2.2.2.2.2.1 hc.2.2.2.2.1).1) (hc.2.2.2.2.2.1.1.1 18 _ (wc18 hW)).2 hi60 (r' := s61) (by subst hs61; rw [re64 hRw, re64 hRw]; rfl) dX1_init_110 h9) ?_
  refine vm_l (fun h9 => pv_dup hc dX1_init_111 rfl h9) ?_
  refine vm_l (fun h9 => pv_bipush (7 : Int32) hc dX1_init_112 rfl h9) ?_
  refine vm_l (fun h9 => pv_str hc ((xstr hX1 _ hc.2.2.2.2.2.1.2.2.1).2.1.2.2.2.2.2.2.2.2.2.2.2.2.2.2.1) dX1_init_114 h9) ?_
  obtain ⟨i63, hi63, h⟩ := IX_el h
  obtain ⟨s64, hs64, h⟩ := LT_el h
  obtain ⟨w65, hw65, h⟩ := LT_el h
  refine vm_e hw65 rfl (fun h9 => pv_aastS hc (wp_at' hw62) (ro_64 hRw) 4 (xt4 hX1) (fun H hW9 => (sa_of (i := 14) hX1 (by decide) H hW9 _ _ hc.2.2.2.2.2.1 hc.2.2.2.2.1).1) (hc.2.2.2.2.2.1.1.1 18 _ (wc18 hW)).2 hi63 (r' := s64) (by subst hs64; rw [re64 hRw, re64 hRw]; rfl) dX1_init_116 h9) ?_
  refine vm_l (fun h9 => pv_dup hc dX1_init_117 rfl h9) ?_
  refine vm_l (fun h9 => pv_bipush (8 : Int32) hc dX1_init_118 rfl h9) ?_
  refine vm_l (fun h9 => pv_str hc ((xstr hX1 _ hc.2.2.2.2.2.1.2.2.1).2.1.2.2.2.2.2.2.2.2.2.2.2.2.2.2.2.1) dX1_init_120 h9) ?_
  obtain ⟨i66, hi66, h⟩ := IX_el h
  obtain ⟨s67, hs67, h⟩ := LT_el h
  obtain ⟨w68, hw68, h⟩ := LT_el h
  refine vm_e hw68 rfl (fun h9 => pv_aastS hc (wp_at' hw65) (ro_64 hRw) 4 (xt4 hX1) (fun H hW9 => (sa_of (i := 15) hX1 (by decide) H hW9 _ _ hc.2.2.2.2.2.1 hc.2.2.2.2.1).1) (hc.2.2.2.2.2.1.1.1 18 _ (wc18 hW)).2 hi66 (r' := s67) (by subst hs67; rw [re64 hRw, re64 hRw]; rfl) dX1_init_122 h9) ?_
  refine vm_l (fun h9 => pv_dup hc dX1_init_123 rfl h9) ?_
  refine vm_l (fun h9 => pv_bipush (9 : Int32) hc dX1_init_124 rfl h9) ?_
  refine vm_l (fun h9 => pv_str hc ((xstr hX1 _ hc.2.2.2.2.2.1.2.2.1).2.1.2.2.2.2.2.2.2.2.2.2.2.2.2.2.2.2.1) dX1_init_126 h9) ?_
  obtain ⟨i69, hi69, h⟩ := IX_el h
  obtain ⟨s70, hs70, h⟩ := LT_el h
  obtain ⟨w71, hw71, h⟩ := LT_el h
  refine vm_e hw71 rfl (fun h9 => pv_aastS hc (wp_at' hw68) (ro_64 hRw) 4 (xt4 hX1) (fun H hW9 => (sa_of (i := 16) hX1 (by decide) H hW9 _ _ hc.2.2.2.2.2.1 hc.2.2.2.2.1).1) (hc.2.2.2.2.2.1.1.1 18 _ (wc18 hW)).2 hi69 (r' := s70) (by subst hs70; rw [re64 hRw, re64 hRw]; rfl) dX1_init_128 h9) ?_
  refine vm_l (fun h9 => pv_dup hc dX1_init_129 rfl h9) ?_
  refine vm_l (fun h9 => pv_bipush (10 : Int32) hc dX1_init_130 rfl h9) ?_
  refine vm_l (fun h9 => pv_str hc ((xstr hX1 _ hc.2.2.2.2.2.1.2.2.1).2.1.2.2.2.2.2.2.2.2.2.2.2.2.2.2.2.2.2.1) dX1_init_132 h9) ?_
  obtain ⟨i72, hi72, h⟩ := IX_el h
  obtain ⟨s73, hs73, h⟩ := LT_el h
  obtain ⟨w74, hw74, h⟩ := LT_el h
  refine vm_e hw74 rfl (fun h9 => pv_aastS hc (wp_at' hw71) (ro_64 hRw) 4 (xt4 hX1) (fun H hW9 => (sa_of (i := 17) hX1 (by decide) H hW9 _ _ hc.2.2.2.2.2.1 hc.2.2.2.2.1).1) (hc.2.2.2.2.2.1.1.1 18 _ (wc18 hW)).2 hi72 (r' := s73) (by subst hs73; rw [re64 hRw, re64 hRw]; rfl) dX1_init_134 h9) ?_
  refine vm_l (fun h9 => pv_dup hc dX1_init_135 rfl h9) ?_
  refine vm_l (fun h9 => pv_bipush (11 : Int32) hc dX1_init_136 rfl h9) ?_
  refine vm_l (fun h9 => pv_str hc ((xstr hX1 _ hc.2.2.2.2.2.1.2.2.1).2.1.2.2.2.2.2.2.2.2.2.2.2.2.2.2.2.2.2.2.1) dX1_init_138 h9) ?_
  obtain ⟨i75, hi75, h⟩ := IX_el h
  obtain ⟨s76, hs76, h⟩ := LT_el h
  obtain ⟨w77, hw77, h⟩ := LT_el h
  refine vm_e hw77 rfl (fun h9 => pv_aastS hc (wp_at' hw74) (ro_64 hRw) 4 (xt4 hX1) (fun H hW9 => (sa_of (i := 18) hX1 (by decide) H hW9 _ _ hc.2.2.2.2.2.1 hc.2.2.2.2.1).1) (hc.2.2.2.2.2.1.1.1 18 _ (wc18 hW)).2 hi75 (r' := s76) (by subst hs76; rw [re64 hRw, re64 hRw]; rfl) dX1_init_140 h9) ?_
  refine vm_l (fun h9 => pv_dup hc dX1_init_141 rfl h9) ?_
  refine vm_l (fun h9 => pv_bipush (12 : Int32) hc dX1_init_142 rfl h9) ?_
  refine vm_l (fun h9 => pv_str hc ((xstr hX1 _ hc.2.2.2.2.2.1.2.2.1).2.1.2.2.2.2.2.2.2.2.2.2.2.2.2.2.2.2.2.2.2.1) dX1_init_144 h9) ?_
  obtain ⟨i78, hi78, h⟩ := IX_el h
  obtain ⟨s79, hs79, h⟩ := LT_el h
  obtain ⟨w80, hw80, h⟩ := LT_el h
  refine vm_e hw80 rfl (fun h9 => pv_aastS hc (wp_at' hw77) (ro_64 hRw) 4 (xt4 hX1) (fun H hW9 => (sa_of (i := 19) hX1 (by decide) H hW9 _ _ hc.2.2.2.2.2.1 hc.2.2.2.2.1).1) (hc.2.2.2.2.2.1.1.1 18 _ (wc18 hW)).2 hi78 (r' := s79) (by subst hs79; rw [re64 hRw, re64 hRw]; rfl) dX1_init_146 h9) ?_
  refine vm_l (fun h9 => pv_dup hc dX1_init_147 rfl h9) ?_
  refine vm_l (fun h9 => pv_bipush (13 : Int32) hc dX1_init_148 rfl h9) ?_
  refine vm_l (fun h9 => pv_str hc ((xstr hX1 _ hc.2.2.2.2.2.1.2.2.1).2.1.2.2.2.2.2.2.2.2.2.2.2.2.2.2.2.2.2.2.2.2.1) dX1_init_150 h9) ?_
  obtain ⟨i81, hi81, h⟩ := IX_el h
  obtain ⟨s82, hs82, h⟩ := LT_el h
  obtain ⟨w83, hw83, h⟩ := LT_el h
  refine vm_e hw83 rfl (fun h9 => pv_aastS hc (wp_at' hw80) (ro_64 hRw) 4 (xt4 hX1) (fun H hW9 => (sa_of (i := 20) hX1 (by decide) H hW9 _ _ hc.2.2.2.2.2.1 hc.2.2.2.2.1).1) (hc.2.2.2.2.2.1.1.1 18 _ (wc18 hW)).2 hi81 (r' := s82) (by subst hs82; rw [re64 hRw, re64 hRw]; rfl) dX1_init_152 h9) ?_
  refine vm_l (fun h9 => pv_dup hc dX1_init_153 rfl h9) ?_
  refine vm_l (fun h9 => pv_bipush (14 : Int32) hc dX1_init_154 rfl h9) ?_
  refine vm_l (fun h9 => pv_str hc ((xstr hX1 _ hc.2.2.2.2.2.1.2.2.1).2.1.2.2.2.2.2.2.2.2.2.2.2.2.2.2.2.2.2.2.2.2.2.1) dX1_init_156 h9) ?_
  obtain ⟨i84, hi84, h⟩ := IX_el h
  obtain ⟨s85, hs85, h⟩ := LT_el h
  obtain ⟨w86, hw86, h⟩ := LT_el h
  refine vm_e hw86 rfl (fun h9 => pv_aastS hc (wp_at' hw83) (ro_64 hRw) 4 (xt4 hX1) (fun H hW9 => (sa_of (i := 21) hX1 (by decide) H hW9 _ _ hc.2.2.2.2.2.1 hc.2.2.2.2.1).1) (hc.2.2.2.2.2.1.1.1 18 _ (wc18 hW)).2 hi84 (r' := s85) (by subst hs85; rw [re64 hRw, re64 hRw]; rfl) dX1_init_158 h9) ?_
  obtain ⟨s87, gs87, h⟩ := RD_el h
  obtain ⟨s88, hs88, h⟩ := LT_el h
  obtain ⟨w89, hw89, h⟩ := LT_el h
  refine vm_e hw89 rfl (fun h9 => pr_X1_70_100 (x := (some b41)) hc hRw hX1 gs87 hni hs88 rfl dX1_init_159 h9) ?_
  refine vm_l (fun h9 => pv_aload_n 0 hc dX1_init_162 rfl rfl h9) ?_
  obtain ⟨w90, hw90, h⟩ := LT_el h
  obtain ⟨b91, hb91, h⟩ := LT_el h
  refine vm_new (N := 14) (w1 := w90) hR (by decide) (by rw [hw90]; rfl) (fun hcap h9 => pv_new2 (r := r0) (kd := 102) hw90 hb91 hc hX3.1 in_X3 tyX3 tyX3_ok q243 q244 q113 (we102 hW _ _) (fun j hj => by match j, hj with | 0, _ => rfl | 1, _ => rfl | 2, _ => rfl | 3, _ => rfl | 4, _ => rfl | 5, _ => rfl | 6, _ => rfl | 7, _ => rfl | 8, _ => rfl | 9, _ => rfl | 10, _ => rfl | 11, _ => rfl | 12, _ => rfl | 13, _ => rfl) hcap dX1_init_163 h9) ?_
  refine vm_l (fun h9 => pv_dup hc dX1_init_166 rfl h9) ?_
  obtain ⟨w94, hw94, h⟩ := LT_el h
  refine vm_init hw94 hR (fun hcap h9 => pv_callIN (nA := 0) hc (x3_init_ok hX3 hX4 hW (hb91 ▸ wn_at hw90) (by rw [hw90, hb91]; rfl)) q245 q246 q113 q247 rfl (by decide +kernel) ⟨(by decide), by decide⟩ rfl rfl (Nat.le_of_ble_eq_true rfl) dX1_init_167 hcap h9) ?_
  obtain ⟨s95, gs95, h⟩ := RD_el h
  obtain ⟨s96, hs96, h⟩ := LT_el h
  obtain ⟨w97, hw97, h⟩ := LT_el h
  refine vm_e hw97 rfl (fun h9 => pr_X1_76_100 (x := (some b91)) hc hRw hX1 gs95 hs96 rfl dX1_init_170 h9) ?_
  refine vm_l (fun h9 => pv_aload_n 0 hc dX1_init_173 rfl rfl h9) ?_
  obtain ⟨w98, hw98, h⟩ := LT_el h
  obtain ⟨b99, hb99, h⟩ := LT_el h
  refine vm_new (N := 10) (w1 := w98) hR (by decide) (by rw [hw98]; rfl) (fun hcap h9 => pv_new2 (r := r0) (kd := 103) hw98 hb99 hc hX4.1 in_X4 tyX4 tyX4_ok q336 q337 q114 (we103 hW _ _) (fun j hj => by match j, hj with | 0, _ => rfl | 1, _ => rfl | 2, _ => rfl | 3, _ => rfl | 4, _ => rfl | 5, _ => rfl | 6, _ => rfl | 7, _ => rfl | 8, _ => rfl | 9, _ => rfl) hcap dX1_init_174 h9) ?_
  refine vm_l (fun h9 => pv_dup hc dX1_init_177 rfl h9) ?_
  obtain ⟨w102, hw102, h⟩ := LT_el h
  refine vm_init hw102 hR (fun hcap h9 => pv_callIN (nA := 0) hc (x4_init_ok hX3 hX4 hW (hb99 ▸ wn_at hw98) (by rw [hw98, hb99]; rfl)) q338 q339 q114 q340 rfl (by decide +kernel) ⟨(by decide), by decide⟩ rfl rfl (Nat.le_of_ble_eq_true rfl) dX1_init_178 hcap h9) ?_
  obtain ⟨s103, gs103, h⟩ := RD_el h
  obtain ⟨s104, hs104, h⟩ := LT_el h
  obtain ⟨w105, hw105, h⟩ := LT_el h
  refine vm_e hw105 rfl (fun h9 => pr_X1_83_100 (x := (some b99)) hc hRw hX1 gs103 hni hs104 rfl dX1_init_181 h9) ?_
  refine vm_l (fun h9 => pv_aload_n 0 hc dX1_init_184 rfl rfl h9) ?_
  obtain ⟨w106, hw106, h⟩ := LT_el h
  obtain ⟨b107, hb107, h⟩ := LT_el h
  refine vm_new (N := 10) (w1 := w106) hR (by decide) (by rw [hw106]; rfl) (fun hcap h9 => pv_new2 (r := r0) (kd := 103) hw106 hb107 hc hX4.1 in_X4 tyX4 tyX4_ok q336 q337 q114 (we103 hW _ _) (fun j hj => by match j, hj with | 0, _ => rfl | 1, _ => rfl | 2, _ => rfl | 3, _ => rfl | 4, _ => rfl | 5, _ => rfl | 6, _ => rfl | 7, _ => rfl | 8, _ => rfl | 9, _ => rfl) hcap dX1_init_185 h9) ?_
  refine vm_l (fun h9 => pv_dup hc dX1_init_188 rfl h9) ?_
  obtain ⟨w110, hw110, h⟩ := LT_el h
  refine vm_init hw110 hR (fun hcap h9 => pv_callIN (nA := 0) hc (x4_init_ok hX3 hX4 hW (hb107 ▸ wn_at hw106) (by rw [hw106, hb107]; rfl)) q338 q339 q114 q340 rfl (by decide +kernel) ⟨(by decide), by decide⟩ rfl rfl (Nat.le_of_ble_eq_true rfl) dX1_init_189 hcap h9) ?_
  obtain ⟨s111, gs111, h⟩ := RD_el h
  obtain ⟨s112, hs112, h⟩ := LT_el h
  obtain ⟨w113, hw113, h⟩ := LT_el h
  refine vm_e hw113 rfl (fun h9 => pr_X1_87_100 (x := (some b107)) hc hRw hX1 gs111 hni hs112 rfl dX1_init_192 h9) ?_
  refine vm_l (fun h9 => pv_aload_n 0 hc dX1_init_195 rfl rfl h9) ?_
  obtain ⟨w114, hw114, h⟩ := LT_el h
  obtain ⟨b115, hb115, h⟩ := LT_el h
  refine vm_new (N := 11) (w1 := w114) hR (by decide) (by rw [hw114]; rfl) (fun hcap h9 => pv_new2 (r := r0) (kd := 104) hw114 hb115 hc (xk4 hX1) in_X6 tyX6 tyX6_ok q388 q389 q116 (re104 hRw _ _) (fun j hj => by match j, hj with | 0, _ => rfl | 1, _ => rfl | 2, _ => rfl | 3, _ => rfl | 4, _ => rfl | 5, _ => rfl | 6, _ => rfl | 7, _ => rfl | 8, _ => rfl | 9, _ => rfl | 10, _ => rfl) hcap dX1_init_196 h9) ?_
  refine vm_l (fun h9 => pv_dup hc dX1_init_199 rfl h9) ?_
  refine vm_l (fun h9 => pv_aload_n 0 hc dX1_init_200 rfl rfl h9) ?_
  obtain ⟨w118, hf117, h⟩ := BD_el h
  obtain ⟨hm119, h⟩ := MG_el h
  refine vm_call hR hm119 rfl rfl (fun hcap h9 => pv_callI (nA := 1) hc (x6_init_ok hRw hW hX1 hX3 hX4 hf117) q390 q391 q116 q392 rfl (by decide +kernel) ⟨(by decide), by decide⟩ rfl rfl (Nat.le_of_ble_eq_true rfl) dX1_init_201 hcap h9) ?_
  obtain ⟨s120, gs120, h⟩ := RD_el h
  obtain ⟨s121, hs121, h⟩ := LT_el h
  obtain ⟨w122, hw122, h⟩ := LT_el h
  refine vm_e hw122 rfl (fun h9 => pr_X1_95_100 (x := (some b115)) hc hRw hX1 gs120 hni hs121 rfl dX1_init_204 h9) ?_
  refine vm_l (fun h9 => pv_aload_n 0 hc dX1_init_207 rfl rfl h9) ?_
  obtain ⟨w123, hw123, h⟩ := LT_el h
  obtain ⟨b124, hb124, h⟩ := LT_el h
  refine vm_new (N := 11) (w1 := w123) hR (by decide) (by rw [hw123]; rfl) (fun hcap h9 => pv_new2 (r := r0) (kd := 105) hw123 hb124 hc (xk5 hX1) in_X7 tyX7 tyX7_ok q441 q442 q117 (re105 hRw _ _) (fun j hj => by match j, hj with | 0, _ => rfl | 1, _ => rfl | 2, _ => rfl | 3, _ => rfl | 4, _ => rfl | 5, _ => rfl | 6, _ => rfl | 7, _ => rfl | 8, _ => rfl | 9, _ => rfl | 10, _ => rfl) hcap dX1_init_208 h9) ?_
  refine vm_l (fun h9 => pv_dup hc dX1_init_211 rfl h9) ?_
  refine vm_l (fun h9 => pv_aload_n 0 hc dX1_init_212 rfl rfl h9) ?_
  obtain ⟨w127, hf126, h⟩ := BD_el h
  obtain ⟨hm128, h⟩ := MG_el h
  refine vm_call hR hm128 rfl rfl (fun hcap h9 => pv_callI (nA := 1) hc (x7_init_ok hRw hW hX1 hX3 hX4 hf126) q443 q444 q117 q445 rfl (by decide +kernel) ⟨(by decide), by decide⟩ rfl rfl (Nat.le_of_ble_eq_true rfl) dX1_init_213 hcap h9) ?_
  obtain ⟨s129, gs129, h⟩ := RD_el h
  obtain ⟨s130, hs130, h⟩ := LT_el h
  obtain ⟨w131, hw131, h⟩ := LT_el h
  refine vm_e hw131 rfl (fun h9 => pr_X1_102_100 (x := (some b124)) hc hRw hX1 gs129 hni hs130 rfl dX1_init_216 h9) ?_
  refine vm_l (fun h9 => pv_aload_n 0 hc dX1_init_219 rfl rfl h9) ?_
  obtain ⟨b132, hb132, h⟩ := BD_el h
  refine vm_l (fun h9 => gr_X1_83_100 hc hRw hX1 (wp_at' hw131) dX1_init_220 (by rw [hb132]; exact h9)) ?_
  refine vm_l (fun h9 => pv_aload_n 0 hc dX1_init_223 rfl rfl h9) ?_
  obtain ⟨b133, hb133, h⟩ := BD_el h
  refine vm_l (fun h9 => gr_X1_76_100 hc hRw hX1 (wp_at' hw131) dX1_init_224 (by rw [hb133]; exact h9)) ?_
  obtain ⟨s135, gs135, h⟩ := RD_el h
  obtain ⟨s136, gs136, h⟩ := RD_el h
  obtain ⟨s137, hf134, h⟩ := BD_el h
  obtain ⟨w138, hw138, h⟩ := LT_el h
  refine vm_e hw138 rfl (fun h9 hk9 hn9 => pv_callV (nA := 1) hc (x4_begin_ok hX3 hX4 gs135 gs136 hf134) gs135 (h_X4 hX4) hX4.1 (lw_V q469 q470 q471 q114 q472) (by decide +kernel) ⟨(by decide), by decide⟩ rfl rfl (Nat.le_of_ble_eq_true rfl) dX1_init_227 ⟨hk9, hn9⟩ h9 hk9 hn9) ?_
  refine vm_l (fun h9 => pv_aload_n 0 hc dX1_init_230 rfl rfl h9) ?_
  refine vm_l (fun h9 => pv_bipush (8 : Int32) hc dX1_init_231 rfl h9) ?_
  obtain ⟨w139, hw139, h⟩ := LT_el h
  obtain ⟨b140, hb140, h⟩ := LT_el h
  refine vm_new (N := 8) (w1 := w139) hR (by decide) (by rw [hw139]; rfl) (fun hcap h9 => pv_newq2 hw139 hb140 hc q336 (wax hW _ hc.2.2.2.2.2.1.2.2.1).2.2.2.2.2.1 (xt5 hX1) (re65 hRw _ _) (by decide) (by decide) (by decide) hcap dX1_init_233 h9) ?_
  obtain ⟨s141, gs141, h⟩ := RD_el h
  obtain ⟨s142, hs142, h⟩ := LT_el h
  obtain ⟨w143, hw143, h⟩ := LT_el h
  refine vm_e hw143 rfl (fun h9 => pr_X1_110_100 (x := (some b140)) hc hRw hX1 gs141 hni hs142 rfl dX1_init_236 h9) ?_
  refine vm_l (fun h9 => pv_aload_n 0 hc dX1_init_239 rfl rfl h9) ?_
  refine vm_l (fun h9 => pv_bipush (32 : Int32) hc dX1_init_240 rfl h9) ?_
  refine vm_l (fun h9 => pv_iconst (5 : Int32) hc dX1_init_242 rfl h9) ?_
  obtain ⟨w144, hw144, h⟩ := LT_el h
  obtain ⟨b145, hb145, h⟩ := LT_el h
  refine vm_multi hw144 hR (fun hcap h9 => pv_multi hw144 hb145 hc hL hX1 q480 q335 hcap dX1_init_243 h9) ?_
  obtain ⟨s146, gs146, h⟩ := RD_el h
  obtain ⟨s147, hs147, h⟩ := LT_el h
  obtain ⟨w148, hw148, h⟩ := LT_el h
  refine vm_e hw148 rfl (fun h9 => pr_X1_116_100 (x := (some b145)) hc hRw hX1 gs146 hni hs147 rfl dX1_init_247 h9) ?_
  refine vm_l (fun h9 => pv_aload_n 0 hc dX1_init_250 rfl rfl h9) ?_
  refine vm_l (fun h9 => pv_bipush (40 : Int32) hc dX1_init_251 rfl h9) ?_
  obtain ⟨w149, hw149, h⟩ := LT_el h
  obtain ⟨b150, hb150, h⟩ := LT_el h
  refine vm_new (N := 40) (w1 := w149) hR (by decide) (by rw [hw149]; rfl) (fun hcap h9 => pv_newa2 hw149 hb150 (atype := .int) (ty := .int) (a0 := (40, .inl (fun _ => (0 : Int32)))) (cA := kap (xg X) 0) (N := 40) hc q335 rfl (fun _ => rfl) (xt0 hX1) rfl (we60 hW _ _) (by decide) (by decide) (by decide) hcap dX1_init_253 h9) ?_
  obtain ⟨s151, gs151, h⟩ := RD_el h
  obtain ⟨s152, hs152, h⟩ := LT_el h
  obtain ⟨w153, hw153, h⟩ := LT_el h
  refine vm_e hw153 rfl (fun h9 => pr_X1_119_100 (x := (some b150)) hc hRw hX1 gs151 hni hs152 rfl dX1_init_255 h9) ?_
  refine vm_l (fun h9 => pv_aload_n 0 hc dX1_init_258 rfl rfl h9) ?_
  refine vm_l (fun h9 => pv_iconst (-1 : Int32) hc dX1_init_259 rfl h9) ?_
  obtain ⟨s154, hs154, h⟩ := LT_el h
  obtain ⟨w155, hw155, h⟩ := LT_el h
  refine vm_e hw155 rfl (fun h9 => pr_X1_123_100 hc hRw hX1 (wp_at' hw153) hs154 rfl dX1_init_260 h9) ?_
  refine vm_l (fun h9 => pv_aload_n 0 hc dX1_init_263 rfl rfl h9) ?_
  refine vm_l (fun h9 => pv_bipush (40 : Int32) hc dX1_init_264 rfl h9) ?_
  obtain ⟨w156, hw156, h⟩ := LT_el h
  obtain ⟨b157, hb157, h⟩ := LT_el h
  refine vm_new (N := 40) (w1 := w156) hR (by decide) (by rw [hw156]; rfl) (fun hcap h9 => pv_newa2 hw156 hb157 (atype := .byte) (ty := .byte) (a0 := (40, .inl (fun _ => (0 : Int32)))) (cA := kap (xg X) 3) (N := 40) hc q218 rfl (fun _ => rfl) (xt3 hX1) rfl (we62 hW _ _) (by decide) (by decide) (by decide) hcap dX1_init_266 h9) ?_
  obtain ⟨s158, gs158, h⟩ := RD_el h
  obtain ⟨s159, hs159, h⟩ := LT_el h
  obtain ⟨w160, hw160, h⟩ := LT_el h
  refine vm_e hw160 rfl (fun h9 => pr_X1_127_100 (x := (some b157)) hc hRw hX1 gs158 hni hs159 rfl dX1_init_268 h9) ?_
  refine vm_l (fun h9 => pv_aload_n 0 hc dX1_init_271 rfl rfl h9) ?_
  refine vm_l (fun h9 => pv_iconst (4 : Int32) hc dX1_init_272 rfl h9) ?_
  obtain ⟨w161, hw161, h⟩ := LT_el h
  obtain ⟨b162, hb162, h⟩ := LT_el h
  refine vm_new (N := 4) (w1 := w161) hR (by decide) (by rw [hw161]; rfl) (fun hcap h9 => pv_newa2 hw161 hb162 (atype := .int) (ty := .int) (a0 := (4, .inl (fun _ => (0 : Int32)))) (cA := kap (xg X) 0) (N := 4) hc q335 rfl (fun _ => rfl) (xt0 hX1) rfl (we60 hW _ _) (by decide) (by decide) (by decide) hcap dX1_init_273 h9) ?_
  obtain ⟨s163, gs163, h⟩ := RD_el h
  obtain ⟨s164, hs164, h⟩ := LT_el h
  obtain ⟨w165, hw165, h⟩ := LT_el h
  refine vm_e hw165 rfl (fun h9 => pr_X1_130_100 (x := (some b162)) hc hRw hX1 gs163 hni hs164 rfl dX1_init_275 h9) ?_
  refine vm_l (fun h9 => pv_aload_n 0 hc dX1_init_278 rfl rfl h9) ?_
  obtain ⟨w166, hw166, h⟩ := LT_el h
  obtain ⟨b167, hb167, h⟩ := LT_el h
  refine vm_new (N := 12) (w1 := w166) hR (by decide) (by rw [hw166]; rfl) (fun hcap h9 => pv_new2 (r := r0) (kd := 106) hw166 hb167 hc (xk6 hX1) in_X8 tyX8 tyX8_ok q482 q483 q120 (re106 hRw _ _) (fun j hj => by match j, hj with | 0, _ => rfl | 1, _ => rfl | 2, _ => rfl | 3, _ => rfl | 4, _ => rfl | 5, _ => rfl | 6, _ => rfl | 7, _ => rfl | 8, _ => rfl | 9, _ => rfl | 10, _ => rfl | 11, _ => rfl) hcap dX1_init_279 h9) ?_
  refine vm_l (fun h9 => pv_dup hc dX1_init_282 rfl h9) ?_
  refine vm_l (fun h9 => pv_aload_n 0 hc dX1_init_283 rfl rfl h9) ?_
  obtain ⟨w170, hf169, h⟩ := BD_el h
  obtain ⟨hm171, h⟩ := MG_el h
  refine vm_call hR hm171 rfl rfl (fun hcap h9 => pv_callI (nA := 1) hc (x8_init_ok hRw hW hX1 hX3 hX4 hf169) q484 q485 q120 q486 rfl (by decide +kernel) ⟨(by decide), by decide⟩ rfl rfl (Nat.le_of_ble_eq_true rfl) dX1_init_284 hcap h9) ?_
  obtain ⟨s172, gs172, h⟩ := RD_el h
  obtain ⟨s173, hs173, h⟩ := LT_el h
  obtain ⟨w174, hw174, h⟩ := LT_el h
  refine vm_e hw174 rfl (fun h9 => pr_X1_136_100 (x := (some b167)) hc hRw hX1 gs172 hni hs173 rfl dX1_init_287 h9) ?_
  refine vm_l (fun h9 => pv_aload_n 0 hc dX1_init_290 rfl rfl h9) ?_
  refine vm_l (fun h9 => pv_iconst (2 : Int32) hc dX1_init_291 rfl h9) ?_
  obtain ⟨w175, hw175, h⟩ := LT_el h
  obtain ⟨b176, hb176, h⟩ := LT_el h
  refine vm_new (N := 2) (w1 := w175) hR (by decide) (by rw [hw175]; rfl) (fun hcap h9 => pv_newq2 hw175 hb176 hc q519 (wax hW _ hc.2.2.2.2.2.1.2.2.1).2.2.2.2.2.2.1 (xt6 hX1) (re66 hRw _ _) (by decide) (by decide) (by decide) hcap dX1_init_292 h9) ?_
  obtain ⟨s177, gs177, h⟩ := RD_el h
  obtain ⟨s178, hs178, h⟩ := LT_el h
  obtain ⟨w179, hw179, h⟩ := LT_el h
  refine vm_e hw179 rfl (fun h9 => pr_X1_142_100 (x := (some b176)) hc hRw hX1 gs177 hni hs178 rfl dX1_init_295 h9) ?_
  cases h
  exact fun _ => ⟨Nat.le_refl _, pv_vret hc hr hQ rfl rfl dX1_init_298⟩
