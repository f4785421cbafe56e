/-! constructors of the readers (written by gen/x6.py) -/
set_option maxRecDepth 100000
def x5_init104 (G : Wd) (q : Nat) (a : Nat) (x2 : Int32) : Option Wd := RD G q 104 (fun s1 => LT (sP s1 7 (some a)) (fun s2 => LT (wp G q 104 s2) (fun w3 => LT (sI s2 0 x2) (fun s4 => LT (wp w3 q 104 s4) (fun w5 => some w5)))))
set_option maxHeartbeats 4000000 in
theorem x5_init104_ok {l : Launch} {g : Gh} (hRw : OKRw g) (hW : OKW g) (hX1 : OKX1 g) (hX3 : OKX3 g) (hX4 : OKX4 g) {G : Wd} {q : Nat} {a : Nat} {x2 : Int32} {G' : Wd} (hf : x5_init104 G q a x2 = some G') : MTa l g yX5_init cX5_init 3 none 2 (G'.1 - G.1) (1200 * (G'.1 - G.1)) G [.ref q, .ref a, .int x2] none G' := by
  refine vm_start (by decide) (Nat.le_of_ble_eq_true rfl) ?_
  intro X hl hg hN hc hr hni hR hQ
  subst hl; subst hg
  have h := hf
  unfold x5_init104 at h
  show VM X G G' G [(0, .ref q), (1, .ref a), (2, .int x2)] [] 0
  refine vm_l (fun h9 => pv_aload_n 0 hc dX5_init_0 rfl rfl h9) ?_
  refine vm_l (fun h9 => pv_aload_n 1 hc dX5_init_1 rfl rfl h9) ?_
  obtain ⟨s1, gs1, h⟩ := RD_el h
  obtain ⟨s2, hs2, h⟩ := LT_el h
  obtain ⟨w3, hw3, h⟩ := LT_el h
  refine vm_e hw3 rfl (fun h9 => pr_X5_3_104 (x := (some a)) hc hRw hX1 gs1 hni hs2 rfl dX5_init_2 h9) ?_
  refine vm_l (fun h9 => pv_aload_n 0 hc dX5_init_5 rfl rfl h9) ?_
  refine vm_l (fun h9 => pv_objInit hc q396 q148 q149 (by decide) (Nat.le_of_ble_eq_true rfl) dX5_init_6 h9) ?_
  refine vm_l (fun h9 => pv_aload_n 0 hc dX5_init_9 rfl rfl h9) ?_
  refine vm_l (fun h9 => pv_iload_n 2 hc dX5_init_10 rfl rfl h9) ?_
  obtain ⟨s4, hs4, h⟩ := LT_el h
  obtain ⟨w5, hw5, h⟩ := LT_el h
  refine vm_e hw5 rfl (fun h9 => pr_X5_15_104 hc hRw hX1 (wp_at' hw3) hni hs4 rfl dX5_init_11 h9) ?_
  cases h
  exact fun _ => ⟨Nat.le_refl _, pv_vret hc hr hQ rfl rfl dX5_init_14⟩
def x5_init105 (G : Wd) (q : Nat) (a : Nat) (x2 : Int32) : Option Wd := RD G q 105 (fun s1 => LT (sP s1 7 (some a)) (fun s2 => LT (wp G q 105 s2) (fun w3 => LT (sI s2 0 x2) (fun s4 => LT (wp w3 q 105 s4) (fun w5 => some w5)))))
set_option maxHeartbeats 4000000 in
theorem x5_init105_ok {l : Launch} {g : Gh} (hRw : OKRw g) (hW : OKW g) (hX1 : OKX1 g) (hX3 : OKX3 g) (hX4 : OKX4 g) {G : Wd} {q : Nat} {a : Nat} {x2 : Int32} {G' : Wd} (hf : x5_init105 G q a x2 = some G') : MTa l g yX5_init cX5_init 3 none 2 (G'.1 - G.1) (1200 * (G'.1 - G.1)) G [.ref q, .ref a, .int x2] none G' := by
  refine vm_start (by decide) (Nat.le_of_ble_eq_true rfl) ?_
  intro X hl hg hN hc hr hni hR hQ
  subst hl; subst hg
  have h := hf
  unfold x5_init105 at h
  show VM X G G' G [(0, .ref q), (1, .ref a), (2, .int x2)] [] 0
  refine vm_l (fun h9 => pv_aload_n 0 hc dX5_init_0 rfl rfl h9) ?_
  refine vm_l (fun h9 => pv_aload_n 1 hc dX5_init_1 rfl rfl h9) ?_
  obtain ⟨s1, gs1, h⟩ := RD_el h
  obtain ⟨s2, hs2, h⟩ := LT_el h
  obtain ⟨w3, hw3, h⟩ := LT_el h
  refine vm_e hw3 rfl (fun h9 => pr_X5_3_105 (x := (some a)) hc hRw hX1 gs1 hni hs2 rfl dX5_init_2 h9) ?_
  refine vm_l (fun h9 => pv_aload_n 0 hc dX5_init_5 rfl rfl h9) ?_
  refine vm_l (fun h9 => pv_objInit hc q396 q148 q149 (by decide) (Nat.le_of_ble_eq_true rfl) dX5_init_6 h9) ?_
  refine vm_l (fun h9 => pv_aload_n 0 hc dX5_init_9 rfl rfl h9) ?_
  refine vm_l (fun h9 => pv_iload_n 2 hc dX5_init_10 rfl rfl h9) ?_
  obtain ⟨s4, hs4, h⟩ := LT_el h
  obtain ⟨w5, hw5, h⟩ := LT_el h
  refine vm_e hw5 rfl (fun h9 => pr_X5_15_105 hc hRw hX1 (wp_at' hw3) hni hs4 rfl dX5_init_11 h9) ?_
  cases h
  exact fun _ => ⟨Nat.le_refl _, pv_vret hc hr hQ rfl rfl dX5_init_14⟩
def x5_init106 (G : Wd) (q : Nat) (a : Nat) (x2 : Int32) : Option Wd := RD G q 106 (fun s1 => LT (sP s1 7 (some a)) (fun s2 => LT (wp G q 106 s2) (fun w3 => LT (sI s2 0 x2) (fun s4 => LT (wp w3 q 106 s4) (fun w5 => some w5)))))
set_option maxHeartbeats 4000000 in
theorem x5_init106_ok {l : Launch} {g : Gh} (hRw : OKRw g) (hW : OKW g) (hX1 : OKX1 g) (hX3 : OKX3 g) (hX4 : OKX4 g) {G : Wd} {q : Nat} {a : Nat} {x2 : Int32} {G' : Wd} (hf : x5_init106 G q a x2 = some G') : MTa l g yX5_init cX5_init 3 none 2 (G'.1 - G.1) (1200 * (G'.1 - G.1)) G [.ref q, .ref a, .int x2] none G' := by
  refine vm_start (by decide) (Nat.le_of_ble_eq_true rfl) ?_
  intro X hl hg hN hc hr hni hR hQ
  subst hl; subst hg
  have h := hf
  unfold x5_init106 at h
  show VM X G G' G [(0, .ref q), (1, .ref a), (2, .int x2)] [] 0
  refine vm_l (fun h9 => pv_aload_n 0 hc dX5_init_0 rfl rfl h9) ?_
  refine vm_l (fun h9 => pv_aload_n 1 hc dX5_init_1 rfl rfl h9) ?_
  obtain ⟨s1, gs1, h⟩ := RD_el h
  obtain ⟨s2, hs2, h⟩ := LT_el h
  obtain ⟨w3, hw3, h⟩ := LT_el h
  refine vm_e hw3 rfl (fun h9 => pr_X5_3_106 (x := (some a)) hc hRw hX1 gs1 hni hs2 rfl dX5_init_2 h9) ?_
  refine vm_l (fun h9 => pv_aload_n 0 hc dX5_init_5 rfl rfl h9) ?_
  refine vm_l (fun h9 => pv_objInit hc q396 q148 q149 (by decide) (Nat.le_of_ble_eq_true rfl) dX5_init_6 h9) ?_
  refine vm_l (fun h9 => pv_aload_n 0 hc dX5_init_9 rfl rfl h9) ?_
  refine vm_l (fun h9 => pv_iload_n 2 hc dX5_init_10 rfl rfl h9) ?_
  obtain ⟨s4, hs4, h⟩ := LT_el h
  obtain ⟨w5, hw5, h⟩ := LT_el h
  refine vm_e hw5 rfl (fun h9 => pr_X5_15_106 hc hRw hX1 (wp_at' hw3) hni hs4 rfl dX5_init_11 h9) ?_
  cases h
  exact fun _ => ⟨Nat.le_refl _, pv_vret hc hr hQ rfl rfl dX5_init_14⟩
def x6_init (G : Wd) (q : Nat) (a : Nat) : Option Wd := RD G q 104 (fun s1 => LT (sP s1 10 (some a)) (fun s2 => LT (wp G q 104 s2) (fun w3 => BD (x5_init104 w3 q a (900 : Int32)) (fun w6 => MG w3 w6 (some w6)))))
set_option maxHeartbeats 4000000 in
theorem x6_init_ok {l : Launch} {g : Gh} (hRw : OKRw g) (hW : OKW g) (hX1 : OKX1 g) (hX3 : OKX3 g) (hX4 : OKX4 g) {G : Wd} {q : Nat} {a : Nat} {G' : Wd} (hf : x6_init G q a = some G') : MTa l g yX6_init cX6_init 2 none 3 (G'.1 - G.1) (1200 * (G'.1 - G.1)) G [.ref q, .ref a] none G' := by
  refine vm_start (by decide) (Nat.le_of_ble_eq_true rfl) ?_
  intro X hl hg hN hc hr hni hR hQ
  subst hl; subst hg
  have h := hf
  unfold x6_init at h
  show VM X G G' G [(0, .ref q), (1, .ref a)] [] 0
  refine vm_l (fun h9 => pv_aload_n 0 hc dX6_init_0 rfl rfl h9) ?_
  refine vm_l (fun h9 => pv_aload_n 1 hc dX6_init_1 rfl rfl h9) ?_
  obtain ⟨s1, gs1, h⟩ := RD_el h
  obtain ⟨s2, hs2, h⟩ := LT_el h
  obtain ⟨w3, hw3, h⟩ := LT_el h
  refine vm_e hw3 rfl (fun h9 => pr_X6_3_104 (x := (some a)) hc hRw hX1 gs1 hni hs2 rfl dX6_init_2 h9) ?_
  refine vm_l (fun h9 => pv_aload_n 0 hc dX6_init_5 rfl rfl h9) ?_
  refine vm_l (fun h9 => pv_aload_n 1 hc dX6_init_6 rfl rfl h9) ?_
  refine vm_l (fun h9 => pv_sipush (900 : Int32) hc dX6_init_7 rfl h9) ?_
  obtain ⟨w6, hf5, h⟩ := BD_el h
  obtain ⟨hm7, h⟩ := MG_el h
  refine vm_call hR hm7 rfl rfl (fun hcap h9 => pv_callI (nA := 2) hc (x5_init104_ok hRw hW hX1 hX3 hX4 hf5) q393 q394 q115 q395 rfl (by decide +kernel) ⟨(by decide), by decide⟩ rfl rfl (Nat.le_of_ble_eq_true rfl) dX6_init_10 hcap h9) ?_
  cases h
  exact fun _ => ⟨Nat.le_refl _, pv_vret hc hr hQ rfl rfl dX6_init_13⟩
def x7_init (G : Wd) (q : Nat) (a : Nat) : Option Wd := RD G q 105 (fun s1 => LT (sP s1 10 (some a)) (fun s2 => LT (wp G q 105 s2) (fun w3 => BD (x5_init105 w3 q a (400 : Int32)) (fun w6 => MG w3 w6 (LT (wn w6 67 (sP r0 0 (some 40))) (fun w8 => LT w6.1 (fun b9 => RD w8 q 105 (fun s10 => LT (sP s10 8 (some b9)) (fun s11 => LT (wp w8 q 105 s11) (fun w12 => some w12))))))))))
set_option maxHeartbeats 4000000 in
theorem x7_init_ok {l : Launch} {g : Gh} (hRw : OKRw g) (hW : OKW g) (hX1 : OKX1 g) (hX3 : OKX3 g) (hX4 : OKX4 g) {G : Wd} {q : Nat} {a : Nat} {G' : Wd} (hf : x7_init G q a = some G') : MTa l g yX7_init cX7_init 2 none 3 (G'.1 - G.1) (1200 * (G'.1 - G.1)) G [.ref q, .ref a] none G' := by
  refine vm_start (by decide) (Nat.le_of_ble_eq_true rfl) ?_
  intro X hl hg hN hc hr hni hR hQ
  subst hl; subst hg
  have h := hf
  unfold x7_init at h
  show VM X G G' G [(0, .ref q), (1, .ref a)] [] 0
  refine vm_l (fun h9 => pv_aload_n 0 hc dX7_init_0 rfl rfl h9) ?_
  refine vm_l (fun h9 => pv_aload_n 1 hc dX7_init_1 rfl rfl h9) ?_
  obtain ⟨s1, gs1, h⟩ := RD_el h
  obtain ⟨s2, hs2, h⟩ := LT_el h
  obtain ⟨w3, hw3, h⟩ := LT_el h
  refine vm_e hw3 rfl (fun h9 => pr_X7_3_105 (x := (some a)) hc hRw hX1 gs1 hni hs2 rfl dX7_init_2 h9) ?_
  refine vm_l (fun h9 => pv_aload_n 0 hc dX7_init_5 rfl rfl h9) ?_
  refine vm_l (fun h9 => pv_aload_n 1 hc dX7_init_6 rfl rfl h9) ?_
  refine vm_l (fun h9 => pv_sipush (400 : Int32) hc dX7_init_7 rfl h9) ?_
  obtain ⟨w6, hf5, h⟩ := BD_el h
  obtain ⟨hm7, h⟩ := MG_el h
  refine vm_call hR hm7 rfl rfl (fun hcap h9 => pv_callI (nA := 2) hc (x5_init105_ok hRw hW hX1 hX3 hX4 hf5) q446 q394 q115 q395 rfl (by decide +kernel) ⟨(by decide), by decide⟩ rfl rfl (Nat.le_of_ble_eq_true rfl) dX7_init_10 hcap h9) ?_
  refine vm_l (fun h9 => pv_aload_n 0 hc dX7_init_13 rfl rfl h9) ?_
  refine vm_l (fun h9 => pv_bipush (40 : Int32) hc dX7_init_14 rfl h9) ?_
  obtain ⟨w8, hw8, h⟩ := LT_el h
  obtain ⟨b9, hb9, h⟩ := LT_el h
  refine vm_new (N := 40) (w1 := w8) hR (by decide) (by rw [hw8]; rfl) (fun hcap h9 => pv_newq2 hw8 hb9 hc q447 (wax hW _ hc.2.2.2.2.2.1.2.2.1).2.2.2.2.2.2.2 (xt7 hX1) (re67 hRw _ _) (by decide) (by decide) (by decide) hcap dX7_init_16 h9) ?_
  obtain ⟨s10, gs10, h⟩ := RD_el h
  obtain ⟨s11, hs11, h⟩ := LT_el h
  obtain ⟨w12, hw12, h⟩ := LT_el h
  refine vm_e hw12 rfl (fun h9 => pr_X7_17_105 (x := (some b9)) hc hRw hX1 gs10 hni hs11 rfl dX7_init_19 h9) ?_
  cases h
  exact fun _ => ⟨Nat.le_refl _, pv_vret hc hr hQ rfl rfl dX7_init_22⟩
def x8_init (gn : Nat → Nat) (G : Wd) (q : Nat) (a : Nat) : Option Wd := RD G q 106 (fun s1 => LT (sP s1 11 (some a)) (fun s2 => LT (wp G q 106 s2) (fun w3 => BD (x5_init106 w3 q a (200 : Int32)) (fun w6 => MG w3 w6 (LT (wn w6 64 (sP r0 0 (some 5))) (fun w8 => LT w6.1 (fun b9 => IX (0 : Int32) ((gP (sP r0 0 (some 5)) 0).getD 0) (fun i10 => LT (sQ (sP r0 0 (some 5)) 0 i10 (some (gn 60))) (fun s11 => LT (wp w8 b9 64 s11) (fun w12 => IX (1 : Int32) ((gP s11 0).getD 0) (fun i13 => LT (sQ s11 0 i13 (some (gn 62))) (fun s14 => LT (wp w12 b9 64 s14) (fun w15 => IX (2 : Int32) ((gP s14 0).getD 0) (fun i16 => LT (sQ s14 0 i16 (some (gn 64))) (fun s17 => LT (wp w15 b9 64 s17) (fun w18 => IX (3 : Int32) ((gP s17 0).getD 0) (fun i19 => LT (sQ s17 0 i19 (some (gn 66))) (fun s20 => LT (wp w18 b9 64 s20) (fun w21 => IX (4 : Int32) ((gP s20 0).getD 0) (fun i22 => LT (sQ s20 0 i22 (some (gn 68))) (fun s23 => LT (wp w21 b9 64 s23) (fun w24 => RD w24 q 106 (fun s25 => LT (sP s25 8 (some b9)) (fun s26 => LT (wp w24 q 106 s26) (fun w27 => LT (wn w27 64 (sP r0 0 (some 3))) (fun w28 => LT w27.1 (fun b29 => IX (0 : Int32) ((gP (sP r0 0 (some 3)) 0).getD 0) (fun i30 => LT (sQ (sP r0 0 (some 3)) 0 i30 (some (gn 70))) (fun s31 => LT (wp w28 b29 64 s31) (fun w32 => IX (1 : Int32) ((gP s31 0).getD 0) (fun i33 => LT (sQ s31 0 i33 (some (gn 72))) (fun s34 => LT (wp w32 b29 64 s34) (fun w35 => IX (2 : Int32) ((gP s34 0).getD 0) (fun i36 => LT (sQ s34 0 i36 (some (gn 74))) (fun s37 => LT (wp w35 b29 64 s37) (fun w38 => RD w38 q 106 (fun s39 => LT (sP s39 9 (some b29)) (fun s40 => LT (wp w38 q 106 s40) (fun w41 => some w41)))))))))))))))))))))))))))))))))))))))
set_option maxHeartbeats 4000000 in
theorem x8_init_ok {l : Launch} {g : Gh} (hRw : OKRw g) (hW : OKW g) (hX1 : OKX1 g) (hX3 : OKX3 g) (hX4 : OKX4 g) {G : Wd} {q : Nat} {a : Nat} {G' : Wd} (hf : x8_init (gN g) G q a = some G') : MTa l g yX8_init cX8_init 2 none 3 (G'.1 - G.1) (1200 * (G'.1 - G.1)) G [.ref q, .ref a] none G' := by
  refine vm_start (by decide) (Nat.le_of_ble_eq_true rfl) ?_
  intro X hl hg hN hc hr hni hR hQ
  subst hl; subst hg
  have h := hf
  unfold x8_init at h
  show VM X G G' G [(0, .ref q), (1, .ref a)] [] 0
  refine vm_l (fun h9 => pv_aload_n 0 hc dX8_init_0 rfl rfl h9) ?_
  refine vm_l (fun h9 => pv_aload_n 1 hc dX8_init_1 rfl rfl h9) ?_
  obtain ⟨s1, gs1, h⟩ := RD_el h
  obtain ⟨s2, hs2, h⟩ := LT_el h
  obtain ⟨w3, hw3, h⟩ := LT_el h
  refine vm_e hw3 rfl (fun h9 => pr_X8_3_106 (x := (some a)) hc hRw hX1 gs1 hni hs2 rfl dX8_init_2 h9) ?_
  refine vm_l (fun h9 => pv_aload_n 0 hc dX8_init_5 rfl rfl h9) ?_
  refine vm_l (fun h9 => pv_aload_n 1 hc dX8_init_6 rfl rfl h9) ?_
  refine vm_l (fun h9 => pv_sipush (200 : Int32) hc dX8_init_7 rfl h9) ?_
  obtain ⟨w6, hf5, h⟩ := BD_el h
  obtain ⟨hm7, h⟩ := MG_el h
  refine vm_call hR hm7 rfl rfl (fun hcap h9 => pv_callI (nA := 2) hc (x5_init106_ok hRw hW hX1 hX3 hX4 hf5) q487 q394 q115 q395 rfl (by decide +kernel) ⟨(by decide), by decide⟩ rfl rfl (Nat.le_of_ble_eq_true rfl) dX8_init_10 hcap h9) ?_
  refine vm_l (fun h9 => pv_aload_n 0 hc dX8_init_13 rfl rfl h9) ?_
  refine vm_l (fun h9 => pv_iconst (5 : Int32) hc dX8_init_14 rfl h9) ?_
  obtain ⟨w8, hw8, h⟩ := LT_el h
  obtain ⟨b9, hb9, h⟩ := LT_el h
  refine vm_new (N := 5) (w1 := w8) hR (by decide) (by rw [hw8]; rfl) (fun hcap h9 => pv_newq2 hw8 hb9 hc q488 (wax hW _ hc.2.2.2.2.2.1.2.2.1).2.2.2.2.1 (xt4 hX1) (re64 hRw _ _) (by decide) (by decide) (by decide) hcap dX8_init_15 h9) ?_
  refine vm_l (fun h9 => pv_dup hc dX8_init_18 rfl h9) ?_
  refine vm_l (fun h9 => pv_iconst (0 : Int32) hc dX8_init_19 rfl h9) ?_
  refine vm_l (fun h9 => pv_str hc ((xstr hX1 _ hc.2.2.2.2.2.1.2.2.1).2.1.2.2.2.2.2.2.2.2.2.2.2.2.2.2.2.2.2.2.2.2.2.2.2.2.2.2.2.2.2.2.1) dX8_init_20 h9) ?_
  obtain ⟨i10, hi10, h⟩ := IX_el h
  obtain ⟨s11, hs11, h⟩ := LT_el h
  obtain ⟨w12, hw12, h⟩ := LT_el h
  refine vm_e hw12 rfl (fun h9 => pv_aastS hc (hb9 ▸ wn_at hw8) (ro_64 hRw) 4 (xt4 hX1) (fun H hW9 => (sa_of (i := 30) hX1 (by decide) H hW9 _ _ hc.2.2.2.2.2.1 hc.2.2.2.2.1).1) (hc.2.2.2.2.2.1.1.1 18 _ (wc18 hW)).2 hi10 (r' := s11) (by subst hs11; rw [re64 hRw, re64 hRw]; rfl) dX8_init_22 h9) ?_
  refine vm_l (fun h9 => pv_dup hc dX8_init_23 rfl h9) ?_
  refine vm_l (fun h9 => pv_iconst (1 : Int32) hc dX8_init_24 rfl h9) ?_
  refine vm_l (fun h9 => pv_str hc ((xstr hX1 _ hc.2.2.2.2.2.1.2.2.1).2.1.2.2.2.2.2.2.2.2.2.2.2.2.2.2.2.2.2.2.2.2.2.2.2.2.2.2.2.2.2.2.2.1) dX8_init_25 h9) ?_
  obtain ⟨i13, hi13, h⟩ := IX_el h
  obtain ⟨s14, hs14, h⟩ := LT_el h
  obtain ⟨w15, hw15, h⟩ := LT_el h
  refine vm_e hw15 rfl (fun h9 => pv_aastS hc (wp_at' hw12) (ro_64 hRw) 4 (xt4 hX1) (fun H hW9 => (sa_of (i := 31) hX1 (by decide) H hW9 _ _ hc.2.2.2.2.2.1 hc.2.2.2.2.1).1) (hc.2.2.2.2.2.1.1.1 18 _ (wc18 hW)).2 hi13 (r' := s14) (by subst hs14; rw [re64 hRw, re64 hRw]; rfl) dX8_init_27 h9) ?_
  refine vm_l (fun h9 => pv_dup hc dX8_init_28 rfl h9) ?_
  refine vm_l (fun h9 => pv_iconst (2 : Int32) hc dX8_init_29 rfl h9) ?_
  refine vm_l (fun h9 => pv_str hc ((xstr hX1 _ hc.2.2.2.2.2.1.2.2.1).2.1.2.2.2.2.2.2.2.2.2.2.2.2.2.2.2.2.2.2.2.2.2.2.2.2.2.2.2.2.2.2.2.2.1) dX8_init_30 h9) ?_
  obtain ⟨i16, hi16, h⟩ := IX_el h
  obtain ⟨s17, hs17, h⟩ := LT_el h
  obtain ⟨w18, hw18, h⟩ := LT_el h
  refine vm_e hw18 rfl (fun h9 => pv_aastS hc (wp_at' hw15) (ro_64 hRw) 4 (xt4 hX1) (fun H hW9 => (sa_of (i := 32) hX1 (by decide) H hW9 _ _ hc.2.2.2.2.2.1 hc.2.2.2.2.1).1) (hc.2.2.2.2.2.1.1.1 18 _ (wc18 hW)).2 hi16 (r' := s17) (by subst hs17; rw [re64 hRw, re64 hRw]; rfl) dX8_init_32 h9) ?_
  refine vm_l (fun h9 => pv_dup hc dX8_init_33 rfl h9) ?_
  refine vm_l (fun h9 => pv_iconst (3 : Int32) hc dX8_init_34 rfl h9) ?_
  refine vm_l (fun h9 => pv_str hc ((xstr hX1 _ hc.2.2.2.2.2.1.2.2.1).2.1.2.2.2.2.2.2.2.2.2.2.2.2.2.2.2.2.2.2.2.2.2.2.2.2.2.2.2.2.2.2.2.2.2.1) dX8_init_35 h9) ?_
  obtain ⟨i19, hi19, h⟩ := IX_el h
  obtain ⟨s20, hs20, h⟩ := LT_el h
  obtain ⟨w21, hw21, h⟩ := LT_el h
  refine vm_e hw21 rfl (fun h9 => pv_aastS hc (wp_at' hw18) (ro_64 hRw) 4 (xt4 hX1) (fun H hW9 => (sa_of (i := 33) hX1 (by decide) H hW9 _ _ hc.2.2.2.2.2.1 hc.2.2.2.2.1).1) (hc.2.2.2.2.2.1.1.1 18 _ (wc18 hW)).2 hi19 (r' := s20) (by subst hs20; rw [re64 hRw, re64 hRw]; rfl) dX8_init_37 h9) ?_
  refine vm_l (fun h9 => pv_dup hc dX8_init_38 rfl h9) ?_
  refine vm_l (fun h9 => pv_iconst (4 : Int32) hc dX8_init_39 rfl h9) ?_
  refine vm_l (fun h9 => pv_str hc ((xstr hX1 _ hc.2.2.2.2.2.1.2.2.1).2.1.2.2.2.2.2.2.2.2.2.2.2.2.2.2.2.2.2.2.2.2.2.2.2.2.2.2.2.2.2.2.2.2.2.2.1) dX8_init_40 h9) ?_
  obtain ⟨i22, hi22, h⟩ := IX_el h
  obtain ⟨s23, hs23, h⟩ := LT_el h
  obtain ⟨w24, hw24, h⟩ := LT_el h
  refine vm_e hw24 rfl (fun h9 => pv_aastS hc (wp_at' hw21) (ro_64 hRw) 4 (xt4 hX1) (fun H hW9 => (sa_of (i := 34) hX1 (by decide) H hW9 _ _ hc.2.2.2.2.2.1 hc.2.2.2.2.1).1) (hc.2.2.2.2.2.1.1.1 18 _ (wc18 hW)).2 hi22 (r' := s23) (by subst hs23; rw [re64 hRw, re64 hRw]; rfl) dX8_init_42 h9) ?_
  obtain ⟨s25, gs25, h⟩ := RD_el h
  obtain ⟨s26, hs26, h⟩ := LT_el h
  obtain ⟨w27, hw27, h⟩ := LT_el h
  refine vm_e hw27 rfl (fun h9 => pr_X8_27_106 (x := (some b9)) hc hRw hX1 gs25 hni hs26 rfl dX8_init_43 h9) ?_
  refine vm_l (fun h9 => pv_aload_n 0 hc dX8_init_46 rfl rfl h9) ?_
  refine vm_l (fun h9 => pv_iconst (3 : Int32) hc dX8_init_47 rfl h9) ?_
  obtain ⟨w28, hw28, h⟩ := LT_el h
  obtain ⟨b29, hb29, h⟩ := LT_el h
  refine vm_new (N := 3) (w1 := w28) hR (by decide) (by rw [hw28]; rfl) (fun hcap h9 => pv_newq2 hw28 hb29 hc q488 (wax hW _ hc.2.2.2.2.2.1.2.2.1).2.2.2.2.1 (xt4 hX1) (re64 hRw _ _) (by decide) (by decide) (by decide) hcap dX8_init_48 h9) ?_
  refine vm_l (fun h9 => pv_dup hc dX8_init_51 rfl h9) ?_
  refine vm_l (fun h9 => pv_iconst (0 : Int32) hc dX8_init_52 rfl h9) ?_
  refine vm_l (fun h9 => pv_str hc ((xstr hX1 _ hc.2.2.2.2.2.1.2.2.1).2.1.2.2.2.2.2.2.2.2.2.2.2.2.2.2.2.2.2.2.2.2.2.2.2.2.2.2.2.2.2.2.2.2.2.2.2.1) dX8_init_53 h9) ?_
  obtain ⟨i30, hi30, h⟩ := IX_el h
  obtain ⟨s31, hs31, h⟩ := LT_el h
  obtain ⟨w32, hw32, h⟩ := LT_el h
  refine vm_e hw32 rfl (fun h9 => pv_aastS hc (hb29 ▸ wn_at hw28) (ro_64 hRw) 4 (xt4 hX1) (fun H hW9 => (sa_of (i := 35) hX1 (by decide) H hW9 _ _ hc.2.2.2.2.2.1 hc.2.2.2.2.1).1) (hc.2.2.2.2.2.1.1.1 18 _ (wc18 hW)).2 hi30 (r' := s31) (by subst hs31; rw [re64 hRw, re64 hRw]; rfl) dX8_init_55 h9) ?_
  refine vm_l (fun h9 => pv_dup hc dX8_init_56 rfl h9) ?_
  refine vm_l (fun h9 => pv_iconst (1 : Int32) hc dX8_init_57 rfl h9) ?_
  refine vm_l (fun h9 => pv_str hc ((xstr hX1 _ hc.2.2.2.2.2.1.2.2.1).2.1.2.2.2.2.2.2.2.2.2.2.2.2.2.2.2.2.2.2.2.2.2.2.2.2.2.2.2.2.2.2.2.2.2.2.2.2.1) dX8_init_58 h9) ?_
  obtain ⟨i33, hi33, h⟩ := IX_el h
  obtain ⟨s34, hs34, h⟩ := LT_el h
  obtain ⟨w35, hw35, h⟩ := LT_el h
  refine vm_e hw35 rfl (fun h9 => pv_aastS hc (wp_at' hw32) (ro_64 hRw) 4 (xt4 hX1) (fun H hW9 => (sa_of (i := 36) hX1 (by decide) H hW9 _ _ hc.2.2.2.2.2.1 hc.2.2.2.2.1).1) (hc.2.2.2.2.2.1.1.1 18 _ (wc18 hW)).2 hi33 (r' := s34) (by subst hs34; rw [re64 hRw, re64 hRw]; rfl) dX8_init_60 h9) ?_
  refine vm_l (fun h9 => pv_dup hc dX8_init_61 rfl h9) ?_
  refine vm_l (fun h9 => pv_iconst (2 : Int32) hc dX8_init_62 rfl h9) ?_
  refine vm_l (fun h9 => pv_str hc ((xstr hX1 _ hc.2.2.2.2.2.1.2.2.1).2.1.2.2.2.2.2.2.2.2.2.2.2.2.2.2.2.2.2.2.2.2.2.2.2.2.2.2.2.2.2.2.2.2.2.2.2.2.2.1) dX8_init_63 h9) ?_
  obtain ⟨i36, hi36, h⟩ := IX_el h
  obtain ⟨s37, hs37, h⟩ := LT_el h
  obtain ⟨w38, hw38, h⟩ := LT_el h
  refine vm_e hw38 rfl (fun h9 => pv_aastS hc (wp_at' hw35) (ro_64 hRw) 4 (xt4 hX1) (fun H hW9 => (sa_of (i := 37) hX1 (by decide) H hW9 _ _ hc.2.2.2.2.2.1 hc.2.2.2.2.1).1) (hc.2.2.2.2.2.1.1.1 18 _ (wc18 hW)).2 hi36 (r' := s37) (by subst hs37; rw [re64 hRw, re64 hRw]; rfl) dX8_init_65 h9) ?_
  obtain ⟨s39, gs39, h⟩ := RD_el h
  obtain ⟨s40, hs40, h⟩ := LT_el h
  obtain ⟨w41, hw41, h⟩ := LT_el h
  refine vm_e hw41 rfl (fun h9 => pr_X8_37_106 (x := (some b29)) hc hRw hX1 gs39 hni hs40 rfl dX8_init_66 h9) ?_
  cases h
  exact fun _ => ⟨Nat.le_refl _, pv_vret hc hr hQ rfl rfl dX8_init_69⟩
