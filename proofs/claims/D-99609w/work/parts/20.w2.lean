/-! Lines: what they ask, what they do; nodes of sentences made (written by gen/x6.py) -/
set_option maxRecDepth 100000
def x10_init (G : Wd) (q : Nat) : Option Wd := some G
set_option maxHeartbeats 4000000 in
theorem x10_init_ok {l : Launch} {g : Gh} (hW : OKW g) (hX1 : OKX1 g) (hX3 : OKX3 g) (hX4 : OKX4 g) {G : Wd} {q : Nat} {G' : Wd} (hf : x10_init G q = some G') : MTa l g yX10_init cX10_init 1 none 2 (G'.1 - G.1) (1200 * (G'.1 - G.1)) G [.ref q] none G' := by
  refine vm_start (by decide) (Nat.le_of_ble_eq_true rfl) ?_
  intro X hl hg hN hc hr hni hR hQ
  subst hl; subst hg
  have h := hf
  unfold x10_init at h
  show VM X G G' G [(0, .ref q)] [] 0
  refine vm_l (fun h9 => pv_aload_n 0 hc dX10_init_0 rfl rfl h9) ?_
  refine vm_l (fun h9 => pv_objInit hc q1207 q148 q149 (by decide) (Nat.le_of_ble_eq_true rfl) dX10_init_1 h9) ?_
  cases h
  exact fun _ => ⟨Nat.le_refl _, pv_vret hc hr hQ rfl rfl dX10_init_4⟩
def x10_coded (G : Wd) (x0 : Int32) (x1 : Int32) : Option (Int32 × Wd) := (if x1 = 0 then some ((0 : Int32), G) else some ((((10 : Int32) * x0) + x1), G))
set_option maxHeartbeats 4000000 in
theorem x10_coded_ok {l : Launch} {g : Gh} (hW : OKW g) (hX1 : OKX1 g) (hX3 : OKX3 g) (hX4 : OKX4 g) {G : Wd} {x0 : Int32} {x1 : Int32} {r : Int32} {G' : Wd} (hf : x10_coded G x0 x1 = some (r, G')) : MTa l g yX10_coded cX10_coded 2 (some .int) 1 (G'.1 - G.1) (1200 * (G'.1 - G.1)) G [.int x0, .int x1] (some (.int r)) G' := by
  refine vm_start (by decide) (Nat.le_of_ble_eq_true rfl) ?_
  intro X hl hg hN hc hr hni hR hQ
  subst hl; subst hg
  have h := hf
  unfold x10_coded at h
  show VM X G G' G [(0, .int x0), (1, .int x1)] [] 0
  refine vm_l (fun h9 => pv_iload_n 1 hc dX10_coded_0 rfl rfl h9) ?_
  refine vm_ifn h (fun h k1 k2 => pv_if_ne (tgt := 8) hc dX10_coded_1 (by decide) h k1 k2) (fun h => ?_) (fun h => ?_)
  · refine vm_l (fun h9 => pv_bipush (10 : Int32) hc dX10_coded_8 rfl h9) ?_
    refine vm_l (fun h9 => pv_iload_n 0 hc dX10_coded_10 rfl rfl h9) ?_
    refine vm_l (fun h9 => pv_imul hc dX10_coded_11 h9) ?_
    refine vm_l (fun h9 => pv_iload_n 1 hc dX10_coded_12 rfl rfl h9) ?_
    refine vm_l (fun h9 => pv_iadd hc dX10_coded_13 h9) ?_
    obtain ⟨rfl, rfl⟩ := Prod.mk.inj (Option.some.inj h)
    exact fun _ => ⟨Nat.le_refl _, pv_iret hc hr hQ rfl rfl dX10_coded_14⟩
  · refine vm_l (fun h9 => pv_iconst (0 : Int32) hc dX10_coded_4 rfl h9) ?_
    refine vm_l (fun h9 => pv_goto (tgt := 14) hc dX10_coded_5 (by decide) h9) ?_
    obtain ⟨rfl, rfl⟩ := Prod.mk.inj (Option.some.inj h)
    exact fun _ => ⟨Nat.le_refl _, pv_iret hc hr hQ rfl rfl dX10_coded_14⟩
def x11_init (G : Wd) (q : Nat) (x1 : Int32) : Option Wd := BD (x10_init G q) (fun w3 => MG G w3 (RD w3 q 8 (fun s5 => LT (sI s5 0 x1) (fun s6 => LT (wp w3 q 8 s6) (fun w7 => some w7)))))
set_option maxHeartbeats 4000000 in
theorem x11_init_ok {l : Launch} {g : Gh} (hW : OKW g) (hX1 : OKX1 g) (hX3 : OKX3 g) (hX4 : OKX4 g) {G : Wd} {q : Nat} {x1 : Int32} {G' : Wd} (hf : x11_init G q x1 = some G') : MTa l g yX11_init cX11_init 2 none 3 (G'.1 - G.1) (1200 * (G'.1 - G.1)) G [.ref q, .int x1] none G' := by
  refine vm_start (by decide) (Nat.le_of_ble_eq_true rfl) ?_
  intro X hl hg hN hc hr hni hR hQ
  subst hl; subst hg
  have h := hf
  unfold x11_init at h
  show VM X G G' G [(0, .ref q), (1, .int x1)] [] 0
  refine vm_l (fun h9 => pv_aload_n 0 hc dX11_init_0 rfl rfl h9) ?_
  obtain ⟨w3, hf2, h⟩ := BD_el h
  obtain ⟨hm4, h⟩ := MG_el h
  refine vm_call hR hm4 rfl rfl (fun hcap h9 => pv_callIN (nA := 0) hc (x10_init_ok hW hX1 hX3 hX4 hf2) q1204 q1205 q131 q1206 rfl (by decide +kernel) ⟨(by decide), by decide⟩ rfl rfl (Nat.le_of_ble_eq_true rfl) dX11_init_1 hcap h9) ?_
  refine vm_l (fun h9 => pv_aload_n 0 hc dX11_init_4 rfl rfl h9) ?_
  refine vm_l (fun h9 => pv_iload_n 1 hc dX11_init_5 rfl rfl h9) ?_
  obtain ⟨s5, gs5, h⟩ := RD_el h
  obtain ⟨s6, hs6, h⟩ := LT_el h
  obtain ⟨w7, hw7, h⟩ := LT_el h
  refine vm_e hw7 rfl (fun h9 => pw_X11_9 hc hW gs5 hni hs6 rfl dX11_init_6 h9) ?_
  cases h
  exact fun _ => ⟨Nat.le_refl _, pv_vret hc hr hQ rfl rfl dX11_init_9⟩
def x12_init (G : Wd) (q : Nat) (x1 : Int32) : Option Wd := BD (x10_init G q) (fun w3 => MG G w3 (RD w3 q 9 (fun s5 => LT (sI s5 0 x1) (fun s6 => LT (wp w3 q 9 s6) (fun w7 => some w7)))))
set_option maxHeartbeats 4000000 in
theorem x12_init_ok {l : Launch} {g : Gh} (hW : OKW g) (hX1 : OKX1 g) (hX3 : OKX3 g) (hX4 : OKX4 g) {G : Wd} {q : Nat} {x1 : Int32} {G' : Wd} (hf : x12_init G q x1 = some G') : MTa l g yX12_init cX12_init 2 none 3 (G'.1 - G.1) (1200 * (G'.1 - G.1)) G [.ref q, .int x1] none G' := by
  refine vm_start (by decide) (Nat.le_of_ble_eq_true rfl) ?_
  intro X hl hg hN hc hr hni hR hQ
  subst hl; subst hg
  have h := hf
  unfold x12_init at h
  show VM X G G' G [(0, .ref q), (1, .int x1)] [] 0
  refine vm_l (fun h9 => pv_aload_n 0 hc dX12_init_0 rfl rfl h9) ?_
  obtain ⟨w3, hf2, h⟩ := BD_el h
  obtain ⟨hm4, h⟩ := MG_el h
  refine vm_call hR hm4 rfl rfl (fun hcap h9 => pv_callIN (nA := 0) hc (x10_init_ok hW hX1 hX3 hX4 hf2) q1220 q1205 q131 q1206 rfl (by decide +kernel) ⟨(by decide), by decide⟩ rfl rfl (Nat.le_of_ble_eq_true rfl) dX12_init_1 hcap h9) ?_
  refine vm_l (fun h9 => pv_aload_n 0 hc dX12_init_4 rfl rfl h9) ?_
  refine vm_l (fun h9 => pv_iload_n 1 hc dX12_init_5 rfl rfl h9) ?_
  obtain ⟨s5, gs5, h⟩ := RD_el h
  obtain ⟨s6, hs6, h⟩ := LT_el h
  obtain ⟨w7, hw7, h⟩ := LT_el h
  refine vm_e hw7 rfl (fun h9 => pw_X12_7 hc hW gs5 hni hs6 rfl dX12_init_6 h9) ?_
  cases h
  exact fun _ => ⟨Nat.le_refl _, pv_vret hc hr hQ rfl rfl dX12_init_9⟩
def x13_init (G : Wd) (q : Nat) (x1 : Int32) (x2 : Int32) : Option Wd := BD (x10_init G q) (fun w3 => MG G w3 (RD w3 q 10 (fun s5 => LT (sI s5 0 x1) (fun s6 => LT (wp w3 q 10 s6) (fun w7 => LT (sI s6 1 x2) (fun s8 => LT (wp w7 q 10 s8) (fun w9 => some w9)))))))
set_option maxHeartbeats 4000000 in
theorem x13_init_ok {l : Launch} {g : Gh} (hW : OKW g) (hX1 : OKX1 g) (hX3 : OKX3 g) (hX4 : OKX4 g) {G : Wd} {q : Nat} {x1 : Int32} {x2 : Int32} {G' : Wd} (hf : x13_init G q x1 x2 = some G') : MTa l g yX13_init cX13_init 3 none 3 (G'.1 - G.1) (1200 * (G'.1 - G.1)) G [.ref q, .int x1, .int x2] none G' := by
  refine vm_start (by decide) (Nat.le_of_ble_eq_true rfl) ?_
  intro X hl hg hN hc hr hni hR hQ
  subst hl; subst hg
  have h := hf
  unfold x13_init at h
  show VM X G G' G [(0, .ref q), (1, .int x1), (2, .int x2)] [] 0
  refine vm_l (fun h9 => pv_aload_n 0 hc dX13_init_0 rfl rfl h9) ?_
  obtain ⟨w3, hf2, h⟩ := BD_el h
  obtain ⟨hm4, h⟩ := MG_el h
  refine vm_call hR hm4 rfl rfl (fun hcap h9 => pv_callIN (nA := 0) hc (x10_init_ok hW hX1 hX3 hX4 hf2) q1230 q1205 q131 q1206 rfl (by decide +kernel) ⟨(by decide), by decide⟩ rfl rfl (Nat.le_of_ble_eq_true rfl) dX13_init_1 hcap h9) ?_
  refine vm_l (fun h9 => pv_aload_n 0 hc dX13_init_4 rfl rfl h9) ?_
  refine vm_l (fun h9 => pv_iload_n 1 hc dX13_init_5 rfl rfl h9) ?_
  obtain ⟨s5, gs5, h⟩ := RD_el h
  obtain ⟨s6, hs6, h⟩ := LT_el h
  obtain ⟨w7, hw7, h⟩ := LT_el h
  refine vm_e hw7 rfl (fun h9 => pw_X13_7 hc hW gs5 hni hs6 rfl dX13_init_6 h9) ?_
  refine vm_l (fun h9 => pv_aload_n 0 hc dX13_init_9 rfl rfl h9) ?_
  refine vm_l (fun h9 => pv_iload_n 2 hc dX13_init_10 rfl rfl h9) ?_
  obtain ⟨s8, hs8, h⟩ := LT_el h
  obtain ⟨w9, hw9, h⟩ := LT_el h
  refine vm_e hw9 rfl (fun h9 => pw_X13_13 hc hW (wp_at' hw7) hni hs8 rfl dX13_init_11 h9) ?_
  cases h
  exact fun _ => ⟨Nat.le_refl _, pv_vret hc hr hQ rfl rfl dX13_init_14⟩
def x14_init (G : Wd) (q : Nat) (x1 : Int32) (x2 : Int32) (x3 : Int32) : Option Wd := BD (x10_init G q) (fun w3 => MG G w3 (RD w3 q 11 (fun s5 => LT (sI s5 0 x1) (fun s6 => LT (wp w3 q 11 s6) (fun w7 => LT (sI s6 1 x2) (fun s8 => LT (wp w7 q 11 s8) (fun w9 => LT (sI s8 2 x3) (fun s10 => LT (wp w9 q 11 s10) (fun w11 => some w11)))))))))
set_option maxHeartbeats 4000000 in
theorem x14_init_ok {l : Launch} {g : Gh} (hW : OKW g) (hX1 : OKX1 g) (hX3 : OKX3 g) (hX4 : OKX4 g) {G : Wd} {q : Nat} {x1 : Int32} {x2 : Int32} {x3 : Int32} {G' : Wd} (hf : x14_init G q x1 x2 x3 = some G') : MTa l g yX14_init cX14_init 4 none 3 (G'.1 - G.1) (1200 * (G'.1 - G.1)) G [.ref q, .int x1, .int x2, .int x3] none G' := by
  refine vm_start (by decide) (Nat.le_of_ble_eq_true rfl) ?_
  intro X hl hg hN hc hr hni hR hQ
  subst hl; subst hg
  have h := hf
  unfold x14_init at h
  show VM X G G' G [(0, .ref q), (1, .int x1), (2, .int x2), (3, .int x3)] [] 0
  refine vm_l (fun h9 => pv_aload_n 0 hc dX14_init_0 rfl rfl h9) ?_
  obtain ⟨w3, hf2, h⟩ := BD_el h
  obtain ⟨hm4, h⟩ := MG_el h
  refine vm_call hR hm4 rfl rfl (fun hcap h9 => pv_callIN (nA := 0) hc (x10_init_ok hW hX1 hX3 hX4 hf2) q1244 q1205 q131 q1206 rfl (by decide +kernel) ⟨(by decide), by decide⟩ rfl rfl (Nat.le_of_ble_eq_true rfl) dX14_init_1 hcap h9) ?_
  refine vm_l (fun h9 => pv_aload_n 0 hc dX14_init_4 rfl rfl h9) ?_
  refine vm_l (fun h9 => pv_iload_n 1 hc dX14_init_5 rfl rfl h9) ?_
  obtain ⟨s5, gs5, h⟩ := RD_el h
  obtain ⟨s6, hs6, h⟩ := LT_el h
  obtain ⟨w7, hw7, h⟩ := LT_el h
  refine vm_e hw7 rfl (fun h9 => pw_X14_7 hc hW gs5 hni hs6 rfl dX14_init_6 h9) ?_
  refine vm_l (fun h9 => pv_aload_n 0 hc dX14_init_9 rfl rfl h9) ?_
  refine vm_l (fun h9 => pv_iload_n 2 hc dX14_init_10 rfl rfl h9) ?_
  obtain ⟨s8, hs8, h⟩ := LT_el h
  obtain ⟨w9, hw9, h⟩ := LT_el h
  refine vm_e hw9 rfl (fun h9 => pw_X14_13 hc hW (wp_at' hw7) hni hs8 rfl dX14_init_11 h9) ?_
  refine vm_l (fun h9 => pv_aload_n 0 hc dX14_init_14 rfl rfl h9) ?_
  refine vm_l (fun h9 => pv_iload_n 3 hc dX14_init_15 rfl rfl h9) ?_
  obtain ⟨s10, hs10, h⟩ := LT_el h
  obtain ⟨w11, hw11, h⟩ := LT_el h
  refine vm_e hw11 rfl (fun h9 => pw_X14_16 hc hW (wp_at' hw9) hni hs10 rfl dX14_init_16 h9) ?_
  cases h
  exact fun _ => ⟨Nat.le_refl _, pv_vret hc hr hQ rfl rfl dX14_init_19⟩
def x11_why (G : Wd) (q : Nat) (x1 : Nat) (x2 : Nat) : Option (Int32 × Wd) := RD G x2 3 (fun s1 => RD G q 8 (fun s2 => (if ((gI s1 7) + (gI s2 0)) ≤ (400 : Int32) then some ((0 : Int32), G) else some ((31 : Int32), G))))
set_option maxHeartbeats 4000000 in
theorem x11_why_ok {l : Launch} {g : Gh} (hW : OKW g) (hX1 : OKX1 g) (hX3 : OKX3 g) (hX4 : OKX4 g) {G : Wd} {q : Nat} {x1 : Nat} {x2 : Nat} {r : Int32} {G' : Wd} (hf : x11_why G q x1 x2 = some (r, G')) : MTa l g yX11_why cX11_why 3 (some .int) 1 (G'.1 - G.1) (1200 * (G'.1 - G.1)) G [.ref q, .ref x1, .ref x2] (some (.int r)) G' := by
  refine vm_start (by decide) (Nat.le_of_ble_eq_true rfl) ?_
  intro X hl hg hN hc hr hni hR hQ
  subst hl; subst hg
  have h := hf
  unfold x11_why at h
  show VM X G G' G [(0, .ref q), (1, .ref x1), (2, .ref x2)] [] 0
  refine vm_l (fun h9 => pv_aload_n 2 hc dX11_why_0 rfl rfl h9) ?_
  obtain ⟨s1, gs1, h⟩ := RD_el h
  refine vm_l (fun h9 => gf_X11_15 hc hX4 gs1 dX11_why_1 h9) ?_
  refine vm_l (fun h9 => pv_aload_n 0 hc dX11_why_4 rfl rfl h9) ?_
  obtain ⟨s2, gs2, h⟩ := RD_el h
  refine vm_l (fun h9 => gw_X11_9 hc hW gs2 dX11_why_5 h9) ?_
  refine vm_l (fun h9 => pv_iadd hc dX11_why_8 h9) ?_
  refine vm_l (fun h9 => pv_sipush (400 : Int32) hc dX11_why_9 rfl h9) ?_
  refine vm_if h (fun h k1 k2 => pv_icmp_le (tgt := 20) hc dX11_why_12 (by decide) h k1 k2) (fun h => ?_) (fun h => ?_)
  · refine vm_l (fun h9 => pv_iconst (0 : Int32) hc dX11_why_20 rfl h9) ?_
    obtain ⟨rfl, rfl⟩ := Prod.mk.inj (Option.some.inj h)
    exact fun _ => ⟨Nat.le_refl _, pv_iret hc hr hQ rfl rfl dX11_why_21⟩
  · refine vm_l (fun h9 => pv_bipush (31 : Int32) hc dX11_why_15 rfl h9) ?_
    refine vm_l (fun h9 => pv_goto (tgt := 21) hc dX11_why_17 (by decide) h9) ?_
    obtain ⟨rfl, rfl⟩ := Prod.mk.inj (Option.some.inj h)
    exact fun _ => ⟨Nat.le_refl _, pv_iret hc hr hQ rfl rfl dX11_why_21⟩
def x12_why (G : Wd) (q : Nat) (x1 : Nat) (x2 : Nat) : Option (Int32 × Wd) := RD G q 9 (fun s1 => RD G x2 3 (fun s3 => BD (x4_whySponge s3 (gI s1 0)) (fun v4 => BD2 (x10_coded G (1 : Int32) v4) (fun v9 w7 => MG G w7 (some (v9, w7))))))
set_option maxHeartbeats 4000000 in
theorem x12_why_ok {l : Launch} {g : Gh} (hW : OKW g) (hX1 : OKX1 g) (hX3 : OKX3 g) (hX4 : OKX4 g) {G : Wd} {q : Nat} {x1 : Nat} {x2 : Nat} {r : Int32} {G' : Wd} (hf : x12_why G q x1 x2 = some (r, G')) : MTa l g yX12_why cX12_why 3 (some .int) 2 (G'.1 - G.1) (1200 * (G'.1 - G.1)) G [.ref q, .ref x1, .ref x2] (some (.int r)) G' := by
  refine vm_start (by decide) (Nat.le_of_ble_eq_true rfl) ?_
  intro X hl hg hN hc hr hni hR hQ
  subst hl; subst hg
  have h := hf
  unfold x12_why at h
  show VM X G G' G [(0, .ref q), (1, .ref x1), (2, .ref x2)] [] 0
  refine vm_l (fun h9 => pv_iconst (1 : Int32) hc dX12_why_0 rfl h9) ?_
  refine vm_l (fun h9 => pv_aload_n 2 hc dX12_why_1 rfl rfl h9) ?_
  refine vm_l (fun h9 => pv_aload_n 0 hc dX12_why_2 rfl rfl h9) ?_
  obtain ⟨s1, gs1, h⟩ := RD_el h
  refine vm_l (fun h9 => gw_X12_7 hc hW gs1 dX12_why_3 h9) ?_
  obtain ⟨s3, gs3, h⟩ := RD_el h
  obtain ⟨v4, hf2, h⟩ := BD_el h
  refine vm_l (fun h9 hk9 hn9 => pv_callV (nA := 1) hc (x4_whySponge_ok hX4 gs3 hf2) gs3 (h_X4 hX4) hX4.1 (lw_V q1279 q958 q959 q114 q960) (by decide +kernel) ⟨(by decide), by decide⟩ rfl rfl (Nat.le_of_ble_eq_true rfl) dX12_why_6 ⟨hk9, hn9⟩ h9 hk9 hn9) ?_
  obtain ⟨v9, w7, hf6, h⟩ := BD2_el h
  obtain ⟨hm8, h⟩ := MG_el h
  refine vm_call hR hm8 rfl rfl (fun hcap h9 => pv_callSU (nA := 2) hc (x10_coded_ok hW hX1 hX3 hX4 hf6) q1280 q1281 ⟨rfl, rfl⟩ q1267 q131 q1268 (by decide +kernel) ⟨(by decide), by decide⟩ rfl rfl (Nat.le_of_ble_eq_true rfl) dX12_why_9 hcap h9) ?_
  obtain ⟨rfl, rfl⟩ := Prod.mk.inj (Option.some.inj h)
  exact fun _ => ⟨Nat.le_refl _, pv_iret hc hr hQ rfl rfl dX12_why_12⟩
def x13_why (G : Wd) (q : Nat) (x1 : Nat) (x2 : Nat) : Option (Int32 × Wd) := RD G q 10 (fun s1 => RD G x2 3 (fun s3 => BD (x4_whyCarry s3 (gI s1 0) (gI s1 1)) (fun v4 => BD2 (x10_coded G (2 : Int32) v4) (fun v9 w7 => MG G w7 (some (v9, w7))))))
set_option maxHeartbeats 4000000 in
theorem x13_why_ok {l : Launch} {g : Gh} (hW : OKW g) (hX1 : OKX1 g) (hX3 : OKX3 g) (hX4 : OKX4 g) {G : Wd} {q : Nat} {x1 : Nat} {x2 : Nat} {r : Int32} {G' : Wd} (hf : x13_why G q x1 x2 = some (r, G')) : MTa l g yX13_why cX13_why 3 (some .int) 2 (G'.1 - G.1) (1200 * (G'.1 - G.1)) G [.ref q, .ref x1, .ref x2] (some (.int r)) G' := by
  refine vm_start (by decide) (Nat.le_of_ble_eq_true rfl) ?_
  intro X hl hg hN hc hr hni hR hQ
  subst hl; subst hg
  have h := hf
  unfold x13_why at h
  show VM X G G' G [(0, .ref q), (1, .ref x1), (2, .ref x2)] [] 0
  refine vm_l (fun h9 => pv_iconst (2 : Int32) hc dX13_why_0 rfl h9) ?_
  refine vm_l (fun h9 => pv_aload_n 2 hc dX13_why_1 rfl rfl h9) ?_
  refine vm_l (fun h9 => pv_aload_n 0 hc dX13_why_2 rfl rfl h9) ?_
  obtain ⟨s1, gs1, h⟩ := RD_el h
  refine vm_l (fun h9 => gw_X13_7 hc hW gs1 dX13_why_3 h9) ?_
  refine vm_l (fun h9 => pv_aload_n 0 hc dX13_why_6 rfl rfl h9) ?_
  refine vm_l (fun h9 => gw_X13_13 hc hW gs1 dX13_why_7 h9) ?_
  obtain ⟨s3, gs3, h⟩ := RD_el h
  obtain ⟨v4, hf2, h⟩ := BD_el h
  refine vm_l (fun h9 hk9 hn9 => pv_callV (nA := 2) hc (x4_whyCarry_ok hX4 gs3 hf2) gs3 (h_X4 hX4) hX4.1 (lw_V q1264 q966 q967 q114 q968) (by decide +kernel) ⟨(by decide), by decide⟩ rfl rfl (Nat.le_of_ble_eq_true rfl) dX13_why_10 ⟨hk9, hn9⟩ h9 hk9 hn9) ?_
  obtain ⟨v9, w7, hf6, h⟩ := BD2_el h
  obtain ⟨hm8, h⟩ := MG_el h
  refine vm_call hR hm8 rfl rfl (fun hcap h9 => pv_callSU (nA := 2) hc (x10_coded_ok hW hX1 hX3 hX4 hf6) q1265 q1266 ⟨rfl, rfl⟩ q1267 q131 q1268 (by decide +kernel) ⟨(by decide), by decide⟩ rfl rfl (Nat.le_of_ble_eq_true rfl) dX13_why_13 hcap h9) ?_
  obtain ⟨rfl, rfl⟩ := Prod.mk.inj (Option.some.inj h)
  exact fun _ => ⟨Nat.le_refl _, pv_iret hc hr hQ rfl rfl dX13_why_16⟩
def x14_why (G : Wd) (q : Nat) (x1 : Nat) (x2 : Nat) : Option (Int32 × Wd) := RD G x2 3 (fun s2 => BD (x4_whyDo s2) (fun v3 => some (v3, G)))
set_option maxHeartbeats 4000000 in
theorem x14_why_ok {l : Launch} {g : Gh} (hW : OKW g) (hX1 : OKX1 g) (hX3 : OKX3 g) (hX4 : OKX4 g) {G : Wd} {q : Nat} {x1 : Nat} {x2 : Nat} {r : Int32} {G' : Wd} (hf : x14_why G q x1 x2 = some (r, G')) : MTa l g yX14_why cX14_why 3 (some .int) 2 (G'.1 - G.1) (1200 * (G'.1 - G.1)) G [.ref q, .ref x1, .ref x2] (some (.int r)) G' := by
  refine vm_start (by decide) (Nat.le_of_ble_eq_true rfl) ?_
  intro X hl hg hN hc hr hni hR hQ
  subst hl; subst hg
  have h := hf
  unfold x14_why at h
  show VM X G G' G [(0, .ref q), (1, .ref x1), (2, .ref x2)] [] 0
  refine vm_l (fun h9 => pv_aload_n 2 hc dX14_why_0 rfl rfl h9) ?_
  obtain ⟨s2, gs2, h⟩ := RD_el h
  obtain ⟨v3, hf1, h⟩ := BD_el h
  refine vm_l (fun h9 hk9 hn9 => pv_callV (nA := 0) hc (x4_whyDo_ok hX4 gs2 hf1) gs2 (h_X4 hX4) hX4.1 (lw_V q1275 q933 q934 q114 q935) (by decide +kernel) ⟨(by decide), by decide⟩ rfl rfl (Nat.le_of_ble_eq_true rfl) dX14_why_1 ⟨hk9, hn9⟩ h9 hk9 hn9) ?_
  obtain ⟨rfl, rfl⟩ := Prod.mk.inj (Option.some.inj h)
  exact fun _ => ⟨Nat.le_refl _, pv_iret hc hr hQ rfl rfl dX14_why_4⟩
def x11_live (G : Wd) (q : Nat) (x1 : Nat) (x2 : Nat) : Option Wd := RD G q 8 (fun s1 => RD G x2 3 (fun s3 => RD G x1 2 (fun s4 => BD2 (x4_days s3 s4 (gI s1 0)) (fun v7 s5 => LT (wp G x2 3 s5) (fun w6 => some w6)))))
set_option maxHeartbeats 4000000 in
theorem x11_live_ok {l : Launch} {g : Gh} (hW : OKW g) (hX1 : OKX1 g) (hX3 : OKX3 g) (hX4 : OKX4 g) {G : Wd} {q : Nat} {x1 : Nat} {x2 : Nat} {G' : Wd} (hf : x11_live G q x1 x2 = some G') : MTa l g yX11_live cX11_live 3 none 4 (G'.1 - G.1) (1200 * (G'.1 - G.1)) G [.ref q, .ref x1, .ref x2] none G' := by
  refine vm_start (by decide) (Nat.le_of_ble_eq_true rfl) ?_
  intro X hl hg hN hc hr hni hR hQ
  subst hl; subst hg
  have h := hf
  unfold x11_live at h
  show VM X G G' G [(0, .ref q), (1, .ref x1), (2, .ref x2)] [] 0
  refine vm_l (fun h9 => pv_aload_n 2 hc dX11_live_0 rfl rfl h9) ?_
  refine vm_l (fun h9 => pv_aload_n 1 hc dX11_live_1 rfl rfl h9) ?_
  refine vm_l (fun h9 => pv_aload_n 0 hc dX11_live_2 rfl rfl h9) ?_
  obtain ⟨s1, gs1, h⟩ := RD_el h
  refine vm_l (fun h9 => gw_X11_9 hc hW gs1 dX11_live_3 h9) ?_
  obtain ⟨s3, gs3, h⟩ := RD_el h
  obtain ⟨s4, gs4, h⟩ := RD_el h
  obtain ⟨v7, s5, hf2, h⟩ := BD2_el h
  obtain ⟨w6, hw6, h⟩ := LT_el h
  refine vm_e hw6 rfl (fun h9 hk9 hn9 => pv_callV (nA := 2) hc (x4_days_ok hX3 hX4 gs3 gs4 hf2) gs3 (h_X4 hX4) hX4.1 (lw_V q1291 q974 q975 q114 q976) (by decide +kernel) ⟨(by decide), by decide⟩ rfl rfl (Nat.le_of_ble_eq_true rfl) dX11_live_6 ⟨hk9, hn9⟩ h9 hk9 hn9) ?_
  refine vm_l (fun h9 => pv_pop hc dX11_live_9 rfl h9) ?_
  cases h
  exact fun _ => ⟨Nat.le_refl _, pv_vret hc hr hQ rfl rfl dX11_live_10⟩
def x12_live (G : Wd) (q : Nat) (x1 : Nat) (x2 : Nat) : Option Wd := RD G x2 3 (fun s1 => RD G q 9 (fun s2 => IX (gI s2 0) 6 (fun i3 => LT (sA s1 1 i3 (0 : Int32)) (fun s4 => LT (wp G x2 3 s4) (fun w5 => some w5)))))
set_option maxHeartbeats 4000000 in
theorem x12_live_ok {l : Launch} {g : Gh} (hW : OKW g) (hX1 : OKX1 g) (hX3 : OKX3 g) (hX4 : OKX4 g) {G : Wd} {q : Nat} {x1 : Nat} {x2 : Nat} {G' : Wd} (hf : x12_live G q x1 x2 = some G') : MTa l g yX12_live cX12_live 3 none 1 (G'.1 - G.1) (1200 * (G'.1 - G.1)) G [.ref q, .ref x1, .ref x2] none G' := by
  refine vm_start (by decide) (Nat.le_of_ble_eq_true rfl) ?_
  intro X hl hg hN hc hr hni hR hQ
  subst hl; subst hg
  have h := hf
  unfold x12_live at h
  show VM X G G' G [(0, .ref q), (1, .ref x1), (2, .ref x2)] [] 0
  refine vm_l (fun h9 => pv_aload_n 2 hc dX12_live_0 rfl rfl h9) ?_
  obtain ⟨s1, gs1, h⟩ := RD_el h
  refine vm_l (fun h9 => gf_X12_23 hc hX4 gs1 dX12_live_1 h9) ?_
  refine vm_l (fun h9 => pv_aload_n 0 hc dX12_live_4 rfl rfl h9) ?_
  obtain ⟨s2, gs2, h⟩ := RD_el h
  refine vm_l (fun h9 => gw_X12_7 hc hW gs2 dX12_live_5 h9) ?_
  refine vm_l (fun h9 => pv_iconst (0 : Int32) hc dX12_live_8 rfl h9) ?_
  obtain ⟨i3, hi3, h⟩ := IX_el h
  obtain ⟨s4, hs4, h⟩ := LT_el h
  obtain ⟨w5, hw5, h⟩ := LT_el h
  refine vm_e hw5 rfl (fun h9 => as_X4_1 hc hX4 gs1 hi3 hs4 rfl dX12_live_9 h9) ?_
  cases h
  exact fun _ => ⟨Nat.le_refl _, pv_vret hc hr hQ rfl rfl dX12_live_10⟩
def x13_live (G : Wd) (q : Nat) (x1 : Nat) (x2 : Nat) : Option Wd := RD G x2 3 (fun s1 => RD G q 10 (fun s2 => IX (gI s2 0) 6 (fun i3 => LT (sA s1 0 i3 (gI s2 1)) (fun s4 => LT (wp G x2 3 s4) (fun w5 => some w5)))))
set_option maxHeartbeats 4000000 in
theorem x13_live_ok {l : Launch} {g : Gh} (hW : OKW g) (hX1 : OKX1 g) (hX3 : OKX3 g) (hX4 : OKX4 g) {G : Wd} {q : Nat} {x1 : Nat} {x2 : Nat} {G' : Wd} (hf : x13_live G q x1 x2 = some G') : MTa l g yX13_live cX13_live 3 none 1 (G'.1 - G.1) (1200 * (G'.1 - G.1)) G [.ref q, .ref x1, .ref x2] none G' := by
  refine vm_start (by decide) (Nat.le_of_ble_eq_true rfl) ?_
  intro X hl hg hN hc hr hni hR hQ
  subst hl; subst hg
  have h := hf
  unfold x13_live at h
  show VM X G G' G [(0, .ref q), (1, .ref x1), (2, .ref x2)] [] 0
  refine vm_l (fun h9 => pv_aload_n 2 hc dX13_live_0 rfl rfl h9) ?_
  obtain ⟨s1, gs1, h⟩ := RD_el h
  refine vm_l (fun h9 => gf_X13_25 hc hX4 gs1 dX13_live_1 h9) ?_
  refine vm_l (fun h9 => pv_aload_n 0 hc dX13_live_4 rfl rfl h9) ?_
  obtain ⟨s2, gs2, h⟩ := RD_el h
  refine vm_l (fun h9 => gw_X13_7 hc hW gs2 dX13_live_5 h9) ?_
  refine vm_l (fun h9 => pv_aload_n 0 hc dX13_live_8 rfl rfl h9) ?_
  refine vm_l (fun h9 => gw_X13_13 hc hW gs2 dX13_live_9 h9) ?_
  obtain ⟨i3, hi3, h⟩ := IX_el h
  obtain ⟨s4, hs4, h⟩ := LT_el h
  obtain ⟨w5, hw5, h⟩ := LT_el h
  refine vm_e hw5 rfl (fun h9 => as_X4_0 hc hX4 gs1 hi3 hs4 rfl dX13_live_12 h9) ?_
  cases h
  exact fun _ => ⟨Nat.le_refl _, pv_vret hc hr hQ rfl rfl dX13_live_13⟩
def x14_live (G : Wd) (q : Nat) (x1 : Nat) (x2 : Nat) : Option Wd := RD G q 11 (fun s1 => RD G x2 3 (fun s3 => RD G x1 2 (fun s4 => BD (x4_does s3 s4 (gI s1 0) (gI s1 1) (gI s1 2)) (fun s5 => LT (wp G x2 3 s5) (fun w6 => some w6)))))
set_option maxHeartbeats 4000000 in
theorem x14_live_ok {l : Launch} {g : Gh} (hW : OKW g) (hX1 : OKX1 g) (hX3 : OKX3 g) (hX4 : OKX4 g) {G : Wd} {q : Nat} {x1 : Nat} {x2 : Nat} {G' : Wd} (hf : x14_live G q x1 x2 = some G') : MTa l g yX14_live cX14_live 3 none 5 (G'.1 - G.1) (1200 * (G'.1 - G.1)) G [.ref q, .ref x1, .ref x2] none G' := by
  refine vm_start (by decide) (Nat.le_of_ble_eq_true rfl) ?_
  intro X hl hg hN hc hr hni hR hQ
  subst hl; subst hg
  have h := hf
  unfold x14_live at h
  show VM X G G' G [(0, .ref q), (1, .ref x1), (2, .ref x2)] [] 0
  refine vm_l (fun h9 => pv_aload_n 2 hc dX14_live_0 rfl rfl h9) ?_
  refine vm_l (fun h9 => pv_aload_n 1 hc dX14_live_1 rfl rfl h9) ?_
  refine vm_l (fun h9 => pv_aload_n 0 hc dX14_live_2 rfl rfl h9) ?_
  obtain ⟨s1, gs1, h⟩ := RD_el h
  refine vm_l (fun h9 => gw_X14_7 hc hW gs1 dX14_live_3 h9) ?_
  refine vm_l (fun h9 => pv_aload_n 0 hc dX14_live_6 rfl rfl h9) ?_
  refine vm_l (fun h9 => gw_X14_13 hc hW gs1 dX14_live_7 h9) ?_
  refine vm_l (fun h9 => pv_aload_n 0 hc dX14_live_10 rfl rfl h9) ?_
  refine vm_l (fun h9 => gw_X14_16 hc hW gs1 dX14_live_11 h9) ?_
  obtain ⟨s3, gs3, h⟩ := RD_el h
  obtain ⟨s4, gs4, h⟩ := RD_el h
  obtain ⟨s5, hf2, h⟩ := BD_el h
  obtain ⟨w6, hw6, h⟩ := LT_el h
  refine vm_e hw6 rfl (fun h9 hk9 hn9 => pv_callV (nA := 4) hc (x4_does_ok hX3 hX4 gs3 gs4 hf2) gs3 (h_X4 hX4) hX4.1 (lw_V q1295 q942 q943 q114 q944) (by decide +kernel) ⟨(by decide), by decide⟩ rfl rfl (Nat.le_of_ble_eq_true rfl) dX14_live_14 ⟨hk9, hn9⟩ h9 hk9 hn9) ?_
  cases h
  exact fun _ => ⟨Nat.le_refl _, pv_vret hc hr hQ rfl rfl dX14_live_17⟩
def x15_init (G : Wd) (q : Nat) (x1 : Nat) : Option Wd := RD G q 12 (fun s1 => LT (sP s1 0 (some x1)) (fun s2 => LT (wp G q 12 s2) (fun w3 => some w3)))
set_option maxHeartbeats 4000000 in
theorem x15_init_ok {l : Launch} {g : Gh} (hW : OKW g) (hX1 : OKX1 g) (hX3 : OKX3 g) (hX4 : OKX4 g) {G : Wd} {q : Nat} {x1 : Nat} {G' : Wd} (hf : x15_init G q x1 = some G') : MTa l g yX15_init cX15_init 2 none 2 (G'.1 - G.1) (1200 * (G'.1 - G.1)) G [.ref q, .ref x1] none G' := by
  refine vm_start (by decide) (Nat.le_of_ble_eq_true rfl) ?_
  intro X hl hg hN hc hr hni hR hQ
  subst hl; subst hg
  have h := hf
  unfold x15_init at h
  show VM X G G' G [(0, .ref q), (1, .ref x1)] [] 0
  refine vm_l (fun h9 => pv_aload_n 0 hc dX15_init_0 rfl rfl h9) ?_
  refine vm_l (fun h9 => pv_objInit hc q1348 q148 q149 (by decide) (Nat.le_of_ble_eq_true rfl) dX15_init_1 h9) ?_
  refine vm_l (fun h9 => pv_aload_n 0 hc dX15_init_4 rfl rfl h9) ?_
  refine vm_l (fun h9 => pv_aload_n 1 hc dX15_init_5 rfl rfl h9) ?_
  obtain ⟨s1, gs1, h⟩ := RD_el h
  obtain ⟨s2, hs2, h⟩ := LT_el h
  obtain ⟨w3, hw3, h⟩ := LT_el h
  refine vm_e hw3 rfl (fun h9 => pw_X15_7 (x := (some x1)) hc hW gs1 hni hs2 rfl dX15_init_6 h9) ?_
  cases h
  exact fun _ => ⟨Nat.le_refl _, pv_vret hc hr hQ rfl rfl dX15_init_9⟩
def x16_init (G : Wd) (q : Nat) (x1 : Int32) (x2 : Int32) : Option Wd := RD G q 13 (fun s1 => LT (sI s1 0 x1) (fun s2 => LT (wp G q 13 s2) (fun w3 => LT (sI s2 1 x2) (fun s4 => LT (wp w3 q 13 s4) (fun w5 => some w5)))))
set_option maxHeartbeats 4000000 in
theorem x16_init_ok {l : Launch} {g : Gh} (hW : OKW g) (hX1 : OKX1 g) (hX3 : OKX3 g) (hX4 : OKX4 g) {G : Wd} {q : Nat} {x1 : Int32} {x2 : Int32} {G' : Wd} (hf : x16_init G q x1 x2 = some G') : MTa l g yX16_init cX16_init 3 none 2 (G'.1 - G.1) (1200 * (G'.1 - G.1)) G [.ref q, .int x1, .int x2] none G' := by
  refine vm_start (by decide) (Nat.le_of_ble_eq_true rfl) ?_
  intro X hl hg hN hc hr hni hR hQ
  subst hl; subst hg
  have h := hf
  unfold x16_init at h
  show VM X G G' G [(0, .ref q), (1, .int x1), (2, .int x2)] [] 0
  refine vm_l (fun h9 => pv_aload_n 0 hc dX16_init_0 rfl rfl h9) ?_
  refine vm_l (fun h9 => pv_objInit hc q1364 q148 q149 (by decide) (Nat.le_of_ble_eq_true rfl) dX16_init_1 h9) ?_
  refine vm_l (fun h9 => pv_aload_n 0 hc dX16_init_4 rfl rfl h9) ?_
  refine vm_l (fun h9 => pv_iload_n 1 hc dX16_init_5 rfl rfl h9) ?_
  obtain ⟨s1, gs1, h⟩ := RD_el h
  obtain ⟨s2, hs2, h⟩ := LT_el h
  obtain ⟨w3, hw3, h⟩ := LT_el h
  refine vm_e hw3 rfl (fun h9 => pw_X16_7 hc hW gs1 hni hs2 rfl dX16_init_6 h9) ?_
  refine vm_l (fun h9 => pv_aload_n 0 hc dX16_init_9 rfl rfl h9) ?_
  refine vm_l (fun h9 => pv_iload_n 2 hc dX16_init_10 rfl rfl h9) ?_
  obtain ⟨s4, hs4, h⟩ := LT_el h
  obtain ⟨w5, hw5, h⟩ := LT_el h
  refine vm_e hw5 rfl (fun h9 => pw_X16_13 hc hW (wp_at' hw3) hni hs4 rfl dX16_init_11 h9) ?_
  cases h
  exact fun _ => ⟨Nat.le_refl _, pv_vret hc hr hQ rfl rfl dX16_init_14⟩
def x17_init (G : Wd) (q : Nat) (x1 : Int32) (x2 : Int32) (x3 : Int32) : Option Wd := RD G q 14 (fun s1 => LT (sI s1 0 x1) (fun s2 => LT (wp G q 14 s2) (fun w3 => LT (sI s2 1 x2) (fun s4 => LT (wp w3 q 14 s4) (fun w5 => LT (sI s4 2 x3) (fun s6 => LT (wp w5 q 14 s6) (fun w7 => some w7)))))))
set_option maxHeartbeats 4000000 in
theorem x17_init_ok {l : Launch} {g : Gh} (hW : OKW g) (hX1 : OKX1 g) (hX3 : OKX3 g) (hX4 : OKX4 g) {G : Wd} {q : Nat} {x1 : Int32} {x2 : Int32} {x3 : Int32} {G' : Wd} (hf : x17_init G q x1 x2 x3 = some G') : MTa l g yX17_init cX17_init 4 none 2 (G'.1 - G.1) (1200 * (G'.1 - G.1)) G [.ref q, .int x1, .int x2, .int x3] none G' := by
  refine vm_start (by decide) (Nat.le_of_ble_eq_true rfl) ?_
  intro X hl hg hN hc hr hni hR hQ
  subst hl; subst hg
  have h := hf
  unfold x17_init at h
  show VM X G G' G [(0, .ref q), (1, .int x1), (2, .int x2), (3, .int x3)] [] 0
  refine vm_l (fun h9 => pv_aload_n 0 hc dX17_init_0 rfl rfl h9) ?_
  refine vm_l (fun h9 => pv_objInit hc q1377 q148 q149 (by decide) (Nat.le_of_ble_eq_true rfl) dX17_init_1 h9) ?_
  refine vm_l (fun h9 => pv_aload_n 0 hc dX17_init_4 rfl rfl h9) ?_
  refine vm_l (fun h9 => pv_iload_n 1 hc dX17_init_5 rfl rfl h9) ?_
  obtain ⟨s1, gs1, h⟩ := RD_el h
  obtain ⟨s2, hs2, h⟩ := LT_el h
  obtain ⟨w3, hw3, h⟩ := LT_el h
  refine vm_e hw3 rfl (fun h9 => pw_X17_7 hc hW gs1 hni hs2 rfl dX17_init_6 h9) ?_
  refine vm_l (fun h9 => pv_aload_n 0 hc dX17_init_9 rfl rfl h9) ?_
  refine vm_l (fun h9 => pv_iload_n 2 hc dX17_init_10 rfl rfl h9) ?_
  obtain ⟨s4, hs4, h⟩ := LT_el h
  obtain ⟨w5, hw5, h⟩ := LT_el h
  refine vm_e hw5 rfl (fun h9 => pw_X17_13 hc hW (wp_at' hw3) hni hs4 rfl dX17_init_11 h9) ?_
  refine vm_l (fun h9 => pv_aload_n 0 hc dX17_init_14 rfl rfl h9) ?_
  refine vm_l (fun h9 => pv_iload_n 3 hc dX17_init_15 rfl rfl h9) ?_
  obtain ⟨s6, hs6, h⟩ := LT_el h
  obtain ⟨w7, hw7, h⟩ := LT_el h
  refine vm_e hw7 rfl (fun h9 => pw_X17_16 hc hW (wp_at' hw5) hni hs6 rfl dX17_init_16 h9) ?_
  cases h
  exact fun _ => ⟨Nat.le_refl _, pv_vret hc hr hQ rfl rfl dX17_init_19⟩
def x18_init (G : Wd) (q : Nat) (x1 : Nat) (x2 : Nat) : Option Wd := RD G q 15 (fun s1 => LT (sP s1 0 (some x1)) (fun s2 => LT (wp G q 15 s2) (fun w3 => LT (sP s2 1 (some x2)) (fun s4 => LT (wp w3 q 15 s4) (fun w5 => some w5)))))
set_option maxHeartbeats 4000000 in
theorem x18_init_ok {l : Launch} {g : Gh} (hW : OKW g) (hX1 : OKX1 g) (hX3 : OKX3 g) (hX4 : OKX4 g) {G : Wd} {q : Nat} {x1 : Nat} {x2 : Nat} {G' : Wd} (hf : x18_init G q x1 x2 = some G') : MTa l g yX18_init cX18_init 3 none 2 (G'.1 - G.1) (1200 * (G'.1 - G.1)) G [.ref q, .ref x1, .ref x2] none G' := by
  refine vm_start (by decide) (Nat.le_of_ble_eq_true rfl) ?_
  intro X hl hg hN hc hr hni hR hQ
  subst hl; subst hg
  have h := hf
  unfold x18_init at h
  show VM X G G' G [(0, .ref q), (1, .ref x1), (2, .ref x2)] [] 0
  refine vm_l (fun h9 => pv_aload_n 0 hc dX18_init_0 rfl rfl h9) ?_
  refine vm_l (fun h9 => pv_objInit hc q1394 q148 q149 (by decide) (Nat.le_of_ble_eq_true rfl) dX18_init_1 h9) ?_
  refine vm_l (fun h9 => pv_aload_n 0 hc dX18_init_4 rfl rfl h9) ?_
  refine vm_l (fun h9 => pv_aload_n 1 hc dX18_init_5 rfl rfl h9) ?_
  obtain ⟨s1, gs1, h⟩ := RD_el h
  obtain ⟨s2, hs2, h⟩ := LT_el h
  obtain ⟨w3, hw3, h⟩ := LT_el h
  refine vm_e hw3 rfl (fun h9 => pw_X18_7 (x := (some x1)) hc hW gs1 hni hs2 rfl dX18_init_6 h9) ?_
  refine vm_l (fun h9 => pv_aload_n 0 hc dX18_init_9 rfl rfl h9) ?_
  refine vm_l (fun h9 => pv_aload_n 2 hc dX18_init_10 rfl rfl h9) ?_
  obtain ⟨s4, hs4, h⟩ := LT_el h
  obtain ⟨w5, hw5, h⟩ := LT_el h
  refine vm_e hw5 rfl (fun h9 => pw_X18_13 (x := (some x2)) hc hW (wp_at' hw3) hni hs4 rfl dX18_init_11 h9) ?_
  cases h
  exact fun _ => ⟨Nat.le_refl _, pv_vret hc hr hQ rfl rfl dX18_init_14⟩
def x19_init (G : Wd) (q : Nat) (x1 : Nat) (x2 : Nat) : Option Wd := RD G q 16 (fun s1 => LT (sP s1 0 (some x1)) (fun s2 => LT (wp G q 16 s2) (fun w3 => LT (sP s2 1 (some x2)) (fun s4 => LT (wp w3 q 16 s4) (fun w5 => some w5)))))
set_option maxHeartbeats 4000000 in
theorem x19_init_ok {l : Launch} {g : Gh} (hW : OKW g) (hX1 : OKX1 g) (hX3 : OKX3 g) (hX4 : OKX4 g) {G : Wd} {q : Nat} {x1 : Nat} {x2 : Nat} {G' : Wd} (hf : x19_init G q x1 x2 = some G') : MTa l g yX19_init cX19_init 3 none 2 (G'.1 - G.1) (1200 * (G'.1 - G.1)) G [.ref q, .ref x1, .ref x2] none G' := by
  refine vm_start (by decide) (Nat.le_of_ble_eq_true rfl) ?_
  intro X hl hg hN hc hr hni hR hQ
  subst hl; subst hg
  have h := hf
  unfold x19_init at h
  show VM X G G' G [(0, .ref q), (1, .ref x1), (2, .ref x2)] [] 0
  refine vm_l (fun h9 => pv_aload_n 0 hc dX19_init_0 rfl rfl h9) ?_
  refine vm_l (fun h9 => pv_objInit hc q1408 q148 q149 (by decide) (Nat.le_of_ble_eq_true rfl) dX19_init_1 h9) ?_
  refine vm_l (fun h9 => pv_aload_n 0 hc dX19_init_4 rfl rfl h9) ?_
  refine vm_l (fun h9 => pv_aload_n 1 hc dX19_init_5 rfl rfl h9) ?_
  obtain ⟨s1, gs1, h⟩ := RD_el h
  obtain ⟨s2, hs2, h⟩ := LT_el h
  obtain ⟨w3, hw3, h⟩ := LT_el h
  refine vm_e hw3 rfl (fun h9 => pw_X19_7 (x := (some x1)) hc hW gs1 hni hs2 rfl dX19_init_6 h9) ?_
  refine vm_l (fun h9 => pv_aload_n 0 hc dX19_init_9 rfl rfl h9) ?_
  refine vm_l (fun h9 => pv_aload_n 2 hc dX19_init_10 rfl rfl h9) ?_
  obtain ⟨s4, hs4, h⟩ := LT_el h
  obtain ⟨w5, hw5, h⟩ := LT_el h
  refine vm_e hw5 rfl (fun h9 => pw_X19_13 (x := (some x2)) hc hW (wp_at' hw3) hni hs4 rfl dX19_init_11 h9) ?_
  cases h
  exact fun _ => ⟨Nat.le_refl _, pv_vret hc hr hQ rfl rfl dX19_init_14⟩
/-- a line of a book -/
def LNK {β : Type} (G : Wd) (q : Nat) (k : Option β) : Option β := match G.2 q with | none => none | some p => if p.1 = 8 ∨ p.1 = 9 ∨ p.1 = 10 ∨ p.1 = 11 then k else none
theorem LNK_el {β : Type} {G : Wd} {q : Nat} {k : Option β} {r : β} (h : LNK G q k = some r) : (∃ kd s, G.2 q = some (kd, s) ∧ (kd = 8 ∨ kd = 9 ∨ kd = 10 ∨ kd = 11)) ∧ k = some r := by
  unfold LNK at h
  generalize hq : G.2 q = z at h
  match z, h with
  | none, h => cases h
  | some p, h =>
    by_cases hk : p.1 = 8 ∨ p.1 = 9 ∨ p.1 = 10 ∨ p.1 = 11
    · exact ⟨⟨p.1, p.2, rfl, hk⟩, (if_pos hk).symm.trans h⟩
    · exact absurd ((if_neg hk).symm.trans h) (by simp)
theorem ln_obj {g : Gh} {G : Wd} {q : Nat} {U : State} (hW : OKW g) (hA : AX U) (h : ∃ kd s, G.2 q = some (kd, s) ∧ (kd = 8 ∨ kd = 9 ∨ kd = 10 ∨ kd = 11)) : ∃ (kd ci : Nat) (C : String) (T : u_T) (N : Nat) (fs : List Value) (s : Rec), G.2 q = some (kd, s) ∧ (gE g kd q s)[0]? = some (q, .inr (ci, fs)) ∧ (gcl g)[ci]? = some (C, T, N) ∧ va_Nw (.castable C "ParlourLeaves$Line") U := by
  obtain ⟨kd, s, h1, h2⟩ := h
  rcases h2 with rfl | rfl | rfl | rfl
  · exact ⟨_, _, _, _, _, _, s, h1, wo_8 hW, wc8 hW, hA.2.2.1.1⟩
  · exact ⟨_, _, _, _, _, _, s, h1, wo_9 hW, wc9 hW, hA.2.2.1.2.1⟩
  · exact ⟨_, _, _, _, _, _, s, h1, wo_10 hW, wc10 hW, hA.2.2.1.2.2.1⟩
  · exact ⟨_, _, _, _, _, _, s, h1, wo_11 hW, wc11 hW, hA.2.2.1.2.2.2⟩
def ln_why (G : Wd) (q b z : Nat) : Option (Int32 × Wd) := match G.2 q with
  | some (8, _) => x11_why G q b z
  | some (9, _) => x12_why G q b z
  | some (10, _) => x13_why G q b z
  | some (11, _) => x14_why G q b z
  | _ => none
theorem ln_why_row {X : CX} {cc : ByteArray} {ht k n q b z : Nat} {G w1 : Wd} {v : Int32} {L : List (Nat × Value)} {st : List Value} {pc : Nat} (hc : OK X cc RX1 ht) (hW : OKW (xg X)) (hX1 : OKX1 (xg X)) (hX3 : OKX3 (xg X)) (hX4 : OKX4 (xg X)) (hf : ln_why G q b z = some (v, w1)) (hh : 2 < ht) (hst : (st.map fun v => v.category).sum ≤ 8) (d : decode cc pc = .ok (.invokevirtual 432, 3)) (hcap : k + (w1.1 - G.1) ≤ (xR X).cells ∧ n + 1200 * (w1.1 - G.1) ≤ (xR X).slots) (h : V X (k + (w1.1 - G.1)) (n + 1200 * (w1.1 - G.1)) w1 L (.int v :: st) (pc + 3)) : V X k n G L (.ref z :: .ref b :: .ref q :: st) pc := by
  unfold ln_why at hf
  split at hf
  · rename_i hG
    exact pv_callA (owner := "ParlourLeaves$Line") (x := ⟨"ParlourLeaves$Line", "why", "(LParlourLeaves$House;LParlourLeaves$State;)I"⟩) (nA := 2) hc (x11_why_ok hW hX1 hX3 hX4 hf) hG (wo_8 hW) (wc8 hW) (lw_app (lw_5 q1258 q1260 q1269 q1270 q132) (lw_meth q1271)) q1259 (by decide +kernel) ⟨by omega, by decide⟩ rfl rfl hst d hcap h
  · rename_i hG
    exact pv_callA (owner := "ParlourLeaves$Line") (x := ⟨"ParlourLeaves$Line", "why", "(LParlourLeaves$House;LParlourLeaves$State;)I"⟩) (nA := 2) hc (x12_why_ok hW hX1 hX3 hX4 hf) hG (wo_9 hW) (wc9 hW) (lw_app (lw_5 q1258 q1260 q1276 q1277 q133) (lw_meth q1278)) q1259 (by decide +kernel) ⟨by omega, by decide⟩ rfl rfl hst d hcap h
  · rename_i hG
    exact pv_callA (owner := "ParlourLeaves$Line") (x := ⟨"ParlourLeaves$Line", "why", "(LParlourLeaves$House;LParlourLeaves$State;)I"⟩) (nA := 2) hc (x13_why_ok hW hX1 hX3 hX4 hf) hG (wo_10 hW) (wc10 hW) (lw_app (lw_5 q1258 q1260 q1261 q1262 q134) (lw_meth q1263)) q1259 (by decide +kernel) ⟨by omega, by decide⟩ rfl rfl hst d hcap h
  · rename_i hG
    exact pv_callA (owner := "ParlourLeaves$Line") (x := ⟨"ParlourLeaves$Line", "why", "(LParlourLeaves$House;LParlourLeaves$State;)I"⟩) (nA := 2) hc (x14_why_ok hW hX1 hX3 hX4 hf) hG (wo_11 hW) (wc11 hW) (lw_app (lw_5 q1258 q1260 q1272 q1273 q135) (lw_meth q1274)) q1259 (by decide +kernel) ⟨by omega, by decide⟩ rfl rfl hst d hcap h
  · cases hf
def ln_live (G : Wd) (q b z : Nat) : Option Wd := match G.2 q with
  | some (8, _) => x11_live G q b z
  | some (9, _) => x12_live G q b z
  | some (10, _) => x13_live G q b z
  | some (11, _) => x14_live G q b z
  | _ => none
theorem ln_live_row {X : CX} {cc : ByteArray} {ht k n q b z : Nat} {G w1 : Wd} {L : List (Nat × Value)} {st : List Value} {pc : Nat} (hc : OK X cc RX1 ht) (hW : OKW (xg X)) (hX1 : OKX1 (xg X)) (hX3 : OKX3 (xg X)) (hX4 : OKX4 (xg X)) (hf : ln_live G q b z = some w1) (hh : 5 < ht) (hst : (st.map fun v => v.category).sum ≤ 8) (d : decode cc pc = .ok (.invokevirtual 438, 3)) (hcap : k + (w1.1 - G.1) ≤ (xR X).cells ∧ n + 1200 * (w1.1 - G.1) ≤ (xR X).slots) (h : V X (k + (w1.1 - G.1)) (n + 1200 * (w1.1 - G.1)) w1 L st (pc + 3)) : V X k n G L (.ref z :: .ref b :: .ref q :: st) pc := by
  unfold ln_live at hf
  split at hf
  · rename_i hG
    exact pv_callA (owner := "ParlourLeaves$Line") (x := ⟨"ParlourLeaves$Line", "live", "(LParlourLeaves$House;LParlourLeaves$State;)V"⟩) (nA := 2) hc (x11_live_ok hW hX1 hX3 hX4 hf) hG (wo_8 hW) (wc8 hW) (lw_app (lw_5 q1282 q1284 q1288 q1289 q132) (lw_meth q1290)) q1283 (by decide +kernel) ⟨by omega, by decide⟩ rfl rfl hst d hcap h
  · rename_i hG
    exact pv_callA (owner := "ParlourLeaves$Line") (x := ⟨"ParlourLeaves$Line", "live", "(LParlourLeaves$House;LParlourLeaves$State;)V"⟩) (nA := 2) hc (x12_live_ok hW hX1 hX3 hX4 hf) hG (wo_9 hW) (wc9 hW) (lw_app (lw_5 q1282 q1284 q1296 q1297 q133) (lw_meth q1298)) q1283 (by decide +kernel) ⟨by omega, by decide⟩ rfl rfl hst d hcap h
  · rename_i hG
    exact pv_callA (owner := "ParlourLeaves$Line") (x := ⟨"ParlourLeaves$Line", "live", "(LParlourLeaves$House;LParlourLeaves$State;)V"⟩) (nA := 2) hc (x13_live_ok hW hX1 hX3 hX4 hf) hG (wo_10 hW) (wc10 hW) (lw_app (lw_5 q1282 q1284 q1285 q1286 q134) (lw_meth q1287)) q1283 (by decide +kernel) ⟨by omega, by decide⟩ rfl rfl hst d hcap h
  · rename_i hG
    exact pv_callA (owner := "ParlourLeaves$Line") (x := ⟨"ParlourLeaves$Line", "live", "(LParlourLeaves$House;LParlourLeaves$State;)V"⟩) (nA := 2) hc (x14_live_ok hW hX1 hX3 hX4 hf) hG (wo_11 hW) (wc11 hW) (lw_app (lw_5 q1282 q1284 q1292 q1293 q135) (lw_meth q1294)) q1283 (by decide +kernel) ⟨by omega, by decide⟩ rfl rfl hst d hcap h
  · cases hf
