/-! ParlourLeavesModel's methods: what each computes, and that it does (written by gen/dec_all.py) -/
set_option maxRecDepth 100000
def m_doIt (s : Rec) (x1 : Int32) (x2 : Int32) (x3 : Int32) (x4 : Int32) (x5 : Int32) : Option (Int32 × Rec) := (if x5 = 0 then some ((-1 : Int32), s) else BD (m_why s x1 x2 x3) (fun v2 => (if v2 = 0 then BD (m_snap s) (fun s4 => BD (m_live s4 x1 x2 x3 x4) (fun s6 => some ((0 : Int32), s6))) else some (v2, s))))
set_option maxHeartbeats 4000000 in
theorem m_doIt_ok {l : Launch} {g : Gh} {G : Wd} (hM : MOK g) {a : Nat} {s : Rec} (hG : G.2 a = some (7, s)) {x1 : Int32} {x2 : Int32} {x3 : Int32} {x4 : Int32} {x5 : Int32} {r : Int32} {s' : Rec} (hf : m_doIt s x1 x2 x3 x4 x5 = some (r, s')) : MT l g yX9_doIt cX9_doIt 7 (some .int) 6 G [.ref a, .int x1, .int x2, .int x3, .int x4, .int x5] (some (.int r)) (wp G a 7 s') := by
  refine pv_start (by decide) (Nat.le_of_ble_eq_true rfl) ?_
  intro X hl hg hN hc hr _ _ _ hQ
  subst hl; subst hg
  refine pv_G (wp_id hG) ?_
  have h := hf
  unfold m_doIt at h
  show V X 0 0 _ [(0, .ref a), (1, .int x1), (2, .int x2), (3, .int x3), (4, .int x4), (5, .int x5)] [] 0
  refine pv_iload 5 hc dX9_doIt_0 rfl ?_
  refine pv_if_ne (tgt := 7) hc dX9_doIt_2 (by decide) h (fun h => ?_) (fun h => ?_)
  · refine pv_aload_n 0 hc dX9_doIt_7 rfl rfl ?_
    refine pv_iload_n 1 hc dX9_doIt_8 rfl rfl ?_
    refine pv_iload_n 2 hc dX9_doIt_9 rfl rfl ?_
    refine pv_iload_n 3 hc dX9_doIt_10 rfl rfl ?_
    obtain ⟨v2, hf1, h⟩ := BD_el h
    refine m_call_275 hc hM (wp_at G a 7 s) (m_why_ok hM (wp_at G a 7 s) hf1) (by decide) (Nat.le_of_ble_eq_true rfl) dX9_doIt_11 ?_
    refine pv_istore (L' := [(6, .int v2), (0, .ref a), (1, .int x1), (2, .int x2), (3, .int x3), (4, .int x4), (5, .int x5)]) hc dX9_doIt_14 hN (by decide) rfl ?_
    refine pv_iload 0 hc dX9_doIt_16 rfl ?_
    refine pv_if_eq (tgt := 24) hc dX9_doIt_18 (by decide) h (fun h => ?_) (fun h => ?_)
    · refine pv_aload_n 1 hc dX9_doIt_24 rfl rfl ?_
      obtain ⟨s4, hf3, h⟩ := BD_el h
      refine m_call_279 hc hM (m_snap_ok hM (wp_at G a 7 s) hf3) (by decide) (Nat.le_of_ble_eq_true rfl) dX9_doIt_25 ?_
      refine pv_aload_n 1 hc dX9_doIt_28 rfl rfl ?_
      refine pv_iload_n 2 hc dX9_doIt_29 rfl rfl ?_
      refine pv_iload_n 3 hc dX9_doIt_30 rfl rfl ?_
      refine pv_iload_n 4 hc dX9_doIt_31 rfl rfl ?_
      refine pv_iload 5 hc dX9_doIt_32 rfl ?_
      obtain ⟨s6, hf5, h⟩ := BD_el h
      refine m_call_282 hc hM (m_live_ok hM (wp_at G a 7 s4) hf5) (by decide) (Nat.le_of_ble_eq_true rfl) dX9_doIt_34 ?_
      refine pv_iconst (0 : Int32) hc dX9_doIt_37 rfl ?_
      exact pv_iret hc hr hQ (e_i2 h) (e_w2 h) dX9_doIt_38
    · refine pv_iload 0 hc dX9_doIt_21 rfl ?_
      exact pv_iret hc hr hQ (e_i2 h) (e_w2 h) dX9_doIt_23
  · refine pv_iconst (-1 : Int32) hc dX9_doIt_5 rfl ?_
    exact pv_iret hc hr hQ (e_i2 h) (e_w2 h) dX9_doIt_6
def m_isDeed (s : Rec) (x1 : Int32) : Option Int32 := BD (m_isIn x1 (0 : Int32) ((gA s 14 3) - (1 : Int32))) (fun v2 => BZ v2 (some v2))
set_option maxHeartbeats 4000000 in
theorem m_isDeed_ok {l : Launch} {g : Gh} {G : Wd} (hM : MOK g) {a : Nat} {s : Rec} (hG : G.2 a = some (7, s)) {x1 : Int32} {r : Int32} (hf : m_isDeed s x1 = some r) : MT l g yX9_isDeed cX9_isDeed 2 (some .boolean) 2 G [.ref a, .int x1] (some (.int r)) G := by
  refine pv_start (by decide) (Nat.le_of_ble_eq_true rfl) ?_
  intro X hl hg hN hc hr _ _ _ hQ
  subst hl; subst hg
  have h := hf
  unfold m_isDeed at h
  show V X 0 0 _ [(0, .ref a), (1, .int x1)] [] 0
  refine pv_iload_n 1 hc dX9_isDeed_0 rfl rfl ?_
  refine pv_iconst (0 : Int32) hc dX9_isDeed_1 rfl ?_
  refine pv_aload_n 0 hc dX9_isDeed_2 rfl rfl ?_
  refine m_get_98 hc hM hG dX9_isDeed_3 ?_
  refine pv_iconst (3 : Int32) hc dX9_isDeed_6 rfl ?_
  refine m_ald_14 hc hM hG (vp_lit (j := 3) (by decide)) dX9_isDeed_7 ?_
  refine pv_iconst (1 : Int32) hc dX9_isDeed_8 rfl ?_
  refine pv_isub hc dX9_isDeed_9 ?_
  obtain ⟨v2, hf1, h⟩ := BD_el h
  refine m_call_75 hc (m_isIn_ok hf1) (by decide) (Nat.le_of_ble_eq_true rfl) dX9_isDeed_10 ?_
  obtain ⟨hb3, h⟩ := BZ_el h
  exact pv_zret hc hr hQ hb3 (e_i1 h) rfl dX9_isDeed_13
def m_isPerson (s : Rec) (x1 : Int32) : Option Int32 := BD (m_isIn x1 (0 : Int32) ((gA s 14 2) - (1 : Int32))) (fun v2 => BZ v2 (some v2))
set_option maxHeartbeats 4000000 in
theorem m_isPerson_ok {l : Launch} {g : Gh} {G : Wd} (hM : MOK g) {a : Nat} {s : Rec} (hG : G.2 a = some (7, s)) {x1 : Int32} {r : Int32} (hf : m_isPerson s x1 = some r) : MT l g yX9_isPerson cX9_isPerson 2 (some .boolean) 2 G [.ref a, .int x1] (some (.int r)) G := by
  refine pv_start (by decide) (Nat.le_of_ble_eq_true rfl) ?_
  intro X hl hg hN hc hr _ _ _ hQ
  subst hl; subst hg
  have h := hf
  unfold m_isPerson at h
  show V X 0 0 _ [(0, .ref a), (1, .int x1)] [] 0
  refine pv_iload_n 1 hc dX9_isPerson_0 rfl rfl ?_
  refine pv_iconst (0 : Int32) hc dX9_isPerson_1 rfl ?_
  refine pv_aload_n 0 hc dX9_isPerson_2 rfl rfl ?_
  refine m_get_98 hc hM hG dX9_isPerson_3 ?_
  refine pv_iconst (2 : Int32) hc dX9_isPerson_6 rfl ?_
  refine m_ald_14 hc hM hG (vp_lit (j := 2) (by decide)) dX9_isPerson_7 ?_
  refine pv_iconst (1 : Int32) hc dX9_isPerson_8 rfl ?_
  refine pv_isub hc dX9_isPerson_9 ?_
  obtain ⟨v2, hf1, h⟩ := BD_el h
  refine m_call_75 hc (m_isIn_ok hf1) (by decide) (Nat.le_of_ble_eq_true rfl) dX9_isPerson_10 ?_
  obtain ⟨hb3, h⟩ := BZ_el h
  exact pv_zret hc hr hQ hb3 (e_i1 h) rfl dX9_isPerson_13
def m_does (s : Rec) (x1 : Int32) (x2 : Int32) (x3 : Int32) : Option (Int32 × Rec) := LT (sI s 0 (0 : Int32)) (fun s1 => BD (m_isPerson s1 x1) (fun v3 => (if v3 = 0 then BD2 (m_doIt s1 (0 : Int32) x1 x2 x3 (0 : Int32)) (fun v5 s6 => some (v5, s6)) else BD (m_isDeed s1 x2) (fun v8 => (if v8 = 0 then BD2 (m_doIt s1 (0 : Int32) x1 x2 x3 (0 : Int32)) (fun v10 s11 => some (v10, s11)) else BD (m_isParlour s1 x3) (fun v13 => (if v13 = 0 then BD2 (m_doIt s1 (0 : Int32) x1 x2 x3 (0 : Int32)) (fun v15 s16 => some (v15, s16)) else BD2 (m_doIt s1 (0 : Int32) x1 x2 x3 (1 : Int32)) (fun v18 s19 => some (v18, s19)))))))))
set_option maxHeartbeats 4000000 in
theorem m_does_ok {l : Launch} {g : Gh} {G : Wd} (hM : MOK g) {a : Nat} {s : Rec} (hG : G.2 a = some (7, s)) {x1 : Int32} {x2 : Int32} {x3 : Int32} {r : Int32} {s' : Rec} (hf : m_does s x1 x2 x3 = some (r, s')) : MT l g yX9_does cX9_does 4 (some .int) 7 G [.ref a, .int x1, .int x2, .int x3] (some (.int r)) (wp G a 7 s') := by
  refine pv_start (by decide) (Nat.le_of_ble_eq_true rfl) ?_
  intro X hl hg hN hc hr _ _ _ hQ
  subst hl; subst hg
  refine pv_G (wp_id hG) ?_
  have h := hf
  unfold m_does at h
  show V X 0 0 _ [(0, .ref a), (1, .int x1), (2, .int x2), (3, .int x3)] [] 0
  refine pv_aload_n 0 hc dX9_does_0 rfl rfl ?_
  refine pv_iconst (0 : Int32) hc dX9_does_1 rfl ?_
  obtain ⟨s1, hs1, h⟩ := LT_el h
  refine m_put_1 hc hM hs1 dX9_does_2 ?_
  refine pv_aload_n 0 hc dX9_does_5 rfl rfl ?_
  refine pv_iconst (0 : Int32) hc dX9_does_6 rfl ?_
  refine pv_iload_n 1 hc dX9_does_7 rfl rfl ?_
  refine pv_iload_n 2 hc dX9_does_8 rfl rfl ?_
  refine pv_iload_n 3 hc dX9_does_9 rfl rfl ?_
  refine pv_aload_n 0 hc dX9_does_10 rfl rfl ?_
  refine pv_iload_n 1 hc dX9_does_11 rfl rfl ?_
  obtain ⟨v3, hf2, h⟩ := BD_el h
  refine m_call_286 hc hM (wp_at G a 7 s1) (m_isPerson_ok hM (wp_at G a 7 s1) hf2) (by decide) (Nat.le_of_ble_eq_true rfl) dX9_does_12 ?_
  refine pv_if_eq (tgt := 38) hc dX9_does_15 (by decide) h (fun h => ?_) (fun h => ?_)
  · refine pv_iconst (0 : Int32) hc dX9_does_38 rfl ?_
    obtain ⟨v5, s6, hf4, h⟩ := BD2_el h
    refine m_call_292 hc hM (m_doIt_ok hM (wp_at G a 7 s1) hf4) (by decide) (Nat.le_of_ble_eq_true rfl) dX9_does_39 ?_
    exact pv_iret hc hr hQ (e_i2 h) (e_w2 h) dX9_does_42
  · refine pv_aload_n 0 hc dX9_does_18 rfl rfl ?_
    refine pv_iload_n 2 hc dX9_does_19 rfl rfl ?_
    obtain ⟨v8, hf7, h⟩ := BD_el h
    refine m_call_289 hc hM (wp_at G a 7 s1) (m_isDeed_ok hM (wp_at G a 7 s1) hf7) (by decide) (Nat.le_of_ble_eq_true rfl) dX9_does_20 ?_
    refine pv_if_eq (tgt := 38) hc dX9_does_23 (by decide) h (fun h => ?_) (fun h => ?_)
    · refine pv_iconst (0 : Int32) hc dX9_does_38 rfl ?_
      obtain ⟨v10, s11, hf9, h⟩ := BD2_el h
      refine m_call_292 hc hM (m_doIt_ok hM (wp_at G a 7 s1) hf9) (by decide) (Nat.le_of_ble_eq_true rfl) dX9_does_39 ?_
      exact pv_iret hc hr hQ (e_i2 h) (e_w2 h) dX9_does_42
    · refine pv_aload_n 0 hc dX9_does_26 rfl rfl ?_
      refine pv_iload_n 3 hc dX9_does_27 rfl rfl ?_
      obtain ⟨v13, hf12, h⟩ := BD_el h
      refine m_call_259 hc hM (wp_at G a 7 s1) (m_isParlour_ok hM (wp_at G a 7 s1) hf12) (by decide) (Nat.le_of_ble_eq_true rfl) dX9_does_28 ?_
      refine pv_if_eq (tgt := 38) hc dX9_does_31 (by decide) h (fun h => ?_) (fun h => ?_)
      · refine pv_iconst (0 : Int32) hc dX9_does_38 rfl ?_
        obtain ⟨v15, s16, hf14, h⟩ := BD2_el h
        refine m_call_292 hc hM (m_doIt_ok hM (wp_at G a 7 s1) hf14) (by decide) (Nat.le_of_ble_eq_true rfl) dX9_does_39 ?_
        exact pv_iret hc hr hQ (e_i2 h) (e_w2 h) dX9_does_42
      · refine pv_iconst (1 : Int32) hc dX9_does_34 rfl ?_
        refine pv_goto (tgt := 39) hc dX9_does_35 (by decide) ?_
        obtain ⟨v18, s19, hf17, h⟩ := BD2_el h
        refine m_call_292 hc hM (m_doIt_ok hM (wp_at G a 7 s1) hf17) (by decide) (Nat.le_of_ble_eq_true rfl) dX9_does_39 ?_
        exact pv_iret hc hr hQ (e_i2 h) (e_w2 h) dX9_does_42
def m_sponge (s : Rec) (x1 : Int32) : Option (Int32 × Rec) := LT (sI s 0 (0 : Int32)) (fun s1 => BD (m_isPlant s1 x1) (fun v3 => BD2 (m_doIt s1 (1 : Int32) x1 (0 : Int32) (0 : Int32) v3) (fun v5 s6 => some (v5, s6))))
set_option maxHeartbeats 4000000 in
theorem m_sponge_ok {l : Launch} {g : Gh} {G : Wd} (hM : MOK g) {a : Nat} {s : Rec} (hG : G.2 a = some (7, s)) {x1 : Int32} {r : Int32} {s' : Rec} (hf : m_sponge s x1 = some (r, s')) : MT l g yX9_sponge cX9_sponge 2 (some .int) 7 G [.ref a, .int x1] (some (.int r)) (wp G a 7 s') := by
  refine pv_start (by decide) (Nat.le_of_ble_eq_true rfl) ?_
  intro X hl hg hN hc hr _ _ _ hQ
  subst hl; subst hg
  refine pv_G (wp_id hG) ?_
  have h := hf
  unfold m_sponge at h
  show V X 0 0 _ [(0, .ref a), (1, .int x1)] [] 0
  refine pv_aload_n 0 hc dX9_sponge_0 rfl rfl ?_
  refine pv_iconst (0 : Int32) hc dX9_sponge_1 rfl ?_
  obtain ⟨s1, hs1, h⟩ := LT_el h
  refine m_put_1 hc hM hs1 dX9_sponge_2 ?_
  refine pv_aload_n 0 hc dX9_sponge_5 rfl rfl ?_
  refine pv_iconst (1 : Int32) hc dX9_sponge_6 rfl ?_
  refine pv_iload_n 1 hc dX9_sponge_7 rfl rfl ?_
  refine pv_iconst (0 : Int32) hc dX9_sponge_8 rfl ?_
  refine pv_iconst (0 : Int32) hc dX9_sponge_9 rfl ?_
  refine pv_aload_n 0 hc dX9_sponge_10 rfl rfl ?_
  refine pv_iload_n 1 hc dX9_sponge_11 rfl rfl ?_
  obtain ⟨v3, hf2, h⟩ := BD_el h
  refine m_call_244 hc hM (wp_at G a 7 s1) (m_isPlant_ok hM (wp_at G a 7 s1) hf2) (by decide) (Nat.le_of_ble_eq_true rfl) dX9_sponge_12 ?_
  obtain ⟨v5, s6, hf4, h⟩ := BD2_el h
  refine m_call_292 hc hM (m_doIt_ok hM (wp_at G a 7 s1) hf4) (by decide) (Nat.le_of_ble_eq_true rfl) dX9_sponge_15 ?_
  exact pv_iret hc hr hQ (e_i2 h) (e_w2 h) dX9_sponge_18
def m_carry (s : Rec) (x1 : Int32) (x2 : Int32) : Option (Int32 × Rec) := LT (sI s 0 (0 : Int32)) (fun s1 => BD (m_isPlant s1 x1) (fun v3 => (if v3 = 0 then BD2 (m_doIt s1 (2 : Int32) x1 x2 (0 : Int32) (0 : Int32)) (fun v5 s6 => some (v5, s6)) else BD (m_isParlour s1 x2) (fun v8 => (if v8 = 0 then BD2 (m_doIt s1 (2 : Int32) x1 x2 (0 : Int32) (0 : Int32)) (fun v10 s11 => some (v10, s11)) else BD2 (m_doIt s1 (2 : Int32) x1 x2 (0 : Int32) (1 : Int32)) (fun v13 s14 => some (v13, s14)))))))
set_option maxHeartbeats 4000000 in
theorem m_carry_ok {l : Launch} {g : Gh} {G : Wd} (hM : MOK g) {a : Nat} {s : Rec} (hG : G.2 a = some (7, s)) {x1 : Int32} {x2 : Int32} {r : Int32} {s' : Rec} (hf : m_carry s x1 x2 = some (r, s')) : MT l g yX9_carry cX9_carry 3 (some .int) 7 G [.ref a, .int x1, .int x2] (some (.int r)) (wp G a 7 s') := by
  refine pv_start (by decide) (Nat.le_of_ble_eq_true rfl) ?_
  intro X hl hg hN hc hr _ _ _ hQ
  subst hl; subst hg
  refine pv_G (wp_id hG) ?_
  have h := hf
  unfold m_carry at h
  show V X 0 0 _ [(0, .ref a), (1, .int x1), (2, .int x2)] [] 0
  refine pv_aload_n 0 hc dX9_carry_0 rfl rfl ?_
  refine pv_iconst (0 : Int32) hc dX9_carry_1 rfl ?_
  obtain ⟨s1, hs1, h⟩ := LT_el h
  refine m_put_1 hc hM hs1 dX9_carry_2 ?_
  refine pv_aload_n 0 hc dX9_carry_5 rfl rfl ?_
  refine pv_iconst (2 : Int32) hc dX9_carry_6 rfl ?_
  refine pv_iload_n 1 hc dX9_carry_7 rfl rfl ?_
  refine pv_iload_n 2 hc dX9_carry_8 rfl rfl ?_
  refine pv_iconst (0 : Int32) hc dX9_carry_9 rfl ?_
  refine pv_aload_n 0 hc dX9_carry_10 rfl rfl ?_
  refine pv_iload_n 1 hc dX9_carry_11 rfl rfl ?_
  obtain ⟨v3, hf2, h⟩ := BD_el h
  refine m_call_244 hc hM (wp_at G a 7 s1) (m_isPlant_ok hM (wp_at G a 7 s1) hf2) (by decide) (Nat.le_of_ble_eq_true rfl) dX9_carry_12 ?_
  refine pv_if_eq (tgt := 30) hc dX9_carry_15 (by decide) h (fun h => ?_) (fun h => ?_)
  · refine pv_iconst (0 : Int32) hc dX9_carry_30 rfl ?_
    obtain ⟨v5, s6, hf4, h⟩ := BD2_el h
    refine m_call_292 hc hM (m_doIt_ok hM (wp_at G a 7 s1) hf4) (by decide) (Nat.le_of_ble_eq_true rfl) dX9_carry_31 ?_
    exact pv_iret hc hr hQ (e_i2 h) (e_w2 h) dX9_carry_34
  · refine pv_aload_n 0 hc dX9_carry_18 rfl rfl ?_
    refine pv_iload_n 2 hc dX9_carry_19 rfl rfl ?_
    obtain ⟨v8, hf7, h⟩ := BD_el h
    refine m_call_259 hc hM (wp_at G a 7 s1) (m_isParlour_ok hM (wp_at G a 7 s1) hf7) (by decide) (Nat.le_of_ble_eq_true rfl) dX9_carry_20 ?_
    refine pv_if_eq (tgt := 30) hc dX9_carry_23 (by decide) h (fun h => ?_) (fun h => ?_)
    · refine pv_iconst (0 : Int32) hc dX9_carry_30 rfl ?_
      obtain ⟨v10, s11, hf9, h⟩ := BD2_el h
      refine m_call_292 hc hM (m_doIt_ok hM (wp_at G a 7 s1) hf9) (by decide) (Nat.le_of_ble_eq_true rfl) dX9_carry_31 ?_
      exact pv_iret hc hr hQ (e_i2 h) (e_w2 h) dX9_carry_34
    · refine pv_iconst (1 : Int32) hc dX9_carry_26 rfl ?_
      refine pv_goto (tgt := 31) hc dX9_carry_27 (by decide) ?_
      obtain ⟨v13, s14, hf12, h⟩ := BD2_el h
      refine m_call_292 hc hM (m_doIt_ok hM (wp_at G a 7 s1) hf12) (by decide) (Nat.le_of_ble_eq_true rfl) dX9_carry_31 ?_
      exact pv_iret hc hr hQ (e_i2 h) (e_w2 h) dX9_carry_34
def m_undo (s : Rec)  : Option (Int32 × Rec) := LT (sI s 0 (0 : Int32)) (fun s1 => (if (gI s1 24) = 0 then some ((-1 : Int32), s1) else LT (sI s1 24 ((gI s1 24) - (1 : Int32))) (fun s2 => LP2 (fun (rec5 : Int32 → Rec → Option (Int32 × Rec)) (v3 : Int32) (s4 : Rec) => (if (140 : Int32) ≤ v3 then some ((gI s4 24), s4) else IX (((140 : Int32) * (gI s4 24)) + v3) 1120 (fun i6 => IX ((24 : Int32) + v3) 406 (fun i7 => LT (sA s4 14 i7 (gA s4 17 i6)) (fun s8 => rec5 (v3 + (1 : Int32)) s8))))) FU (0 : Int32) s2)))
set_option maxHeartbeats 4000000 in
theorem m_undo_ok {l : Launch} {g : Gh} {G : Wd} (hM : MOK g) {a : Nat} {s : Rec} (hG : G.2 a = some (7, s))  {r : Int32} {s' : Rec} (hf : m_undo s  = some (r, s')) : MT l g yX9_undo cX9_undo 2 (some .int) 1 G [.ref a] (some (.int r)) (wp G a 7 s') := by
  refine pv_start (by decide) (Nat.le_of_ble_eq_true rfl) ?_
  intro X hl hg hN hc hr _ _ _ hQ
  subst hl; subst hg
  refine pv_G (wp_id hG) ?_
  have h := hf
  unfold m_undo at h
  show V X 0 0 _ [(0, .ref a)] [] 0
  refine pv_aload_n 0 hc dX9_undo_0 rfl rfl ?_
  refine pv_iconst (0 : Int32) hc dX9_undo_1 rfl ?_
  obtain ⟨s1, hs1, h⟩ := LT_el h
  refine m_put_1 hc hM hs1 dX9_undo_2 ?_
  refine pv_aload_n 0 hc dX9_undo_5 rfl rfl ?_
  refine m_get_215 hc hM (wp_at G a 7 s1) dX9_undo_6 ?_
  refine pv_if_ne (tgt := 14) hc dX9_undo_9 (by decide) h (fun h => ?_) (fun h => ?_)
  · refine pv_aload_n 0 hc dX9_undo_14 rfl rfl ?_
    refine pv_dup hc dX9_undo_15 rfl ?_
    refine m_get_215 hc hM (wp_at G a 7 s1) dX9_undo_16 ?_
    refine pv_iconst (1 : Int32) hc dX9_undo_19 rfl ?_
    refine pv_isub hc dX9_undo_20 ?_
    obtain ⟨s2, hs2, h⟩ := LT_el h
    refine m_put_215 hc hM hs2 dX9_undo_21 ?_
    refine pv_iconst (0 : Int32) hc dX9_undo_24 rfl ?_
    refine pv_istore_n (L' := [(1, .int (0 : Int32)), (0, .ref a)]) hc dX9_undo_25 rfl hN (by decide) rfl ?_
    refine pv_sub [1, 0] rfl ?_
    refine LP2_el (P := fun v3 s4 => V X 0 0 (wp G a 7 s4) [(0, .ref a), (1, .int v3)] [] 26) ?_ FU _ _ h
    intro rec5 hrec5 v3 s4 h
    refine pv_iload_n 1 hc dX9_undo_26 rfl rfl ?_
    refine pv_sipush (140 : Int32) hc dX9_undo_27 rfl ?_
    refine pv_icmp_ge (tgt := 63) hc dX9_undo_30 (by decide) h (fun h => ?_) (fun h => ?_)
    · refine pv_aload_n 0 hc dX9_undo_63 rfl rfl ?_
      refine m_get_215 hc hM (wp_at G a 7 s4) dX9_undo_64 ?_
      exact pv_iret hc hr hQ (e_i2 h) (e_w2 h) dX9_undo_67
    · refine pv_aload_n 0 hc dX9_undo_33 rfl rfl ?_
      refine m_get_98 hc hM (wp_at G a 7 s4) dX9_undo_34 ?_
      refine pv_bipush (24 : Int32) hc dX9_undo_37 rfl ?_
      refine pv_iload_n 1 hc dX9_undo_39 rfl rfl ?_
      refine pv_iadd hc dX9_undo_40 ?_
      refine pv_aload_n 0 hc dX9_undo_41 rfl rfl ?_
      refine m_get_107 hc hM (wp_at G a 7 s4) dX9_undo_42 ?_
      refine pv_sipush (140 : Int32) hc dX9_undo_45 rfl ?_
      refine pv_aload_n 0 hc dX9_undo_48 rfl rfl ?_
      refine m_get_215 hc hM (wp_at G a 7 s4) dX9_undo_49 ?_
      refine pv_imul hc dX9_undo_52 ?_
      refine pv_iload_n 1 hc dX9_undo_53 rfl rfl ?_
      refine pv_iadd hc dX9_undo_54 ?_
      obtain ⟨i6, hi6, h⟩ := IX_el h
      refine m_ald_17 hc hM (wp_at G a 7 s4) hi6 dX9_undo_55 ?_
      obtain ⟨i7, hi7, h⟩ := IX_el h
      obtain ⟨s8, hs8, h⟩ := LT_el h
      refine m_ast_14 hc hM hi7 hs8 dX9_undo_56 ?_
      refine pv_iinc (L' := [(1, .int (v3 + (1 : Int32))), (0, .ref a)]) 1 (v3 + (1 : Int32)) hc dX9_undo_57 rfl rfl hN (by decide) rfl ?_
      refine pv_goto (tgt := 26) hc dX9_undo_60 (by decide) ?_
      refine pv_sub [1, 0] rfl ?_
      exact hrec5 _ _ h
  · refine pv_iconst (-1 : Int32) hc dX9_undo_12 rfl ?_
    exact pv_iret hc hr hQ (e_i2 h) (e_w2 h) dX9_undo_13
def m_least (x0 : Int32) (x1 : Int32) : Option Int32 := (if x1 ≤ x0 then some x1 else some x0)
set_option maxHeartbeats 4000000 in
theorem m_least_ok {l : Launch} {g : Gh} {G : Wd} {x0 : Int32} {x1 : Int32} {r : Int32} (hf : m_least x0 x1 = some r) : MT l g yX9_least cX9_least 2 (some .int) 1 G [.int x0, .int x1] (some (.int r)) G := by
  refine pv_start (by decide) (Nat.le_of_ble_eq_true rfl) ?_
  intro X hl hg hN hc hr _ _ _ hQ
  subst hl; subst hg
  have h := hf
  unfold m_least at h
  show V X 0 0 _ [(0, .int x0), (1, .int x1)] [] 0
  refine pv_iload_n 0 hc dX9_least_0 rfl rfl ?_
  refine pv_iload_n 1 hc dX9_least_1 rfl rfl ?_
  refine pv_icmp_ge (tgt := 9) hc dX9_least_2 (by decide) h (fun h => ?_) (fun h => ?_)
  · refine pv_iload_n 1 hc dX9_least_9 rfl rfl ?_
    exact pv_iret hc hr hQ (e_i1 h) rfl dX9_least_10
  · refine pv_iload_n 0 hc dX9_least_5 rfl rfl ?_
    refine pv_goto (tgt := 10) hc dX9_least_6 (by decide) ?_
    exact pv_iret hc hr hQ (e_i1 h) rfl dX9_least_10
def m_oneDay (s : Rec)  : Option Rec := LP2 (fun (rec3 : Int32 → Rec → Option Rec) (v1 : Int32) (s2 : Rec) => (if (gA s2 14 1) ≤ v1 then LT (sA s2 14 24 ((gA s2 14 24) + (1 : Int32))) (fun s4 => some s4) else IX ((32 : Int32) + v1) 406 (fun i5 => BD (m_least (99 : Int32) ((gA s2 14 i5) + (1 : Int32))) (fun v7 => LT (sA s2 14 i5 v7) (fun s8 => rec3 (v1 + (1 : Int32)) s8))))) FU (0 : Int32) s
set_option maxHeartbeats 4000000 in
theorem m_oneDay_ok {l : Launch} {g : Gh} {G : Wd} (hM : MOK g) {a : Nat} {s : Rec} (hG : G.2 a = some (7, s))  {s' : Rec} (hf : m_oneDay s  = some s') : MT l g yX9_oneDay cX9_oneDay 2 none 2 G [.ref a] none (wp G a 7 s') := by
  refine pv_start (by decide) (Nat.le_of_ble_eq_true rfl) ?_
  intro X hl hg hN hc hr _ _ _ hQ
  subst hl; subst hg
  refine pv_G (wp_id hG) ?_
  have h := hf
  unfold m_oneDay at h
  show V X 0 0 _ [(0, .ref a)] [] 0
  refine pv_iconst (0 : Int32) hc dX9_oneDay_0 rfl ?_
  refine pv_istore_n (L' := [(1, .int (0 : Int32)), (0, .ref a)]) hc dX9_oneDay_1 rfl hN (by decide) rfl ?_
  refine pv_sub [1, 0] rfl ?_
  refine LP2_el (P := fun v1 s2 => V X 0 0 (wp G a 7 s2) [(0, .ref a), (1, .int v1)] [] 2) ?_ FU _ _ h
  intro rec3 hrec3 v1 s2 h
  refine pv_iload_n 1 hc dX9_oneDay_2 rfl rfl ?_
  refine pv_aload_n 0 hc dX9_oneDay_3 rfl rfl ?_
  refine m_get_98 hc hM (wp_at G a 7 s2) dX9_oneDay_4 ?_
  refine pv_iconst (1 : Int32) hc dX9_oneDay_7 rfl ?_
  refine m_ald_14 hc hM (wp_at G a 7 s2) (vp_lit (j := 1) (by decide)) dX9_oneDay_8 ?_
  refine pv_icmp_ge (tgt := 43) hc dX9_oneDay_9 (by decide) h (fun h => ?_) (fun h => ?_)
  · refine pv_aload_n 0 hc dX9_oneDay_43 rfl rfl ?_
    refine m_get_98 hc hM (wp_at G a 7 s2) dX9_oneDay_44 ?_
    refine pv_bipush (24 : Int32) hc dX9_oneDay_47 rfl ?_
    refine pv_dup2_11 hc dX9_oneDay_49 rfl rfl ?_
    refine m_ald_14 hc hM (wp_at G a 7 s2) (vp_lit (j := 24) (by decide)) dX9_oneDay_50 ?_
    refine pv_iconst (1 : Int32) hc dX9_oneDay_51 rfl ?_
    refine pv_iadd hc dX9_oneDay_52 ?_
    obtain ⟨s4, hs4, h⟩ := LT_el h
    refine m_ast_14 hc hM (vp_lit (j := 24) (by decide)) hs4 dX9_oneDay_53 ?_
    exact pv_vret hc hr hQ rfl (e_w1 h) dX9_oneDay_54
  · refine pv_aload_n 0 hc dX9_oneDay_12 rfl rfl ?_
    refine m_get_98 hc hM (wp_at G a 7 s2) dX9_oneDay_13 ?_
    refine pv_bipush (32 : Int32) hc dX9_oneDay_16 rfl ?_
    refine pv_iload_n 1 hc dX9_oneDay_18 rfl rfl ?_
    refine pv_iadd hc dX9_oneDay_19 ?_
    refine pv_bipush (99 : Int32) hc dX9_oneDay_20 rfl ?_
    refine pv_aload_n 0 hc dX9_oneDay_22 rfl rfl ?_
    refine m_get_98 hc hM (wp_at G a 7 s2) dX9_oneDay_23 ?_
    refine pv_bipush (32 : Int32) hc dX9_oneDay_26 rfl ?_
    refine pv_iload_n 1 hc dX9_oneDay_28 rfl rfl ?_
    refine pv_iadd hc dX9_oneDay_29 ?_
    obtain ⟨i5, hi5, h⟩ := IX_el h
    refine m_ald_14 hc hM (wp_at G a 7 s2) hi5 dX9_oneDay_30 ?_
    refine pv_iconst (1 : Int32) hc dX9_oneDay_31 rfl ?_
    refine pv_iadd hc dX9_oneDay_32 ?_
    obtain ⟨v7, hf6, h⟩ := BD_el h
    refine m_call_296 hc (m_least_ok hf6) (by decide) (Nat.le_of_ble_eq_true rfl) dX9_oneDay_33 ?_
    obtain ⟨s8, hs8, h⟩ := LT_el h
    refine m_ast_14 hc hM hi5 hs8 dX9_oneDay_36 ?_
    refine pv_iinc (L' := [(1, .int (v1 + (1 : Int32))), (0, .ref a)]) 1 (v1 + (1 : Int32)) hc dX9_oneDay_37 rfl rfl hN (by decide) rfl ?_
    refine pv_goto (tgt := 2) hc dX9_oneDay_40 (by decide) ?_
    refine pv_sub [1, 0] rfl ?_
    exact hrec3 _ _ h
def m_passDays (s : Rec) (x1 : Int32) : Option (Int32 × Rec) := BD (m_least x1 ((400 : Int32) - (gA s 14 24))) (fun v2 => LP2 (fun (rec5 : Int32 → Rec → Option (Int32 × Rec)) (v3 : Int32) (s4 : Rec) => (if v2 ≤ v3 then some (v2, s4) else BD (m_oneDay s4) (fun s7 => rec5 (v3 + (1 : Int32)) s7))) FU (0 : Int32) s)
set_option maxHeartbeats 4000000 in
theorem m_passDays_ok {l : Launch} {g : Gh} {G : Wd} (hM : MOK g) {a : Nat} {s : Rec} (hG : G.2 a = some (7, s)) {x1 : Int32} {r : Int32} {s' : Rec} (hf : m_passDays s x1 = some (r, s')) : MT l g yX9_passDays cX9_passDays 4 (some .int) 3 G [.ref a, .int x1] (some (.int r)) (wp G a 7 s') := by
  refine pv_start (by decide) (Nat.le_of_ble_eq_true rfl) ?_
  intro X hl hg hN hc hr _ _ _ hQ
  subst hl; subst hg
  refine pv_G (wp_id hG) ?_
  have h := hf
  unfold m_passDays at h
  show V X 0 0 _ [(0, .ref a), (1, .int x1)] [] 0
  refine pv_iload_n 1 hc dX9_passDays_0 rfl rfl ?_
  refine pv_sipush (400 : Int32) hc dX9_passDays_1 rfl ?_
  refine pv_aload_n 0 hc dX9_passDays_4 rfl rfl ?_
  refine m_get_98 hc hM (wp_at G a 7 s) dX9_passDays_5 ?_
  refine pv_bipush (24 : Int32) hc dX9_passDays_8 rfl ?_
  refine m_ald_14 hc hM (wp_at G a 7 s) (vp_lit (j := 24) (by decide)) dX9_passDays_10 ?_
  refine pv_isub hc dX9_passDays_11 ?_
  obtain ⟨v2, hf1, h⟩ := BD_el h
  refine m_call_296 hc (m_least_ok hf1) (by decide) (Nat.le_of_ble_eq_true rfl) dX9_passDays_12 ?_
  refine pv_istore_n (L' := [(2, .int v2), (0, .ref a), (1, .int x1)]) hc dX9_passDays_15 rfl hN (by decide) rfl ?_
  refine pv_iconst (0 : Int32) hc dX9_passDays_16 rfl ?_
  refine pv_istore_n (L' := [(3, .int (0 : Int32)), (2, .int v2), (0, .ref a), (1, .int x1)]) hc dX9_passDays_17 rfl hN (by decide) rfl ?_
  refine pv_sub [2, 1, 0] rfl ?_
  refine LP2_el (P := fun v3 s4 => V X 0 0 (wp G a 7 s4) [(0, .ref a), (2, .int v2), (3, .int v3)] [] 18) ?_ FU _ _ h
  intro rec5 hrec5 v3 s4 h
  refine pv_iload_n 2 hc dX9_passDays_18 rfl rfl ?_
  refine pv_iload_n 1 hc dX9_passDays_19 rfl rfl ?_
  refine pv_icmp_ge (tgt := 33) hc dX9_passDays_20 (by decide) h (fun h => ?_) (fun h => ?_)
  · refine pv_iload_n 1 hc dX9_passDays_33 rfl rfl ?_
    exact pv_iret hc hr hQ (e_i2 h) (e_w2 h) dX9_passDays_34
  · refine pv_aload_n 0 hc dX9_passDays_23 rfl rfl ?_
    obtain ⟨s7, hf6, h⟩ := BD_el h
    refine m_call_299 hc hM (m_oneDay_ok hM (wp_at G a 7 s4) hf6) (by decide) (Nat.le_of_ble_eq_true rfl) dX9_passDays_24 ?_
    refine pv_iinc (L' := [(3, .int (v3 + (1 : Int32))), (0, .ref a), (2, .int v2)]) 2 (v3 + (1 : Int32)) hc dX9_passDays_27 rfl rfl hN (by decide) rfl ?_
    refine pv_goto (tgt := 18) hc dX9_passDays_30 (by decide) ?_
    refine pv_sub [1, 2, 0] rfl ?_
    exact hrec5 _ _ h
def m_days (s : Rec) (x1 : Int32) : Option (Int32 × Rec) := LT (sI s 0 (0 : Int32)) (fun s1 => BD (m_isIn x1 (1 : Int32) (60 : Int32)) (fun v3 => (if v3 = 0 then some ((-1 : Int32), s1) else (if (gA s1 14 24) = (400 : Int32) then some ((0 : Int32), s1) else BD (m_snap s1) (fun s5 => BD2 (m_passDays s5 x1) (fun v7 s8 => some (v7, s8)))))))
set_option maxHeartbeats 4000000 in
theorem m_days_ok {l : Launch} {g : Gh} {G : Wd} (hM : MOK g) {a : Nat} {s : Rec} (hG : G.2 a = some (7, s)) {x1 : Int32} {r : Int32} {s' : Rec} (hf : m_days s x1 = some (r, s')) : MT l g yX9_days cX9_days 2 (some .int) 4 G [.ref a, .int x1] (some (.int r)) (wp G a 7 s') := by
  refine pv_start (by decide) (Nat.le_of_ble_eq_true rfl) ?_
  intro X hl hg hN hc hr _ _ _ hQ
  subst hl; subst hg
  refine pv_G (wp_id hG) ?_
  have h := hf
  unfold m_days at h
  show V X 0 0 _ [(0, .ref a), (1, .int x1)] [] 0
  refine pv_aload_n 0 hc dX9_days_0 rfl rfl ?_
  refine pv_iconst (0 : Int32) hc dX9_days_1 rfl ?_
  obtain ⟨s1, hs1, h⟩ := LT_el h
  refine m_put_1 hc hM hs1 dX9_days_2 ?_
  refine pv_iload_n 1 hc dX9_days_5 rfl rfl ?_
  refine pv_iconst (1 : Int32) hc dX9_days_6 rfl ?_
  refine pv_bipush (60 : Int32) hc dX9_days_7 rfl ?_
  obtain ⟨v3, hf2, h⟩ := BD_el h
  refine m_call_75 hc (m_isIn_ok hf2) (by decide) (Nat.le_of_ble_eq_true rfl) dX9_days_9 ?_
  refine pv_if_ne (tgt := 17) hc dX9_days_12 (by decide) h (fun h => ?_) (fun h => ?_)
  · refine pv_aload_n 0 hc dX9_days_17 rfl rfl ?_
    refine m_get_98 hc hM (wp_at G a 7 s1) dX9_days_18 ?_
    refine pv_bipush (24 : Int32) hc dX9_days_21 rfl ?_
    refine m_ald_14 hc hM (wp_at G a 7 s1) (vp_lit (j := 24) (by decide)) dX9_days_23 ?_
    refine pv_sipush (400 : Int32) hc dX9_days_24 rfl ?_
    refine pv_icmp_ne (tgt := 32) hc dX9_days_27 (by decide) h (fun h => ?_) (fun h => ?_)
    · refine pv_aload_n 0 hc dX9_days_32 rfl rfl ?_
      obtain ⟨s5, hf4, h⟩ := BD_el h
      refine m_call_279 hc hM (m_snap_ok hM (wp_at G a 7 s1) hf4) (by decide) (Nat.le_of_ble_eq_true rfl) dX9_days_33 ?_
      refine pv_aload_n 0 hc dX9_days_36 rfl rfl ?_
      refine pv_iload_n 1 hc dX9_days_37 rfl rfl ?_
      obtain ⟨v7, s8, hf6, h⟩ := BD2_el h
      refine m_call_302 hc hM (m_passDays_ok hM (wp_at G a 7 s5) hf6) (by decide) (Nat.le_of_ble_eq_true rfl) dX9_days_38 ?_
      exact pv_iret hc hr hQ (e_i2 h) (e_w2 h) dX9_days_41
    · refine pv_iconst (0 : Int32) hc dX9_days_30 rfl ?_
      exact pv_iret hc hr hQ (e_i2 h) (e_w2 h) dX9_days_31
  · refine pv_iconst (-1 : Int32) hc dX9_days_15 rfl ?_
    exact pv_iret hc hr hQ (e_i2 h) (e_w2 h) dX9_days_16
def m_guilty (s : Rec) (x1 : Int32) (x2 : Int32) : Option (Int32 × Rec) := LT (sI s 0 (0 : Int32)) (fun s1 => BD (m_isPerson s1 x1) (fun v3 => (if v3 = 0 then some ((-1 : Int32), s1) else BD (m_isDeed s1 x2) (fun v5 => (if v5 = 0 then some ((-1 : Int32), s1) else LP1 (fun (rec7 : Int32 → Option (Int32 × Rec)) (v6 : Int32) => (if (gA s1 14 25) ≤ v6 then some ((0 : Int32), s1) else IX ((38 : Int32) + v6) 406 (fun i8 => (if (gA s1 14 i8) = x1 then IX ((50 : Int32) + v6) 406 (fun i9 => (if (gA s1 14 i9) = x2 then BD (m_isProved s1 v6) (fun v11 => (if v11 = 0 then rec7 (v6 + (1 : Int32)) else some ((1 : Int32), s1))) else rec7 (v6 + (1 : Int32)))) else rec7 (v6 + (1 : Int32)))))) FU (0 : Int32))))))
set_option maxHeartbeats 4000000 in
theorem m_guilty_ok {l : Launch} {g : Gh} {G : Wd} (hM : MOK g) {a : Nat} {s : Rec} (hG : G.2 a = some (7, s)) {x1 : Int32} {x2 : Int32} {r : Int32} {s' : Rec} (hf : m_guilty s x1 x2 = some (r, s')) : MT l g yX9_guilty cX9_guilty 4 (some .int) 5 G [.ref a, .int x1, .int x2] (some (.int r)) (wp G a 7 s') := by
  refine pv_start (by decide) (Nat.le_of_ble_eq_true rfl) ?_
  intro X hl hg hN hc hr _ _ _ hQ
  subst hl; subst hg
  refine pv_G (wp_id hG) ?_
  have h := hf
  unfold m_guilty at h
  show V X 0 0 _ [(0, .ref a), (1, .int x1), (2, .int x2)] [] 0
  refine pv_aload_n 0 hc dX9_guilty_0 rfl rfl ?_
  refine pv_iconst (0 : Int32) hc dX9_guilty_1 rfl ?_
  obtain ⟨s1, hs1, h⟩ := LT_el h
  refine m_put_1 hc hM hs1 dX9_guilty_2 ?_
  refine pv_aload_n 0 hc dX9_guilty_5 rfl rfl ?_
  refine pv_iload_n 1 hc dX9_guilty_6 rfl rfl ?_
  obtain ⟨v3, hf2, h⟩ := BD_el h
  refine m_call_286 hc hM (wp_at G a 7 s1) (m_isPerson_ok hM (wp_at G a 7 s1) hf2) (by decide) (Nat.le_of_ble_eq_true rfl) dX9_guilty_7 ?_
  refine pv_if_eq (tgt := 21) hc dX9_guilty_10 (by decide) h (fun h => ?_) (fun h => ?_)
  · refine pv_iconst (-1 : Int32) hc dX9_guilty_21 rfl ?_
    exact pv_iret hc hr hQ (e_i2 h) (e_w2 h) dX9_guilty_22
  · refine pv_aload_n 0 hc dX9_guilty_13 rfl rfl ?_
    refine pv_iload_n 2 hc dX9_guilty_14 rfl rfl ?_
    obtain ⟨v5, hf4, h⟩ := BD_el h
    refine m_call_289 hc hM (wp_at G a 7 s1) (m_isDeed_ok hM (wp_at G a 7 s1) hf4) (by decide) (Nat.le_of_ble_eq_true rfl) dX9_guilty_15 ?_
    refine pv_if_ne (tgt := 23) hc dX9_guilty_18 (by decide) h (fun h => ?_) (fun h => ?_)
    · refine pv_iconst (0 : Int32) hc dX9_guilty_23 rfl ?_
      refine pv_istore_n (L' := [(3, .int (0 : Int32)), (0, .ref a), (1, .int x1), (2, .int x2)]) hc dX9_guilty_24 rfl hN (by decide) rfl ?_
      refine pv_sub [1, 2, 3, 0] rfl ?_
      refine LP1_el (P := fun v6 => V X 0 0 (wp G a 7 s1) [(0, .ref a), (1, .int x1), (2, .int x2), (3, .int v6)] [] 25) ?_ FU _ h
      intro rec7 hrec7 v6 h
      refine pv_iload_n 3 hc dX9_guilty_25 rfl rfl ?_
      refine pv_aload_n 0 hc dX9_guilty_26 rfl rfl ?_
      refine m_get_98 hc hM (wp_at G a 7 s1) dX9_guilty_27 ?_
      refine pv_bipush (25 : Int32) hc dX9_guilty_30 rfl ?_
      refine m_ald_14 hc hM (wp_at G a 7 s1) (vp_lit (j := 25) (by decide)) dX9_guilty_32 ?_
      refine pv_icmp_ge (tgt := 78) hc dX9_guilty_33 (by decide) h (fun h => ?_) (fun h => ?_)
      · refine pv_iconst (0 : Int32) hc dX9_guilty_78 rfl ?_
        exact pv_iret hc hr hQ (e_i2 h) (e_w2 h) dX9_guilty_79
      · refine pv_aload_n 0 hc dX9_guilty_36 rfl rfl ?_
        refine m_get_98 hc hM (wp_at G a 7 s1) dX9_guilty_37 ?_
        refine pv_bipush (38 : Int32) hc dX9_guilty_40 rfl ?_
        refine pv_iload_n 3 hc dX9_guilty_42 rfl rfl ?_
        refine pv_iadd hc dX9_guilty_43 ?_
        obtain ⟨i8, hi8, h⟩ := IX_el h
        refine m_ald_14 hc hM (wp_at G a 7 s1) hi8 dX9_guilty_44 ?_
        refine pv_iload_n 1 hc dX9_guilty_45 rfl rfl ?_
        refine pv_icmp_ne (tgt := 72) hc dX9_guilty_46 (by decide) h (fun h => ?_) (fun h => ?_)
        · refine pv_iinc (L' := [(3, .int (v6 + (1 : Int32))), (0, .ref a), (1, .int x1), (2, .int x2)]) 3 (v6 + (1 : Int32)) hc dX9_guilty_72 rfl rfl hN (by decide) rfl ?_
          refine pv_goto (tgt := 25) hc dX9_guilty_75 (by decide) ?_
          refine pv_sub [1, 2, 3, 0] rfl ?_
          exact hrec7 _ h
        · refine pv_aload_n 0 hc dX9_guilty_49 rfl rfl ?_
          refine m_get_98 hc hM (wp_at G a 7 s1) dX9_guilty_50 ?_
          refine pv_bipush (50 : Int32) hc dX9_guilty_53 rfl ?_
          refine pv_iload_n 3 hc dX9_guilty_55 rfl rfl ?_
          refine pv_iadd hc dX9_guilty_56 ?_
          obtain ⟨i9, hi9, h⟩ := IX_el h
          refine m_ald_14 hc hM (wp_at G a 7 s1) hi9 dX9_guilty_57 ?_
          refine pv_iload_n 2 hc dX9_guilty_58 rfl rfl ?_
          refine pv_icmp_ne (tgt := 72) hc dX9_guilty_59 (by decide) h (fun h => ?_) (fun h => ?_)
          · refine pv_iinc (L' := [(3, .int (v6 + (1 : Int32))), (0, .ref a), (1, .int x1), (2, .int x2)]) 3 (v6 + (1 : Int32)) hc dX9_guilty_72 rfl rfl hN (by decide) rfl ?_
            refine pv_goto (tgt := 25) hc dX9_guilty_75 (by decide) ?_
            refine pv_sub [1, 2, 3, 0] rfl ?_
            exact hrec7 _ h
          · refine pv_aload_n 0 hc dX9_guilty_62 rfl rfl ?_
            refine pv_iload_n 3 hc dX9_guilty_63 rfl rfl ?_
            obtain ⟨v11, hf10, h⟩ := BD_el h
            refine m_call_241 hc hM (wp_at G a 7 s1) (m_isProved_ok hM (wp_at G a 7 s1) hf10) (by decide) (Nat.le_of_ble_eq_true rfl) dX9_guilty_64 ?_
            refine pv_if_eq (tgt := 72) hc dX9_guilty_67 (by decide) h (fun h => ?_) (fun h => ?_)
            · refine pv_iinc (L' := [(3, .int (v6 + (1 : Int32))), (0, .ref a), (1, .int x1), (2, .int x2)]) 3 (v6 + (1 : Int32)) hc dX9_guilty_72 rfl rfl hN (by decide) rfl ?_
              refine pv_goto (tgt := 25) hc dX9_guilty_75 (by decide) ?_
              refine pv_sub [1, 2, 3, 0] rfl ?_
              exact hrec7 _ h
            · refine pv_iconst (1 : Int32) hc dX9_guilty_70 rfl ?_
              exact pv_iret hc hr hQ (e_i2 h) (e_w2 h) dX9_guilty_71
    · refine pv_iconst (-1 : Int32) hc dX9_guilty_21 rfl ?_
      exact pv_iret hc hr hQ (e_i2 h) (e_w2 h) dX9_guilty_22
def m_proves (s : Rec) (x1 : Int32) : Option (Int32 × Rec) := LT (sI s 0 (0 : Int32)) (fun s1 => BD (m_isAct s1 x1) (fun v3 => (if v3 = 0 then some ((-1 : Int32), s1) else LP2 (fun (rec6 : Int32 → Int32 → Option (Int32 × Rec)) (v4 : Int32) (v5 : Int32) => (if (gA s1 14 1) ≤ v5 then (if v4 ≤ (400 : Int32) then some (v4, s1) else some ((-1 : Int32), s1)) else BD (m_leafOf s1 v5 x1) (fun v8 => LP2 (fun (rec11 : Int32 → Int32 → Option (Int32 × Rec)) (v9 : Int32) (v10 : Int32) => (if (gA s1 14 1) ≤ v10 then (if v8 = (-1 : Int32) then rec6 v4 (v5 + (1 : Int32)) else (if v9 < (gA s1 14 5) then rec6 v4 (v5 + (1 : Int32)) else (if v4 = (-1 : Int32) then rec6 v8 (v5 + (1 : Int32)) else (if v4 ≤ v8 then rec6 v4 (v5 + (1 : Int32)) else rec6 v8 (v5 + (1 : Int32)))))) else BD (m_leafOf s1 v10 x1) (fun v13 => (if v13 = (-1 : Int32) then rec11 v9 (v10 + (1 : Int32)) else BD (m_leafOf s1 v10 x1) (fun v15 => (if v8 < v15 then rec11 v9 (v10 + (1 : Int32)) else rec11 (v9 + (1 : Int32)) (v10 + (1 : Int32)))))))) FU (0 : Int32) (0 : Int32)))) FU (-1 : Int32) (0 : Int32))))
set_option maxHeartbeats 4000000 in
theorem m_proves_ok {l : Launch} {g : Gh} {G : Wd} (hM : MOK g) {a : Nat} {s : Rec} (hG : G.2 a = some (7, s)) {x1 : Int32} {r : Int32} {s' : Rec} (hf : m_proves s x1 = some (r, s')) : MT l g yX9_proves cX9_proves 7 (some .int) 3 G [.ref a, .int x1] (some (.int r)) (wp G a 7 s') := by
  refine pv_start (by decide) (Nat.le_of_ble_eq_true rfl) ?_
  intro X hl hg hN hc hr _ _ _ hQ
  subst hl; subst hg
  refine pv_G (wp_id hG) ?_
  have h := hf
  unfold m_proves at h
  show V X 0 0 _ [(0, .ref a), (1, .int x1)] [] 0
  refine pv_aload_n 0 hc dX9_proves_0 rfl rfl ?_
  refine pv_iconst (0 : Int32) hc dX9_proves_1 rfl ?_
  obtain ⟨s1, hs1, h⟩ := LT_el h
  refine m_put_1 hc hM hs1 dX9_proves_2 ?_
  refine pv_aload_n 0 hc dX9_proves_5 rfl rfl ?_
  refine pv_iload_n 1 hc dX9_proves_6 rfl rfl ?_
  obtain ⟨v3, hf2, h⟩ := BD_el h
  refine m_call_256 hc hM (wp_at G a 7 s1) (m_isAct_ok hM (wp_at G a 7 s1) hf2) (by decide) (Nat.le_of_ble_eq_true rfl) dX9_proves_7 ?_
  refine pv_if_ne (tgt := 15) hc dX9_proves_10 (by decide) h (fun h => ?_) (fun h => ?_)
  · refine pv_iconst (-1 : Int32) hc dX9_proves_15 rfl ?_
    refine pv_istore_n (L' := [(2, .int (-1 : Int32)), (0, .ref a), (1, .int x1)]) hc dX9_proves_16 rfl hN (by decide) rfl ?_
    refine pv_iconst (0 : Int32) hc dX9_proves_17 rfl ?_
    refine pv_istore_n (L' := [(3, .int (0 : Int32)), (2, .int (-1 : Int32)), (0, .ref a), (1, .int x1)]) hc dX9_proves_18 rfl hN (by decide) rfl ?_
    refine pv_sub [2, 3, 1, 0] rfl ?_
    refine LP2_el (P := fun v4 v5 => V X 0 0 (wp G a 7 s1) [(0, .ref a), (1, .int x1), (2, .int v4), (3, .int v5)] [] 19) ?_ FU _ _ h
    intro rec6 hrec6 v4 v5 h
    refine pv_iload_n 3 hc dX9_proves_19 rfl rfl ?_
    refine pv_aload_n 0 hc dX9_proves_20 rfl rfl ?_
    refine m_get_98 hc hM (wp_at G a 7 s1) dX9_proves_21 ?_
    refine pv_iconst (1 : Int32) hc dX9_proves_24 rfl ?_
    refine m_ald_14 hc hM (wp_at G a 7 s1) (vp_lit (j := 1) (by decide)) dX9_proves_25 ?_
    refine pv_icmp_ge (tgt := 123) hc dX9_proves_26 (by decide) h (fun h => ?_) (fun h => ?_)
    · refine pv_iload_n 2 hc dX9_proves_123 rfl rfl ?_
      refine pv_sipush (400 : Int32) hc dX9_proves_124 rfl ?_
      refine pv_icmp_le (tgt := 134) hc dX9_proves_127 (by decide) h (fun h => ?_) (fun h => ?_)
      · refine pv_iload_n 2 hc dX9_proves_134 rfl rfl ?_
        exact pv_iret hc hr hQ (e_i2 h) (e_w2 h) dX9_proves_135
      · refine pv_iconst (-1 : Int32) hc dX9_proves_130 rfl ?_
        refine pv_goto (tgt := 135) hc dX9_proves_131 (by decide) ?_
        exact pv_iret hc hr hQ (e_i2 h) (e_w2 h) dX9_proves_135
    · refine pv_aload_n 0 hc dX9_proves_29 rfl rfl ?_
      refine pv_iload_n 3 hc dX9_proves_30 rfl rfl ?_
      refine pv_iload_n 1 hc dX9_proves_31 rfl rfl ?_
      obtain ⟨v8, hf7, h⟩ := BD_el h
      refine m_call_224 hc hM (wp_at G a 7 s1) (m_leafOf_ok hM (wp_at G a 7 s1) hf7) (by decide) (Nat.le_of_ble_eq_true rfl) dX9_proves_32 ?_
      refine pv_istore (L' := [(4, .int v8), (0, .ref a), (1, .int x1), (2, .int v4), (3, .int v5)]) hc dX9_proves_35 hN (by decide) rfl ?_
      refine pv_iconst (0 : Int32) hc dX9_proves_37 rfl ?_
      refine pv_istore (L' := [(5, .int (0 : Int32)), (4, .int v8), (0, .ref a), (1, .int x1), (2, .int v4), (3, .int v5)]) hc dX9_proves_38 hN (by decide) rfl ?_
      refine pv_iconst (0 : Int32) hc dX9_proves_40 rfl ?_
      refine pv_istore (L' := [(6, .int (0 : Int32)), (5, .int (0 : Int32)), (4, .int v8), (0, .ref a), (1, .int x1), (2, .int v4), (3, .int v5)]) hc dX9_proves_41 hN (by decide) rfl ?_
      refine pv_sub [3, 4, 5, 6, 2, 1, 0] rfl ?_
      refine LP2_el (P := fun v9 v10 => V X 0 0 (wp G a 7 s1) [(0, .ref a), (1, .int x1), (2, .int v4), (3, .int v5), (4, .int v8), (5, .int v9), (6, .int v10)] [] 43) ?_ FU _ _ h
      intro rec11 hrec11 v9 v10 h
      refine pv_iload 6 hc dX9_proves_43 rfl ?_
      refine pv_aload_n 0 hc dX9_proves_45 rfl rfl ?_
      refine m_get_98 hc hM (wp_at G a 7 s1) dX9_proves_46 ?_
      refine pv_iconst (1 : Int32) hc dX9_proves_49 rfl ?_
      refine m_ald_14 hc hM (wp_at G a 7 s1) (vp_lit (j := 1) (by decide)) dX9_proves_50 ?_
      refine pv_icmp_ge (tgt := 86) hc dX9_proves_51 (by decide) h (fun h => ?_) (fun h => ?_)
      · refine pv_iload 4 hc dX9_proves_86 rfl ?_
        refine pv_iconst (-1 : Int32) hc dX9_proves_88 rfl ?_
        refine pv_icmp_eq (tgt := 117) hc dX9_proves_89 (by decide) h (fun h => ?_) (fun h => ?_)
        · refine pv_iinc (L' := [(3, .int (v5 + (1 : Int32))), (0, .ref a), (1, .int x1), (2, .int v4), (4, .int v8), (5, .int v9), (6, .int v10)]) 3 (v5 + (1 : Int32)) hc dX9_proves_117 rfl rfl hN (by decide) rfl ?_
          refine pv_goto (tgt := 19) hc dX9_proves_120 (by decide) ?_
          refine pv_sub [1, 2, 3, 0] rfl ?_
          exact hrec6 _ _ h
        · refine pv_iload 5 hc dX9_proves_92 rfl ?_
          refine pv_aload_n 0 hc dX9_proves_94 rfl rfl ?_
          refine m_get_98 hc hM (wp_at G a 7 s1) dX9_proves_95 ?_
          refine pv_iconst (5 : Int32) hc dX9_proves_98 rfl ?_
          refine m_ald_14 hc hM (wp_at G a 7 s1) (vp_lit (j := 5) (by decide)) dX9_proves_99 ?_
          refine pv_icmp_lt (tgt := 117) hc dX9_proves_100 (by decide) h (fun h => ?_) (fun h => ?_)
          · refine pv_iinc (L' := [(3, .int (v5 + (1 : Int32))), (0, .ref a), (1, .int x1), (2, .int v4), (4, .int v8), (5, .int v9), (6, .int v10)]) 3 (v5 + (1 : Int32)) hc dX9_proves_117 rfl rfl hN (by decide) rfl ?_
            refine pv_goto (tgt := 19) hc dX9_proves_120 (by decide) ?_
            refine pv_sub [1, 2, 3, 0] rfl ?_
            exact hrec6 _ _ h
          · refine pv_iload_n 2 hc dX9_proves_103 rfl rfl ?_
            refine pv_iconst (-1 : Int32) hc dX9_proves_104 rfl ?_
            refine pv_icmp_eq (tgt := 114) hc dX9_proves_105 (by decide) h (fun h => ?_) (fun h => ?_)
            · refine pv_iload 4 hc dX9_proves_114 rfl ?_
              refine pv_istore_n (L' := [(2, .int v8), (0, .ref a), (1, .int x1), (3, .int v5), (4, .int v8), (5, .int v9), (6, .int v10)]) hc dX9_proves_116 rfl hN (by decide) rfl ?_
              refine pv_iinc (L' := [(3, .int (v5 + (1 : Int32))), (2, .int v8), (0, .ref a), (1, .int x1), (4, .int v8), (5, .int v9), (6, .int v10)]) 3 (v5 + (1 : Int32)) hc dX9_proves_117 rfl rfl hN (by decide) rfl ?_
              refine pv_goto (tgt := 19) hc dX9_proves_120 (by decide) ?_
              refine pv_sub [2, 3, 1, 0] rfl ?_
              exact hrec6 _ _ h
            · refine pv_iload 4 hc dX9_proves_108 rfl ?_
              refine pv_iload_n 2 hc dX9_proves_110 rfl rfl ?_
              refine pv_icmp_ge (tgt := 117) hc dX9_proves_111 (by decide) h (fun h => ?_) (fun h => ?_)
              · refine pv_iinc (L' := [(3, .int (v5 + (1 : Int32))), (0, .ref a), (1, .int x1), (2, .int v4), (4, .int v8), (5, .int v9), (6, .int v10)]) 3 (v5 + (1 : Int32)) hc dX9_proves_117 rfl rfl hN (by decide) rfl ?_
                refine pv_goto (tgt := 19) hc dX9_proves_120 (by decide) ?_
                refine pv_sub [1, 2, 3, 0] rfl ?_
                exact hrec6 _ _ h
              · refine pv_iload 4 hc dX9_proves_114 rfl ?_
                refine pv_istore_n (L' := [(2, .int v8), (0, .ref a), (1, .int x1), (3, .int v5), (4, .int v8), (5, .int v9), (6, .int v10)]) hc dX9_proves_116 rfl hN (by decide) rfl ?_
                refine pv_iinc (L' := [(3, .int (v5 + (1 : Int32))), (2, .int v8), (0, .ref a), (1, .int x1), (4, .int v8), (5, .int v9), (6, .int v10)]) 3 (v5 + (1 : Int32)) hc dX9_proves_117 rfl rfl hN (by decide) rfl ?_
                refine pv_goto (tgt := 19) hc dX9_proves_120 (by decide) ?_
                refine pv_sub [2, 3, 1, 0] rfl ?_
                exact hrec6 _ _ h
      · refine pv_aload_n 0 hc dX9_proves_54 rfl rfl ?_
        refine pv_iload 6 hc dX9_proves_55 rfl ?_
        refine pv_iload_n 1 hc dX9_proves_57 rfl rfl ?_
        obtain ⟨v13, hf12, h⟩ := BD_el h
        refine m_call_224 hc hM (wp_at G a 7 s1) (m_leafOf_ok hM (wp_at G a 7 s1) hf12) (by decide) (Nat.le_of_ble_eq_true rfl) dX9_proves_58 ?_
        refine pv_iconst (-1 : Int32) hc dX9_proves_61 rfl ?_
        refine pv_icmp_eq (tgt := 80) hc dX9_proves_62 (by decide) h (fun h => ?_) (fun h => ?_)
        · refine pv_iinc (L' := [(6, .int (v10 + (1 : Int32))), (0, .ref a), (1, .int x1), (2, .int v4), (3, .int v5), (4, .int v8), (5, .int v9)]) 6 (v10 + (1 : Int32)) hc dX9_proves_80 rfl rfl hN (by decide) rfl ?_
          refine pv_goto (tgt := 43) hc dX9_proves_83 (by decide) ?_
          refine pv_sub [1, 2, 3, 4, 5, 6, 0] rfl ?_
          exact hrec11 _ _ h
        · refine pv_aload_n 0 hc dX9_proves_65 rfl rfl ?_
          refine pv_iload 6 hc dX9_proves_66 rfl ?_
          refine pv_iload_n 1 hc dX9_proves_68 rfl rfl ?_
          obtain ⟨v15, hf14, h⟩ := BD_el h
          refine m_call_224 hc hM (wp_at G a 7 s1) (m_leafOf_ok hM (wp_at G a 7 s1) hf14) (by decide) (Nat.le_of_ble_eq_true rfl) dX9_proves_69 ?_
          refine pv_iload 4 hc dX9_proves_72 rfl ?_
          refine pv_icmp_gt (tgt := 80) hc dX9_proves_74 (by decide) h (fun h => ?_) (fun h => ?_)
          · refine pv_iinc (L' := [(6, .int (v10 + (1 : Int32))), (0, .ref a), (1, .int x1), (2, .int v4), (3, .int v5), (4, .int v8), (5, .int v9)]) 6 (v10 + (1 : Int32)) hc dX9_proves_80 rfl rfl hN (by decide) rfl ?_
            refine pv_goto (tgt := 43) hc dX9_proves_83 (by decide) ?_
            refine pv_sub [1, 2, 3, 4, 5, 6, 0] rfl ?_
            exact hrec11 _ _ h
          · refine pv_iinc (L' := [(5, .int (v9 + (1 : Int32))), (0, .ref a), (1, .int x1), (2, .int v4), (3, .int v5), (4, .int v8), (6, .int v10)]) 5 (v9 + (1 : Int32)) hc dX9_proves_77 rfl rfl hN (by decide) rfl ?_
            refine pv_iinc (L' := [(6, .int (v10 + (1 : Int32))), (5, .int (v9 + (1 : Int32))), (0, .ref a), (1, .int x1), (2, .int v4), (3, .int v5), (4, .int v8)]) 6 (v10 + (1 : Int32)) hc dX9_proves_80 rfl rfl hN (by decide) rfl ?_
            refine pv_goto (tgt := 43) hc dX9_proves_83 (by decide) ?_
            refine pv_sub [2, 3, 4, 5, 6, 1, 0] rfl ?_
            exact hrec11 _ _ h
  · refine pv_iconst (-1 : Int32) hc dX9_proves_13 rfl ?_
    exact pv_iret hc hr hQ (e_i2 h) (e_w2 h) dX9_proves_14
def m_hides (s : Rec) (x1 : Int32) : Option (Int32 × Rec) := LT (sI s 0 (0 : Int32)) (fun s1 => BD (m_isIn x1 (0 : Int32) (60 : Int32)) (fun v3 => (if v3 = 0 then some ((-1 : Int32), s1) else LP2 (fun (rec6 : Int32 → Int32 → Option (Int32 × Rec)) (v4 : Int32) (v5 : Int32) => (if (gA s1 14 1) ≤ v5 then some (v4, s1) else BD (m_nextLeaf s1 v5) (fun v8 => (if ((gA s1 14 24) + x1) < v8 then rec6 v4 (v5 + (1 : Int32)) else BD (m_seesOf s1 v5 (0 : Int32)) (fun v10 => rec6 (v4 &&& (v10 ^^^ (-1 : Int32))) (v5 + (1 : Int32))))))) FU (((1 : Int32) <<< ((gA s1 14 0) &&& 31)) - (1 : Int32)) (0 : Int32))))
set_option maxHeartbeats 4000000 in
theorem m_hides_ok {l : Launch} {g : Gh} {G : Wd} (hM : MOK g) {a : Nat} {s : Rec} (hG : G.2 a = some (7, s)) {x1 : Int32} {r : Int32} {s' : Rec} (hf : m_hides s x1 = some (r, s')) : MT l g yX9_hides cX9_hides 4 (some .int) 4 G [.ref a, .int x1] (some (.int r)) (wp G a 7 s') := by
  refine pv_start (by decide) (Nat.le_of_ble_eq_true rfl) ?_
  intro X hl hg hN hc hr _ _ _ hQ
  subst hl; subst hg
  refine pv_G (wp_id hG) ?_
  have h := hf
  unfold m_hides at h
  show V X 0 0 _ [(0, .ref a), (1, .int x1)] [] 0
  refine pv_aload_n 0 hc dX9_hides_0 rfl rfl ?_
  refine pv_iconst (0 : Int32) hc dX9_hides_1 rfl ?_
  obtain ⟨s1, hs1, h⟩ := LT_el h
  refine m_put_1 hc hM hs1 dX9_hides_2 ?_
  refine pv_iload_n 1 hc dX9_hides_5 rfl rfl ?_
  refine pv_iconst (0 : Int32) hc dX9_hides_6 rfl ?_
  refine pv_bipush (60 : Int32) hc dX9_hides_7 rfl ?_
  obtain ⟨v3, hf2, h⟩ := BD_el h
  refine m_call_75 hc (m_isIn_ok hf2) (by decide) (Nat.le_of_ble_eq_true rfl) dX9_hides_9 ?_
  refine pv_if_ne (tgt := 17) hc dX9_hides_12 (by decide) h (fun h => ?_) (fun h => ?_)
  · refine pv_iconst (1 : Int32) hc dX9_hides_17 rfl ?_
    refine pv_aload_n 0 hc dX9_hides_18 rfl rfl ?_
    refine m_get_98 hc hM (wp_at G a 7 s1) dX9_hides_19 ?_
    refine pv_iconst (0 : Int32) hc dX9_hides_22 rfl ?_
    refine m_ald_14 hc hM (wp_at G a 7 s1) (vp_lit (j := 0) (by decide)) dX9_hides_23 ?_
    refine pv_ishl hc dX9_hides_24 ?_
    refine pv_iconst (1 : Int32) hc dX9_hides_25 rfl ?_
    refine pv_isub hc dX9_hides_26 ?_
    refine pv_istore_n (L' := [(2, .int (((1 : Int32) <<< ((gA s1 14 0) &&& 31)) - (1 : Int32))), (0, .ref a), (1, .int x1)]) hc dX9_hides_27 rfl hN (by decide) rfl ?_
    refine pv_iconst (0 : Int32) hc dX9_hides_28 rfl ?_
    refine pv_istore_n (L' := [(3, .int (0 : Int32)), (2, .int (((1 : Int32) <<< ((gA s1 14 0) &&& 31)) - (1 : Int32))), (0, .ref a), (1, .int x1)]) hc dX9_hides_29 rfl hN (by decide) rfl ?_
    refine pv_sub [2, 3, 1, 0] rfl ?_
    refine LP2_el (P := fun v4 v5 => V X 0 0 (wp G a 7 s1) [(0, .ref a), (1, .int x1), (2, .int v4), (3, .int v5)] [] 30) ?_ FU _ _ h
    intro rec6 hrec6 v4 v5 h
    refine pv_iload_n 3 hc dX9_hides_30 rfl rfl ?_
    refine pv_aload_n 0 hc dX9_hides_31 rfl rfl ?_
    refine m_get_98 hc hM (wp_at G a 7 s1) dX9_hides_32 ?_
    refine pv_iconst (1 : Int32) hc dX9_hides_35 rfl ?_
    refine m_ald_14 hc hM (wp_at G a 7 s1) (vp_lit (j := 1) (by decide)) dX9_hides_36 ?_
    refine pv_icmp_ge (tgt := 74) hc dX9_hides_37 (by decide) h (fun h => ?_) (fun h => ?_)
    · refine pv_iload_n 2 hc dX9_hides_74 rfl rfl ?_
      exact pv_iret hc hr hQ (e_i2 h) (e_w2 h) dX9_hides_75
    · refine pv_aload_n 0 hc dX9_hides_40 rfl rfl ?_
      refine pv_iload_n 3 hc dX9_hides_41 rfl rfl ?_
      obtain ⟨v8, hf7, h⟩ := BD_el h
      refine m_call_268 hc hM (wp_at G a 7 s1) (m_nextLeaf_ok hM (wp_at G a 7 s1) hf7) (by decide) (Nat.le_of_ble_eq_true rfl) dX9_hides_42 ?_
      refine pv_aload_n 0 hc dX9_hides_45 rfl rfl ?_
      refine m_get_98 hc hM (wp_at G a 7 s1) dX9_hides_46 ?_
      refine pv_bipush (24 : Int32) hc dX9_hides_49 rfl ?_
      refine m_ald_14 hc hM (wp_at G a 7 s1) (vp_lit (j := 24) (by decide)) dX9_hides_51 ?_
      refine pv_iload_n 1 hc dX9_hides_52 rfl rfl ?_
      refine pv_iadd hc dX9_hides_53 ?_
      refine pv_icmp_gt (tgt := 68) hc dX9_hides_54 (by decide) h (fun h => ?_) (fun h => ?_)
      · refine pv_iinc (L' := [(3, .int (v5 + (1 : Int32))), (0, .ref a), (1, .int x1), (2, .int v4)]) 3 (v5 + (1 : Int32)) hc dX9_hides_68 rfl rfl hN (by decide) rfl ?_
        refine pv_goto (tgt := 30) hc dX9_hides_71 (by decide) ?_
        refine pv_sub [1, 2, 3, 0] rfl ?_
        exact hrec6 _ _ h
      · refine pv_iload_n 2 hc dX9_hides_57 rfl rfl ?_
        refine pv_aload_n 0 hc dX9_hides_58 rfl rfl ?_
        refine pv_iload_n 3 hc dX9_hides_59 rfl rfl ?_
        refine pv_iconst (0 : Int32) hc dX9_hides_60 rfl ?_
        obtain ⟨v10, hf9, h⟩ := BD_el h
        refine m_call_250 hc hM (wp_at G a 7 s1) (m_seesOf_ok hM (wp_at G a 7 s1) hf9) (by decide) (Nat.le_of_ble_eq_true rfl) dX9_hides_61 ?_
        refine pv_iconst (-1 : Int32) hc dX9_hides_64 rfl ?_
        refine pv_ixor hc dX9_hides_65 ?_
        refine pv_iand hc dX9_hides_66 ?_
        refine pv_istore_n (L' := [(2, .int (v4 &&& (v10 ^^^ (-1 : Int32)))), (0, .ref a), (1, .int x1), (3, .int v5)]) hc dX9_hides_67 rfl hN (by decide) rfl ?_
        refine pv_iinc (L' := [(3, .int (v5 + (1 : Int32))), (2, .int (v4 &&& (v10 ^^^ (-1 : Int32)))), (0, .ref a), (1, .int x1)]) 3 (v5 + (1 : Int32)) hc dX9_hides_68 rfl rfl hN (by decide) rfl ?_
        refine pv_goto (tgt := 30) hc dX9_hides_71 (by decide) ?_
        refine pv_sub [2, 3, 1, 0] rfl ?_
        exact hrec6 _ _ h
  · refine pv_iconst (-1 : Int32) hc dX9_hides_15 rfl ?_
    exact pv_iret hc hr hQ (e_i2 h) (e_w2 h) dX9_hides_16
def m_dark (s : Rec) (x1 : Int32) : Option (Int32 × Rec) := LT (sI s 0 (0 : Int32)) (fun s1 => BD (m_isParlour s1 x1) (fun v3 => (if v3 = 0 then some ((-1 : Int32), s1) else LP1 (fun (rec5 : Int32 → Option (Int32 × Rec)) (v4 : Int32) => (if (60 : Int32) < v4 then some ((-1 : Int32), s1) else (if (400 : Int32) < ((gA s1 14 24) + v4) then some ((-1 : Int32), s1) else BD (m_unseen s1 v4) (fun v7 => BD (m_has v7 x1) (fun v9 => (if v9 = 0 then rec5 (v4 + (1 : Int32)) else some (v4, s1))))))) FU (0 : Int32))))
set_option maxHeartbeats 4000000 in
theorem m_dark_ok {l : Launch} {g : Gh} {G : Wd} (hM : MOK g) {a : Nat} {s : Rec} (hG : G.2 a = some (7, s)) {x1 : Int32} {r : Int32} {s' : Rec} (hf : m_dark s x1 = some (r, s')) : MT l g yX9_dark cX9_dark 3 (some .int) 5 G [.ref a, .int x1] (some (.int r)) (wp G a 7 s') := by
  refine pv_start (by decide) (Nat.le_of_ble_eq_true rfl) ?_
  intro X hl hg hN hc hr _ _ _ hQ
  subst hl; subst hg
  refine pv_G (wp_id hG) ?_
  have h := hf
  unfold m_dark at h
  show V X 0 0 _ [(0, .ref a), (1, .int x1)] [] 0
  refine pv_aload_n 0 hc dX9_dark_0 rfl rfl ?_
  refine pv_iconst (0 : Int32) hc dX9_dark_1 rfl ?_
  obtain ⟨s1, hs1, h⟩ := LT_el h
  refine m_put_1 hc hM hs1 dX9_dark_2 ?_
  refine pv_aload_n 0 hc dX9_dark_5 rfl rfl ?_
  refine pv_iload_n 1 hc dX9_dark_6 rfl rfl ?_
  obtain ⟨v3, hf2, h⟩ := BD_el h
  refine m_call_259 hc hM (wp_at G a 7 s1) (m_isParlour_ok hM (wp_at G a 7 s1) hf2) (by decide) (Nat.le_of_ble_eq_true rfl) dX9_dark_7 ?_
  refine pv_if_ne (tgt := 15) hc dX9_dark_10 (by decide) h (fun h => ?_) (fun h => ?_)
  · refine pv_iconst (0 : Int32) hc dX9_dark_15 rfl ?_
    refine pv_istore_n (L' := [(2, .int (0 : Int32)), (0, .ref a), (1, .int x1)]) hc dX9_dark_16 rfl hN (by decide) rfl ?_
    refine pv_sub [1, 2, 0] rfl ?_
    refine LP1_el (P := fun v4 => V X 0 0 (wp G a 7 s1) [(0, .ref a), (1, .int x1), (2, .int v4)] [] 17) ?_ FU _ h
    intro rec5 hrec5 v4 h
    refine pv_iload_n 2 hc dX9_dark_17 rfl rfl ?_
    refine pv_bipush (60 : Int32) hc dX9_dark_18 rfl ?_
    refine pv_icmp_gt (tgt := 58) hc dX9_dark_20 (by decide) h (fun h => ?_) (fun h => ?_)
    · refine pv_iconst (-1 : Int32) hc dX9_dark_58 rfl ?_
      exact pv_iret hc hr hQ (e_i2 h) (e_w2 h) dX9_dark_59
    · refine pv_aload_n 0 hc dX9_dark_23 rfl rfl ?_
      refine m_get_98 hc hM (wp_at G a 7 s1) dX9_dark_24 ?_
      refine pv_bipush (24 : Int32) hc dX9_dark_27 rfl ?_
      refine m_ald_14 hc hM (wp_at G a 7 s1) (vp_lit (j := 24) (by decide)) dX9_dark_29 ?_
      refine pv_iload_n 2 hc dX9_dark_30 rfl rfl ?_
      refine pv_iadd hc dX9_dark_31 ?_
      refine pv_sipush (400 : Int32) hc dX9_dark_32 rfl ?_
      refine pv_icmp_gt (tgt := 58) hc dX9_dark_35 (by decide) h (fun h => ?_) (fun h => ?_)
      · refine pv_iconst (-1 : Int32) hc dX9_dark_58 rfl ?_
        exact pv_iret hc hr hQ (e_i2 h) (e_w2 h) dX9_dark_59
      · refine pv_aload_n 0 hc dX9_dark_38 rfl rfl ?_
        refine pv_iload_n 2 hc dX9_dark_39 rfl rfl ?_
        obtain ⟨v7, hf6, h⟩ := BD_el h
        refine m_call_265 hc hM (wp_at G a 7 s1) (m_unseen_ok hM (wp_at G a 7 s1) hf6) (by decide) (Nat.le_of_ble_eq_true rfl) dX9_dark_40 ?_
        refine pv_iload_n 1 hc dX9_dark_43 rfl rfl ?_
        obtain ⟨v9, hf8, h⟩ := BD_el h
        refine m_call_181 hc (m_has_ok hf8) (by decide) (Nat.le_of_ble_eq_true rfl) dX9_dark_44 ?_
        refine pv_if_eq (tgt := 52) hc dX9_dark_47 (by decide) h (fun h => ?_) (fun h => ?_)
        · refine pv_iinc (L' := [(2, .int (v4 + (1 : Int32))), (0, .ref a), (1, .int x1)]) 2 (v4 + (1 : Int32)) hc dX9_dark_52 rfl rfl hN (by decide) rfl ?_
          refine pv_goto (tgt := 17) hc dX9_dark_55 (by decide) ?_
          refine pv_sub [1, 2, 0] rfl ?_
          exact hrec5 _ h
        · refine pv_iload_n 2 hc dX9_dark_50 rfl rfl ?_
          exact pv_iret hc hr hQ (e_i2 h) (e_w2 h) dX9_dark_51
  · refine pv_iconst (-1 : Int32) hc dX9_dark_13 rfl ?_
    exact pv_iret hc hr hQ (e_i2 h) (e_w2 h) dX9_dark_14
def m_size (x0 : Int32) : Option Int32 := (if 0 ≤ x0 then some x0 else some (-x0))
set_option maxHeartbeats 4000000 in
theorem m_size_ok {l : Launch} {g : Gh} {G : Wd} {x0 : Int32} {r : Int32} (hf : m_size x0 = some r) : MT l g yX9_size cX9_size 1 (some .int) 1 G [.int x0] (some (.int r)) G := by
  refine pv_start (by decide) (Nat.le_of_ble_eq_true rfl) ?_
  intro X hl hg hN hc hr _ _ _ hQ
  subst hl; subst hg
  have h := hf
  unfold m_size at h
  show V X 0 0 _ [(0, .int x0)] [] 0
  refine pv_iload_n 0 hc dX9_size_0 rfl rfl ?_
  refine pv_if_ge (tgt := 9) hc dX9_size_1 (by decide) h (fun h => ?_) (fun h => ?_)
  · refine pv_iload_n 0 hc dX9_size_9 rfl rfl ?_
    exact pv_iret hc hr hQ (e_i1 h) rfl dX9_size_10
  · refine pv_iload_n 0 hc dX9_size_4 rfl rfl ?_
    refine pv_ineg hc dX9_size_5 ?_
    refine pv_goto (tgt := 10) hc dX9_size_6 (by decide) ?_
    exact pv_iret hc hr hQ (e_i1 h) rfl dX9_size_10
def m_fits (s : Rec)  : Option (Int32 × Rec) := LT (sI s 0 (0 : Int32)) (fun s1 => BD2 (m_take s1) (fun v3 s4 => NZ (2 : Int32) ((if (v3 - v3 / (2 : Int32) * (2 : Int32)) = 0 then NZ (2 : Int32) (BD (m_isIn (v3 / (2 : Int32)) (1 : Int32) (6 : Int32)) (fun v8 => (if v8 = 0 then some ((-1 : Int32), s4) else LP1 (fun (rec10 : Int32 → Option (Int32 × Rec)) (v9 : Int32) => (if v3 ≤ v9 then LP2 (fun (rec13 : Int32 → Int32 → Option (Int32 × Rec)) (v11 : Int32) (v12 : Int32) => (if v3 ≤ v12 then (if v11 = 0 then some ((0 : Int32), s4) else LP3 (fun (rec17 : Int32 → Int32 → Rec → Option (Int32 × Rec)) (v14 : Int32) (v15 : Int32) (s16 : Rec) => (if (gA s16 14 1) ≤ v15 then some (v11, s16) else BD (m_seesOf s16 v15 (0 : Int32)) (fun v19 => BD (m_bits (v11 &&& v19)) (fun v21 => BD (m_bits v11) (fun v23 => BD (m_size (((2 : Int32) * v21) - v23)) (fun v25 => (if v25 < v14 then LT (sI s16 25 v15) (fun s26 => rec17 v25 (v15 + (1 : Int32)) s26) else rec17 v14 (v15 + (1 : Int32)) s16))))))) FU (100000 : Int32) (0 : Int32) s4) else IX (v12 + (1 : Int32)) 940 (fun i27 => (if (gA s4 1 i27) = (1 : Int32) then IX v12 940 (fun i31 => BD (m_seesOf s4 (gA s4 1 i31) (0 : Int32)) (fun v33 => rec13 (v11 &&& v33) (v12 + (2 : Int32)))) else IX v12 940 (fun i28 => BD (m_seesOf s4 (gA s4 1 i28) (0 : Int32)) (fun v30 => rec13 (v11 &&& (v30 ^^^ (-1 : Int32))) (v12 + (2 : Int32)))))))) FU (((1 : Int32) <<< ((gA s4 14 0) &&& 31)) - (1 : Int32)) (0 : Int32) else IX v9 940 (fun i34 => BD (m_isPlant s4 (gA s4 1 i34)) (fun v36 => (if v36 = 0 then some ((-1 : Int32), s4) else IX (v9 + (1 : Int32)) 940 (fun i37 => (if (gA s4 1 i37) ≤ (1 : Int32) then rec10 (v9 + (2 : Int32)) else some ((-1 : Int32), s4)))))))) FU (0 : Int32)))) else some ((-1 : Int32), s4)))))
set_option maxHeartbeats 4000000 in
theorem m_fits_ok {l : Launch} {g : Gh} {G : Wd} (hM : MOK g) {a : Nat} {s : Rec} (hG : G.2 a = some (7, s))  {r : Int32} {s' : Rec} (hf : m_fits s  = some (r, s')) : MT l g yX9_fits cX9_fits 7 (some .int) 4 G [.ref a] (some (.int r)) (wp G a 7 s') := by
  refine pv_start (by decide) (Nat.le_of_ble_eq_true rfl) ?_
  intro X hl hg hN hc hr _ _ _ hQ
  subst hl; subst hg
  refine pv_G (wp_id hG) ?_
  have h := hf
  unfold m_fits at h
  show V X 0 0 _ [(0, .ref a)] [] 0
  refine pv_aload_n 0 hc dX9_fits_0 rfl rfl ?_
  refine pv_iconst (0 : Int32) hc dX9_fits_1 rfl ?_
  obtain ⟨s1, hs1, h⟩ := LT_el h
  refine m_put_1 hc hM hs1 dX9_fits_2 ?_
  refine pv_aload_n 0 hc dX9_fits_5 rfl rfl ?_
  obtain ⟨v3, s4, hf2, h⟩ := BD2_el h
  refine m_call_89 hc hM (m_take_ok hM (wp_at G a 7 s1) hf2) (by decide) (Nat.le_of_ble_eq_true rfl) dX9_fits_6 ?_
  refine pv_istore_n (L' := [(1, .int v3), (0, .ref a)]) hc dX9_fits_9 rfl hN (by decide) rfl ?_
  refine pv_iload_n 0 hc dX9_fits_10 rfl rfl ?_
  refine pv_iconst (2 : Int32) hc dX9_fits_11 rfl ?_
  obtain ⟨hz5, h⟩ := NZ_el h
  refine pv_irem hc dX9_fits_12 hz5 ?_
  refine pv_if_ne (tgt := 28) hc dX9_fits_13 (by decide) h (fun h => ?_) (fun h => ?_)
  · refine pv_iconst (-1 : Int32) hc dX9_fits_28 rfl ?_
    exact pv_iret hc hr hQ (e_i2 h) (e_w2 h) dX9_fits_29
  · refine pv_iload_n 0 hc dX9_fits_16 rfl rfl ?_
    refine pv_iconst (2 : Int32) hc dX9_fits_17 rfl ?_
    obtain ⟨hz6, h⟩ := NZ_el h
    refine pv_idiv hc dX9_fits_18 hz6 ?_
    refine pv_iconst (1 : Int32) hc dX9_fits_19 rfl ?_
    refine pv_bipush (6 : Int32) hc dX9_fits_20 rfl ?_
    obtain ⟨v8, hf7, h⟩ := BD_el h
    refine m_call_75 hc (m_isIn_ok hf7) (by decide) (Nat.le_of_ble_eq_true rfl) dX9_fits_22 ?_
    refine pv_if_ne (tgt := 30) hc dX9_fits_25 (by decide) h (fun h => ?_) (fun h => ?_)
    · refine pv_iconst (0 : Int32) hc dX9_fits_30 rfl ?_
      refine pv_istore_n (L' := [(2, .int (0 : Int32)), (1, .int v3), (0, .ref a)]) hc dX9_fits_31 rfl hN (by decide) rfl ?_
      refine pv_sub [2, 1, 0] rfl ?_
      refine LP1_el (P := fun v9 => V X 0 0 (wp G a 7 s4) [(0, .ref a), (1, .int v3), (2, .int v9)] [] 32) ?_ FU _ h
      intro rec10 hrec10 v9 h
      refine pv_iload_n 2 hc dX9_fits_32 rfl rfl ?_
      refine pv_iload_n 1 hc dX9_fits_33 rfl rfl ?_
      refine pv_icmp_ge (tgt := 70) hc dX9_fits_34 (by decide) h (fun h => ?_) (fun h => ?_)
      · refine pv_iconst (1 : Int32) hc dX9_fits_70 rfl ?_
        refine pv_aload_n 0 hc dX9_fits_71 rfl rfl ?_
        refine m_get_98 hc hM (wp_at G a 7 s4) dX9_fits_72 ?_
        refine pv_iconst (0 : Int32) hc dX9_fits_75 rfl ?_
        refine m_ald_14 hc hM (wp_at G a 7 s4) (vp_lit (j := 0) (by decide)) dX9_fits_76 ?_
        refine pv_ishl hc dX9_fits_77 ?_
        refine pv_iconst (1 : Int32) hc dX9_fits_78 rfl ?_
        refine pv_isub hc dX9_fits_79 ?_
        refine pv_istore_n (L' := [(2, .int (((1 : Int32) <<< ((gA s4 14 0) &&& 31)) - (1 : Int32))), (0, .ref a), (1, .int v3)]) hc dX9_fits_80 rfl hN (by decide) rfl ?_
        refine pv_iload_n 0 hc dX9_fits_81 rfl rfl ?_
        refine pv_istore_n (L' := [(3, .int (((1 : Int32) <<< ((gA s4 14 0) &&& 31)) - (1 : Int32))), (2, .int (((1 : Int32) <<< ((gA s4 14 0) &&& 31)) - (1 : Int32))), (0, .ref a), (1, .int v3)]) hc dX9_fits_82 rfl hN (by decide) rfl ?_
        refine pv_iconst (0 : Int32) hc dX9_fits_83 rfl ?_
        refine pv_istore (L' := [(4, .int (0 : Int32)), (3, .int (((1 : Int32) <<< ((gA s4 14 0) &&& 31)) - (1 : Int32))), (2, .int (((1 : Int32) <<< ((gA s4 14 0) &&& 31)) - (1 : Int32))), (0, .ref a), (1, .int v3)]) hc dX9_fits_84 hN (by decide) rfl ?_
        refine pv_sub [3, 4, 1, 0] rfl ?_
        refine LP2_el (P := fun v11 v12 => V X 0 0 (wp G a 7 s4) [(0, .ref a), (1, .int v3), (3, .int v11), (4, .int v12)] [] 86) ?_ FU _ _ h
        intro rec13 hrec13 v11 v12 h
        refine pv_iload 3 hc dX9_fits_86 rfl ?_
        refine pv_iload_n 1 hc dX9_fits_88 rfl rfl ?_
        refine pv_icmp_ge (tgt := 143) hc dX9_fits_89 (by decide) h (fun h => ?_) (fun h => ?_)
        · refine pv_iload_n 2 hc dX9_fits_143 rfl rfl ?_
          refine pv_if_ne (tgt := 149) hc dX9_fits_144 (by decide) h (fun h => ?_) (fun h => ?_)
          · refine pv_ldcw hc q1984 dX9_fits_149 ?_
            refine pv_istore (L' := [(4, .int (100000 : Int32)), (0, .ref a), (1, .int v3), (3, .int v11)]) hc dX9_fits_152 hN (by decide) rfl ?_
            refine pv_iconst (0 : Int32) hc dX9_fits_154 rfl ?_
            refine pv_istore (L' := [(5, .int (0 : Int32)), (4, .int (100000 : Int32)), (0, .ref a), (1, .int v3), (3, .int v11)]) hc dX9_fits_155 hN (by decide) rfl ?_
            refine pv_sub [2, 4, 1, 0] rfl ?_
            refine LP3_el (P := fun v14 v15 s16 => V X 0 0 (wp G a 7 s16) [(0, .ref a), (3, .int v11), (4, .int v14), (5, .int v15)] [] 157) ?_ FU _ _ _ h
            intro rec17 hrec17 v14 v15 s16 h
            refine pv_iload 3 hc dX9_fits_157 rfl ?_
            refine pv_aload_n 0 hc dX9_fits_159 rfl rfl ?_
            refine m_get_98 hc hM (wp_at G a 7 s16) dX9_fits_160 ?_
            refine pv_iconst (1 : Int32) hc dX9_fits_163 rfl ?_
            refine m_ald_14 hc hM (wp_at G a 7 s16) (vp_lit (j := 1) (by decide)) dX9_fits_164 ?_
            refine pv_icmp_ge (tgt := 218) hc dX9_fits_165 (by decide) h (fun h => ?_) (fun h => ?_)
            · refine pv_iload_n 1 hc dX9_fits_218 rfl rfl ?_
              exact pv_iret hc hr hQ (e_i2 h) (e_w2 h) dX9_fits_219
            · refine pv_iconst (2 : Int32) hc dX9_fits_168 rfl ?_
              refine pv_iload_n 1 hc dX9_fits_169 rfl rfl ?_
              refine pv_aload_n 0 hc dX9_fits_170 rfl rfl ?_
              refine pv_iload 3 hc dX9_fits_171 rfl ?_
              refine pv_iconst (0 : Int32) hc dX9_fits_173 rfl ?_
              obtain ⟨v19, hf18, h⟩ := BD_el h
              refine m_call_250 hc hM (wp_at G a 7 s16) (m_seesOf_ok hM (wp_at G a 7 s16) hf18) (by decide) (Nat.le_of_ble_eq_true rfl) dX9_fits_174 ?_
              refine pv_iand hc dX9_fits_177 ?_
              obtain ⟨v21, hf20, h⟩ := BD_el h
              refine m_call_238 hc (m_bits_ok hf20) (by decide) (Nat.le_of_ble_eq_true rfl) dX9_fits_178 ?_
              refine pv_imul hc dX9_fits_181 ?_
              refine pv_iload_n 1 hc dX9_fits_182 rfl rfl ?_
              obtain ⟨v23, hf22, h⟩ := BD_el h
              refine m_call_238 hc (m_bits_ok hf22) (by decide) (Nat.le_of_ble_eq_true rfl) dX9_fits_183 ?_
              refine pv_isub hc dX9_fits_186 ?_
              obtain ⟨v25, hf24, h⟩ := BD_el h
              refine m_call_306 hc (m_size_ok hf24) (by decide) (Nat.le_of_ble_eq_true rfl) dX9_fits_187 ?_
              refine pv_istore (L' := [(6, .int v25), (0, .ref a), (3, .int v11), (4, .int v14), (5, .int v15)]) hc dX9_fits_190 hN (by decide) rfl ?_
              refine pv_iload 0 hc dX9_fits_192 rfl ?_
              refine pv_iload 3 hc dX9_fits_194 rfl ?_
              refine pv_icmp_lt (tgt := 202) hc dX9_fits_196 (by decide) h (fun h => ?_) (fun h => ?_)
              · refine pv_iload 0 hc dX9_fits_202 rfl ?_
                refine pv_istore (L' := [(4, .int v25), (6, .int v25), (0, .ref a), (3, .int v11), (5, .int v15)]) hc dX9_fits_204 hN (by decide) rfl ?_
                refine pv_aload_n 2 hc dX9_fits_206 rfl rfl ?_
                refine pv_iload 4 hc dX9_fits_207 rfl ?_
                obtain ⟨s26, hs26, h⟩ := LT_el h
                refine m_put_130 hc hM hs26 dX9_fits_209 ?_
                refine pv_iinc (L' := [(5, .int (v15 + (1 : Int32))), (4, .int v25), (6, .int v25), (0, .ref a), (3, .int v11)]) 4 (v15 + (1 : Int32)) hc dX9_fits_212 rfl rfl hN (by decide) rfl ?_
                refine pv_goto (tgt := 157) hc dX9_fits_215 (by decide) ?_
                refine pv_sub [3, 4, 1, 0] rfl ?_
                exact hrec17 _ _ _ h
              · refine pv_goto (tgt := 212) hc dX9_fits_199 (by decide) ?_
                refine pv_iinc (L' := [(5, .int (v15 + (1 : Int32))), (6, .int v25), (0, .ref a), (3, .int v11), (4, .int v14)]) 4 (v15 + (1 : Int32)) hc dX9_fits_212 rfl rfl hN (by decide) rfl ?_
                refine pv_goto (tgt := 157) hc dX9_fits_215 (by decide) ?_
                refine pv_sub [2, 3, 4, 0] rfl ?_
                exact hrec17 _ _ _ h
          · refine pv_iconst (0 : Int32) hc dX9_fits_147 rfl ?_
            exact pv_iret hc hr hQ (e_i2 h) (e_w2 h) dX9_fits_148
        · refine pv_iload_n 2 hc dX9_fits_92 rfl rfl ?_
          refine pv_aload_n 0 hc dX9_fits_93 rfl rfl ?_
          refine m_get_7 hc hM (wp_at G a 7 s4) dX9_fits_94 ?_
          refine pv_iload 3 hc dX9_fits_97 rfl ?_
          refine pv_iconst (1 : Int32) hc dX9_fits_99 rfl ?_
          refine pv_iadd hc dX9_fits_100 ?_
          obtain ⟨i27, hi27, h⟩ := IX_el h
          refine m_ald_1 hc hM (wp_at G a 7 s4) hi27 dX9_fits_101 ?_
          refine pv_iconst (1 : Int32) hc dX9_fits_102 rfl ?_
          refine pv_icmp_ne (tgt := 121) hc dX9_fits_103 (by decide) h (fun h => ?_) (fun h => ?_)
          · refine pv_aload_n 0 hc dX9_fits_121 rfl rfl ?_
            refine pv_aload_n 0 hc dX9_fits_122 rfl rfl ?_
            refine m_get_7 hc hM (wp_at G a 7 s4) dX9_fits_123 ?_
            refine pv_iload 3 hc dX9_fits_126 rfl ?_
            obtain ⟨i28, hi28, h⟩ := IX_el h
            refine m_ald_1 hc hM (wp_at G a 7 s4) hi28 dX9_fits_128 ?_
            refine pv_iconst (0 : Int32) hc dX9_fits_129 rfl ?_
            obtain ⟨v30, hf29, h⟩ := BD_el h
            refine m_call_250 hc hM (wp_at G a 7 s4) (m_seesOf_ok hM (wp_at G a 7 s4) hf29) (by decide) (Nat.le_of_ble_eq_true rfl) dX9_fits_130 ?_
            refine pv_iconst (-1 : Int32) hc dX9_fits_133 rfl ?_
            refine pv_ixor hc dX9_fits_134 ?_
            refine pv_iand hc dX9_fits_135 ?_
            refine pv_istore_n (L' := [(3, .int (v11 &&& (v30 ^^^ (-1 : Int32)))), (0, .ref a), (1, .int v3), (4, .int v12)]) hc dX9_fits_136 rfl hN (by decide) rfl ?_
            refine pv_iinc (L' := [(4, .int (v12 + (2 : Int32))), (3, .int (v11 &&& (v30 ^^^ (-1 : Int32)))), (0, .ref a), (1, .int v3)]) 3 (v12 + (2 : Int32)) hc dX9_fits_137 rfl rfl hN (by decide) rfl ?_
            refine pv_goto (tgt := 86) hc dX9_fits_140 (by decide) ?_
            refine pv_sub [2, 3, 1, 0] rfl ?_
            exact hrec13 _ _ h
          · refine pv_aload_n 0 hc dX9_fits_106 rfl rfl ?_
            refine pv_aload_n 0 hc dX9_fits_107 rfl rfl ?_
            refine m_get_7 hc hM (wp_at G a 7 s4) dX9_fits_108 ?_
            refine pv_iload 3 hc dX9_fits_111 rfl ?_
            obtain ⟨i31, hi31, h⟩ := IX_el h
            refine m_ald_1 hc hM (wp_at G a 7 s4) hi31 dX9_fits_113 ?_
            refine pv_iconst (0 : Int32) hc dX9_fits_114 rfl ?_
            obtain ⟨v33, hf32, h⟩ := BD_el h
            refine m_call_250 hc hM (wp_at G a 7 s4) (m_seesOf_ok hM (wp_at G a 7 s4) hf32) (by decide) (Nat.le_of_ble_eq_true rfl) dX9_fits_115 ?_
            refine pv_goto (tgt := 135) hc dX9_fits_118 (by decide) ?_
            refine pv_iand hc dX9_fits_135 ?_
            refine pv_istore_n (L' := [(3, .int (v11 &&& v33)), (0, .ref a), (1, .int v3), (4, .int v12)]) hc dX9_fits_136 rfl hN (by decide) rfl ?_
            refine pv_iinc (L' := [(4, .int (v12 + (2 : Int32))), (3, .int (v11 &&& v33)), (0, .ref a), (1, .int v3)]) 3 (v12 + (2 : Int32)) hc dX9_fits_137 rfl rfl hN (by decide) rfl ?_
            refine pv_goto (tgt := 86) hc dX9_fits_140 (by decide) ?_
            refine pv_sub [2, 3, 1, 0] rfl ?_
            exact hrec13 _ _ h
      · refine pv_aload_n 0 hc dX9_fits_37 rfl rfl ?_
        refine pv_aload_n 0 hc dX9_fits_38 rfl rfl ?_
        refine m_get_7 hc hM (wp_at G a 7 s4) dX9_fits_39 ?_
        refine pv_iload_n 2 hc dX9_fits_42 rfl rfl ?_
        obtain ⟨i34, hi34, h⟩ := IX_el h
        refine m_ald_1 hc hM (wp_at G a 7 s4) hi34 dX9_fits_43 ?_
        obtain ⟨v36, hf35, h⟩ := BD_el h
        refine m_call_244 hc hM (wp_at G a 7 s4) (m_isPlant_ok hM (wp_at G a 7 s4) hf35) (by decide) (Nat.le_of_ble_eq_true rfl) dX9_fits_44 ?_
        refine pv_if_eq (tgt := 62) hc dX9_fits_47 (by decide) h (fun h => ?_) (fun h => ?_)
        · refine pv_iconst (-1 : Int32) hc dX9_fits_62 rfl ?_
          exact pv_iret hc hr hQ (e_i2 h) (e_w2 h) dX9_fits_63
        · refine pv_aload_n 0 hc dX9_fits_50 rfl rfl ?_
          refine m_get_7 hc hM (wp_at G a 7 s4) dX9_fits_51 ?_
          refine pv_iload_n 2 hc dX9_fits_54 rfl rfl ?_
          refine pv_iconst (1 : Int32) hc dX9_fits_55 rfl ?_
          refine pv_iadd hc dX9_fits_56 ?_
          obtain ⟨i37, hi37, h⟩ := IX_el h
          refine m_ald_1 hc hM (wp_at G a 7 s4) hi37 dX9_fits_57 ?_
          refine pv_iconst (1 : Int32) hc dX9_fits_58 rfl ?_
          refine pv_icmp_le (tgt := 64) hc dX9_fits_59 (by decide) h (fun h => ?_) (fun h => ?_)
          · refine pv_iinc (L' := [(2, .int (v9 + (2 : Int32))), (0, .ref a), (1, .int v3)]) 2 (v9 + (2 : Int32)) hc dX9_fits_64 rfl rfl hN (by decide) rfl ?_
            refine pv_goto (tgt := 32) hc dX9_fits_67 (by decide) ?_
            refine pv_sub [1, 2, 0] rfl ?_
            exact hrec10 _ h
          · refine pv_iconst (-1 : Int32) hc dX9_fits_62 rfl ?_
            exact pv_iret hc hr hQ (e_i2 h) (e_w2 h) dX9_fits_63
    · refine pv_iconst (-1 : Int32) hc dX9_fits_28 rfl ?_
      exact pv_iret hc hr hQ (e_i2 h) (e_w2 h) dX9_fits_29
def m_ask (s : Rec)  : Option (Int32 × Rec) := LT (sI s 0 (0 : Int32)) (fun s1 => some ((gI s1 25), s1))
set_option maxHeartbeats 4000000 in
theorem m_ask_ok {l : Launch} {g : Gh} {G : Wd} (hM : MOK g) {a : Nat} {s : Rec} (hG : G.2 a = some (7, s))  {r : Int32} {s' : Rec} (hf : m_ask s  = some (r, s')) : MT l g yX9_ask cX9_ask 1 (some .int) 1 G [.ref a] (some (.int r)) (wp G a 7 s') := by
  refine pv_start (by decide) (Nat.le_of_ble_eq_true rfl) ?_
  intro X hl hg hN hc hr _ _ _ hQ
  subst hl; subst hg
  refine pv_G (wp_id hG) ?_
  have h := hf
  unfold m_ask at h
  show V X 0 0 _ [(0, .ref a)] [] 0
  refine pv_aload_n 0 hc dX9_ask_0 rfl rfl ?_
  refine pv_iconst (0 : Int32) hc dX9_ask_1 rfl ?_
  obtain ⟨s1, hs1, h⟩ := LT_el h
  refine m_put_1 hc hM hs1 dX9_ask_2 ?_
  refine pv_aload_n 0 hc dX9_ask_5 rfl rfl ?_
  refine m_get_130 hc hM (wp_at G a 7 s1) dX9_ask_6 ?_
  exact pv_iret hc hr hQ (e_i2 h) (e_w2 h) dX9_ask_9
def m_seenFrom (s : Rec) (x1 : Int32) : Option Int32 := LP2 (fun (rec3 : Int32 → Int32 → Option Int32) (v1 : Int32) (v2 : Int32) => (if (5 : Int32) ≤ v2 then some v1 else BD (m_has x1 v2) (fun v5 => (if v5 = 0 then rec3 v1 (v2 + (1 : Int32)) else BD (m_around s v2) (fun v7 => rec3 (v1 ||| v7) (v2 + (1 : Int32))))))) FU (0 : Int32) (0 : Int32)
set_option maxHeartbeats 4000000 in
theorem m_seenFrom_ok {l : Launch} {g : Gh} {G : Wd} (hM : MOK g) {a : Nat} {s : Rec} (hG : G.2 a = some (7, s)) {x1 : Int32} {r : Int32} (hf : m_seenFrom s x1 = some r) : MT l g yX9_seenFrom cX9_seenFrom 4 (some .int) 2 G [.ref a, .int x1] (some (.int r)) G := by
  refine pv_start (by decide) (Nat.le_of_ble_eq_true rfl) ?_
  intro X hl hg hN hc hr _ _ _ hQ
  subst hl; subst hg
  have h := hf
  unfold m_seenFrom at h
  show V X 0 0 _ [(0, .ref a), (1, .int x1)] [] 0
  refine pv_iconst (0 : Int32) hc dX9_seenFrom_0 rfl ?_
  refine pv_istore_n (L' := [(2, .int (0 : Int32)), (0, .ref a), (1, .int x1)]) hc dX9_seenFrom_1 rfl hN (by decide) rfl ?_
  refine pv_iconst (0 : Int32) hc dX9_seenFrom_2 rfl ?_
  refine pv_istore_n (L' := [(3, .int (0 : Int32)), (2, .int (0 : Int32)), (0, .ref a), (1, .int x1)]) hc dX9_seenFrom_3 rfl hN (by decide) rfl ?_
  refine pv_sub [2, 3, 1, 0] rfl ?_
  refine LP2_el (P := fun v1 v2 => V X 0 0 G [(0, .ref a), (1, .int x1), (2, .int v1), (3, .int v2)] [] 4) ?_ FU _ _ h
  intro rec3 hrec3 v1 v2 h
  refine pv_iload_n 3 hc dX9_seenFrom_4 rfl rfl ?_
  refine pv_iconst (5 : Int32) hc dX9_seenFrom_5 rfl ?_
  refine pv_icmp_ge (tgt := 31) hc dX9_seenFrom_6 (by decide) h (fun h => ?_) (fun h => ?_)
  · refine pv_iload_n 2 hc dX9_seenFrom_31 rfl rfl ?_
    exact pv_iret hc hr hQ (e_i1 h) rfl dX9_seenFrom_32
  · refine pv_iload_n 1 hc dX9_seenFrom_9 rfl rfl ?_
    refine pv_iload_n 3 hc dX9_seenFrom_10 rfl rfl ?_
    obtain ⟨v5, hf4, h⟩ := BD_el h
    refine m_call_181 hc (m_has_ok hf4) (by decide) (Nat.le_of_ble_eq_true rfl) dX9_seenFrom_11 ?_
    refine pv_if_eq (tgt := 25) hc dX9_seenFrom_14 (by decide) h (fun h => ?_) (fun h => ?_)
    · refine pv_iinc (L' := [(3, .int (v2 + (1 : Int32))), (0, .ref a), (1, .int x1), (2, .int v1)]) 3 (v2 + (1 : Int32)) hc dX9_seenFrom_25 rfl rfl hN (by decide) rfl ?_
      refine pv_goto (tgt := 4) hc dX9_seenFrom_28 (by decide) ?_
      refine pv_sub [1, 2, 3, 0] rfl ?_
      exact hrec3 _ _ h
    · refine pv_iload_n 2 hc dX9_seenFrom_17 rfl rfl ?_
      refine pv_aload_n 0 hc dX9_seenFrom_18 rfl rfl ?_
      refine pv_iload_n 3 hc dX9_seenFrom_19 rfl rfl ?_
      obtain ⟨v7, hf6, h⟩ := BD_el h
      refine m_call_221 hc hM hG (m_around_ok hM hG hf6) (by decide) (Nat.le_of_ble_eq_true rfl) dX9_seenFrom_20 ?_
      refine pv_ior hc dX9_seenFrom_23 ?_
      refine pv_istore_n (L' := [(2, .int (v1 ||| v7)), (0, .ref a), (1, .int x1), (3, .int v2)]) hc dX9_seenFrom_24 rfl hN (by decide) rfl ?_
      refine pv_iinc (L' := [(3, .int (v2 + (1 : Int32))), (2, .int (v1 ||| v7)), (0, .ref a), (1, .int x1)]) 3 (v2 + (1 : Int32)) hc dX9_seenFrom_25 rfl rfl hN (by decide) rfl ?_
      refine pv_goto (tgt := 4) hc dX9_seenFrom_28 (by decide) ?_
      refine pv_sub [2, 3, 1, 0] rfl ?_
      exact hrec3 _ _ h
def m_cover (s : Rec)  : Option (Int32 × Rec) := LT (sI s 0 (0 : Int32)) (fun s1 => LP2 (fun (rec4 : Int32 → Int32 → Option (Int32 × Rec)) (v2 : Int32) (v3 : Int32) => (if v3 < 0 then LT (sI s1 26 v2) (fun s5 => BD (m_bits v2) (fun v7 => some (v7, s5))) else BD (m_seenFrom s1 v3) (fun v9 => (if v9 = (((1 : Int32) <<< ((gA s1 14 0) &&& 31)) - (1 : Int32)) then BD (m_bits v3) (fun v11 => BD (m_bits v2) (fun v13 => (if v13 < v11 then rec4 v2 (v3 + (-1 : Int32)) else rec4 v3 (v3 + (-1 : Int32))))) else rec4 v2 (v3 + (-1 : Int32)))))) FU (((1 : Int32) <<< ((gA s1 14 0) &&& 31)) - (1 : Int32)) (((1 : Int32) <<< ((gA s1 14 0) &&& 31)) - (1 : Int32)))
set_option maxHeartbeats 4000000 in
theorem m_cover_ok {l : Launch} {g : Gh} {G : Wd} (hM : MOK g) {a : Nat} {s : Rec} (hG : G.2 a = some (7, s))  {r : Int32} {s' : Rec} (hf : m_cover s  = some (r, s')) : MT l g yX9_cover cX9_cover 4 (some .int) 3 G [.ref a] (some (.int r)) (wp G a 7 s') := by
  refine pv_start (by decide) (Nat.le_of_ble_eq_true rfl) ?_
  intro X hl hg hN hc hr _ _ _ hQ
  subst hl; subst hg
  refine pv_G (wp_id hG) ?_
  have h := hf
  unfold m_cover at h
  show V X 0 0 _ [(0, .ref a)] [] 0
  refine pv_aload_n 0 hc dX9_cover_0 rfl rfl ?_
  refine pv_iconst (0 : Int32) hc dX9_cover_1 rfl ?_
  obtain ⟨s1, hs1, h⟩ := LT_el h
  refine m_put_1 hc hM hs1 dX9_cover_2 ?_
  refine pv_iconst (1 : Int32) hc dX9_cover_5 rfl ?_
  refine pv_aload_n 0 hc dX9_cover_6 rfl rfl ?_
  refine m_get_98 hc hM (wp_at G a 7 s1) dX9_cover_7 ?_
  refine pv_iconst (0 : Int32) hc dX9_cover_10 rfl ?_
  refine m_ald_14 hc hM (wp_at G a 7 s1) (vp_lit (j := 0) (by decide)) dX9_cover_11 ?_
  refine pv_ishl hc dX9_cover_12 ?_
  refine pv_iconst (1 : Int32) hc dX9_cover_13 rfl ?_
  refine pv_isub hc dX9_cover_14 ?_
  refine pv_istore_n (L' := [(1, .int (((1 : Int32) <<< ((gA s1 14 0) &&& 31)) - (1 : Int32))), (0, .ref a)]) hc dX9_cover_15 rfl hN (by decide) rfl ?_
  refine pv_iload_n 0 hc dX9_cover_16 rfl rfl ?_
  refine pv_istore_n (L' := [(2, .int (((1 : Int32) <<< ((gA s1 14 0) &&& 31)) - (1 : Int32))), (1, .int (((1 : Int32) <<< ((gA s1 14 0) &&& 31)) - (1 : Int32))), (0, .ref a)]) hc dX9_cover_17 rfl hN (by decide) rfl ?_
  refine pv_iload_n 1 hc dX9_cover_18 rfl rfl ?_
  refine pv_istore_n (L' := [(3, .int (((1 : Int32) <<< ((gA s1 14 0) &&& 31)) - (1 : Int32))), (2, .int (((1 : Int32) <<< ((gA s1 14 0) &&& 31)) - (1 : Int32))), (1, .int (((1 : Int32) <<< ((gA s1 14 0) &&& 31)) - (1 : Int32))), (0, .ref a)]) hc dX9_cover_19 rfl hN (by decide) rfl ?_
  refine pv_sub [3, 2, 1, 0] rfl ?_
  refine LP2_el (P := fun v2 v3 => V X 0 0 (wp G a 7 s1) [(0, .ref a), (1, .int (((1 : Int32) <<< ((gA s1 14 0) &&& 31)) - (1 : Int32))), (2, .int v2), (3, .int v3)] [] 20) ?_ FU _ _ h
  intro rec4 hrec4 v2 v3 h
  refine pv_iload_n 3 hc dX9_cover_20 rfl rfl ?_
  refine pv_if_lt (tgt := 52) hc dX9_cover_21 (by decide) h (fun h => ?_) (fun h => ?_)
  · refine pv_aload_n 0 hc dX9_cover_52 rfl rfl ?_
    refine pv_iload_n 2 hc dX9_cover_53 rfl rfl ?_
    obtain ⟨s5, hs5, h⟩ := LT_el h
    refine m_put_133 hc hM hs5 dX9_cover_54 ?_
    refine pv_iload_n 2 hc dX9_cover_57 rfl rfl ?_
    obtain ⟨v7, hf6, h⟩ := BD_el h
    refine m_call_238 hc (m_bits_ok hf6) (by decide) (Nat.le_of_ble_eq_true rfl) dX9_cover_58 ?_
    exact pv_iret hc hr hQ (e_i2 h) (e_w2 h) dX9_cover_61
  · refine pv_aload_n 0 hc dX9_cover_24 rfl rfl ?_
    refine pv_iload_n 3 hc dX9_cover_25 rfl rfl ?_
    obtain ⟨v9, hf8, h⟩ := BD_el h
    refine m_call_308 hc hM (wp_at G a 7 s1) (m_seenFrom_ok hM (wp_at G a 7 s1) hf8) (by decide) (Nat.le_of_ble_eq_true rfl) dX9_cover_26 ?_
    refine pv_iload_n 1 hc dX9_cover_29 rfl rfl ?_
    refine pv_icmp_ne (tgt := 46) hc dX9_cover_30 (by decide) h (fun h => ?_) (fun h => ?_)
    · refine pv_iinc (L' := [(3, .int (v3 + (-1 : Int32))), (0, .ref a), (1, .int (((1 : Int32) <<< ((gA s1 14 0) &&& 31)) - (1 : Int32))), (2, .int v2)]) 3 (v3 + (-1 : Int32)) hc dX9_cover_46 rfl rfl hN (by decide) rfl ?_
      refine pv_goto (tgt := 20) hc dX9_cover_49 (by decide) ?_
      refine pv_sub [1, 2, 3, 0] rfl ?_
      exact hrec4 _ _ h
    · refine pv_iload_n 3 hc dX9_cover_33 rfl rfl ?_
      obtain ⟨v11, hf10, h⟩ := BD_el h
      refine m_call_238 hc (m_bits_ok hf10) (by decide) (Nat.le_of_ble_eq_true rfl) dX9_cover_34 ?_
      refine pv_iload_n 2 hc dX9_cover_37 rfl rfl ?_
      obtain ⟨v13, hf12, h⟩ := BD_el h
      refine m_call_238 hc (m_bits_ok hf12) (by decide) (Nat.le_of_ble_eq_true rfl) dX9_cover_38 ?_
      refine pv_icmp_gt (tgt := 46) hc dX9_cover_41 (by decide) h (fun h => ?_) (fun h => ?_)
      · refine pv_iinc (L' := [(3, .int (v3 + (-1 : Int32))), (0, .ref a), (1, .int (((1 : Int32) <<< ((gA s1 14 0) &&& 31)) - (1 : Int32))), (2, .int v2)]) 3 (v3 + (-1 : Int32)) hc dX9_cover_46 rfl rfl hN (by decide) rfl ?_
        refine pv_goto (tgt := 20) hc dX9_cover_49 (by decide) ?_
        refine pv_sub [1, 2, 3, 0] rfl ?_
        exact hrec4 _ _ h
      · refine pv_iload_n 3 hc dX9_cover_44 rfl rfl ?_
        refine pv_istore_n (L' := [(2, .int v3), (0, .ref a), (1, .int (((1 : Int32) <<< ((gA s1 14 0) &&& 31)) - (1 : Int32))), (3, .int v3)]) hc dX9_cover_45 rfl hN (by decide) rfl ?_
        refine pv_iinc (L' := [(3, .int (v3 + (-1 : Int32))), (2, .int v3), (0, .ref a), (1, .int (((1 : Int32) <<< ((gA s1 14 0) &&& 31)) - (1 : Int32)))]) 3 (v3 + (-1 : Int32)) hc dX9_cover_46 rfl rfl hN (by decide) rfl ?_
        refine pv_goto (tgt := 20) hc dX9_cover_49 (by decide) ?_
        refine pv_sub [2, 3, 1, 0] rfl ?_
        exact hrec4 _ _ h
def m_covering (s : Rec)  : Option (Int32 × Rec) := LT (sI s 0 (0 : Int32)) (fun s1 => some ((gI s1 26), s1))
set_option maxHeartbeats 4000000 in
theorem m_covering_ok {l : Launch} {g : Gh} {G : Wd} (hM : MOK g) {a : Nat} {s : Rec} (hG : G.2 a = some (7, s))  {r : Int32} {s' : Rec} (hf : m_covering s  = some (r, s')) : MT l g yX9_covering cX9_covering 1 (some .int) 1 G [.ref a] (some (.int r)) (wp G a 7 s') := by
  refine pv_start (by decide) (Nat.le_of_ble_eq_true rfl) ?_
  intro X hl hg hN hc hr _ _ _ hQ
  subst hl; subst hg
  refine pv_G (wp_id hG) ?_
  have h := hf
  unfold m_covering at h
  show V X 0 0 _ [(0, .ref a)] [] 0
  refine pv_aload_n 0 hc dX9_covering_0 rfl rfl ?_
  refine pv_iconst (0 : Int32) hc dX9_covering_1 rfl ?_
  obtain ⟨s1, hs1, h⟩ := LT_el h
  refine m_put_1 hc hM hs1 dX9_covering_2 ?_
  refine pv_aload_n 0 hc dX9_covering_5 rfl rfl ?_
  refine m_get_133 hc hM (wp_at G a 7 s1) dX9_covering_6 ?_
  exact pv_iret hc hr hQ (e_i2 h) (e_w2 h) dX9_covering_9
def m_cellOf (x0 : Int32) (x1 : Int32) : Option Int32 := some (((32 : Int32) * x0) + x1)
set_option maxHeartbeats 4000000 in
theorem m_cellOf_ok {l : Launch} {g : Gh} {G : Wd} {x0 : Int32} {x1 : Int32} {r : Int32} (hf : m_cellOf x0 x1 = some r) : MT l g yX9_cellOf cX9_cellOf 2 (some .int) 1 G [.int x0, .int x1] (some (.int r)) G := by
  refine pv_start (by decide) (Nat.le_of_ble_eq_true rfl) ?_
  intro X hl hg hN hc hr _ _ _ hQ
  subst hl; subst hg
  have h := hf
  unfold m_cellOf at h
  show V X 0 0 _ [(0, .int x0), (1, .int x1)] [] 0
  refine pv_bipush (32 : Int32) hc dX9_cellOf_0 rfl ?_
  refine pv_iload_n 0 hc dX9_cellOf_2 rfl rfl ?_
  refine pv_imul hc dX9_cellOf_3 ?_
  refine pv_iload_n 1 hc dX9_cellOf_4 rfl rfl ?_
  refine pv_iadd hc dX9_cellOf_5 ?_
  exact pv_iret hc hr hQ (e_i1 h) rfl dX9_cellOf_6
def m_laySteps (s : Rec)  : Option Rec := LP2 (fun (rec3 : Int32 → Rec → Option Rec) (v1 : Int32) (s2 : Rec) => (if (160 : Int32) ≤ v1 then LP2 (fun (rec6 : Int32 → Rec → Option Rec) (v4 : Int32) (s5 : Rec) => (if v4 = 0 then some s5 else LP3 (fun (rec10 : Int32 → Int32 → Rec → Option Rec) (v7 : Int32) (v8 : Int32) (s9 : Rec) => (if (gA s9 14 0) ≤ v8 then rec6 v7 s9 else LP3 (fun (rec14 : Int32 → Int32 → Rec → Option Rec) (v11 : Int32) (v12 : Int32) (s13 : Rec) => (if (32 : Int32) ≤ v12 then rec10 v11 (v8 + (1 : Int32)) s13 else LP3 (fun (rec18 : Int32 → Int32 → Rec → Option Rec) (v15 : Int32) (v16 : Int32) (s17 : Rec) => (if (gA s17 14 0) ≤ v16 then rec14 v15 (v12 + (1 : Int32)) s17 else IX ((6 : Int32) + v8) 406 (fun i19 => BD (m_has (gA s17 14 i19) v16) (fun v21 => (if v21 = 0 then rec18 v15 (v16 + (1 : Int32)) s17 else BD (m_cellOf v16 (v12 &&& (((1 : Int32) <<< (v16 &&& 31)) ^^^ (-1 : Int32)))) (fun v23 => IX v23 160 (fun i24 => BD (m_cellOf v8 v12) (fun v26 => IX v26 160 (fun i27 => (if ((gA s17 27 i24) + (1 : Int32)) < (gA s17 27 i27) then BD (m_cellOf v8 v12) (fun v29 => IX v29 160 (fun i30 => LT (sA s17 27 i30 ((gA s17 27 i24) + (1 : Int32))) (fun s31 => rec18 (1 : Int32) (v16 + (1 : Int32)) s31))) else rec18 v15 (v16 + (1 : Int32)) s17)))))))))) FU v11 (0 : Int32) s13)) FU v7 (1 : Int32) s9)) FU (0 : Int32) (0 : Int32) s5)) FU (1 : Int32) s2 else NZ (32 : Int32) ((if (v1 - v1 / (32 : Int32) * (32 : Int32)) = 0 then IX v1 160 (fun i35 => LT (sA s2 27 i35 (0 : Int32)) (fun s36 => rec3 (v1 + (1 : Int32)) s36)) else IX v1 160 (fun i33 => LT (sA s2 27 i33 (100000 : Int32)) (fun s34 => rec3 (v1 + (1 : Int32)) s34)))))) FU (0 : Int32) s
set_option maxHeartbeats 4000000 in
theorem m_laySteps_ok {l : Launch} {g : Gh} {G : Wd} (hM : MOK g) {a : Nat} {s : Rec} (hG : G.2 a = some (7, s))  {s' : Rec} (hf : m_laySteps s  = some s') : MT l g yX9_laySteps cX9_laySteps 6 none 2 G [.ref a] none (wp G a 7 s') := by
  refine pv_start (by decide) (Nat.le_of_ble_eq_true rfl) ?_
  intro X hl hg hN hc hr _ _ _ hQ
  subst hl; subst hg
  refine pv_G (wp_id hG) ?_
  have h := hf
  unfold m_laySteps at h
  show V X 0 0 _ [(0, .ref a)] [] 0
  refine pv_iconst (0 : Int32) hc dX9_laySteps_0 rfl ?_
  refine pv_istore_n (L' := [(1, .int (0 : Int32)), (0, .ref a)]) hc dX9_laySteps_1 rfl hN (by decide) rfl ?_
  refine pv_sub [1, 0] rfl ?_
  refine LP2_el (P := fun v1 s2 => V X 0 0 (wp G a 7 s2) [(0, .ref a), (1, .int v1)] [] 2) ?_ FU _ _ h
  intro rec3 hrec3 v1 s2 h
  refine pv_iload_n 1 hc dX9_laySteps_2 rfl rfl ?_
  refine pv_sipush (160 : Int32) hc dX9_laySteps_3 rfl ?_
  refine pv_icmp_ge (tgt := 35) hc dX9_laySteps_6 (by decide) h (fun h => ?_) (fun h => ?_)
  · refine pv_iconst (1 : Int32) hc dX9_laySteps_35 rfl ?_
    refine pv_istore_n (L' := [(1, .int (1 : Int32)), (0, .ref a)]) hc dX9_laySteps_36 rfl hN (by decide) rfl ?_
    refine pv_sub [1, 0] rfl ?_
    refine LP2_el (P := fun v4 s5 => V X 0 0 (wp G a 7 s5) [(0, .ref a), (1, .int v4)] [] 37) ?_ FU _ _ h
    intro rec6 hrec6 v4 s5 h
    refine pv_iload_n 1 hc dX9_laySteps_37 rfl rfl ?_
    refine pv_if_eq (tgt := 172) hc dX9_laySteps_38 (by decide) h (fun h => ?_) (fun h => ?_)
    · exact pv_vret hc hr hQ rfl (e_w1 h) dX9_laySteps_172
    · refine pv_iconst (0 : Int32) hc dX9_laySteps_41 rfl ?_
      refine pv_istore_n (L' := [(1, .int (0 : Int32)), (0, .ref a)]) hc dX9_laySteps_42 rfl hN (by decide) rfl ?_
      refine pv_iconst (0 : Int32) hc dX9_laySteps_43 rfl ?_
      refine pv_istore_n (L' := [(2, .int (0 : Int32)), (1, .int (0 : Int32)), (0, .ref a)]) hc dX9_laySteps_44 rfl hN (by decide) rfl ?_
      refine pv_sub [2, 1, 0] rfl ?_
      refine LP3_el (P := fun v7 v8 s9 => V X 0 0 (wp G a 7 s9) [(0, .ref a), (1, .int v7), (2, .int v8)] [] 45) ?_ FU _ _ _ h
      intro rec10 hrec10 v7 v8 s9 h
      refine pv_iload_n 2 hc dX9_laySteps_45 rfl rfl ?_
      refine pv_aload_n 0 hc dX9_laySteps_46 rfl rfl ?_
      refine m_get_98 hc hM (wp_at G a 7 s9) dX9_laySteps_47 ?_
      refine pv_iconst (0 : Int32) hc dX9_laySteps_50 rfl ?_
      refine m_ald_14 hc hM (wp_at G a 7 s9) (vp_lit (j := 0) (by decide)) dX9_laySteps_51 ?_
      refine pv_icmp_ge (tgt := 169) hc dX9_laySteps_52 (by decide) h (fun h => ?_) (fun h => ?_)
      · refine pv_goto (tgt := 37) hc dX9_laySteps_169 (by decide) ?_
        refine pv_sub [0, 1] rfl ?_
        exact hrec6 _ _ h
      · refine pv_iconst (1 : Int32) hc dX9_laySteps_55 rfl ?_
        refine pv_istore_n (L' := [(3, .int (1 : Int32)), (0, .ref a), (1, .int v7), (2, .int v8)]) hc dX9_laySteps_56 rfl hN (by decide) rfl ?_
        refine pv_sub [1, 2, 3, 0] rfl ?_
        refine LP3_el (P := fun v11 v12 s13 => V X 0 0 (wp G a 7 s13) [(0, .ref a), (1, .int v11), (2, .int v8), (3, .int v12)] [] 57) ?_ FU _ _ _ h
        intro rec14 hrec14 v11 v12 s13 h
        refine pv_iload_n 3 hc dX9_laySteps_57 rfl rfl ?_
        refine pv_bipush (32 : Int32) hc dX9_laySteps_58 rfl ?_
        refine pv_icmp_ge (tgt := 163) hc dX9_laySteps_60 (by decide) h (fun h => ?_) (fun h => ?_)
        · refine pv_iinc (L' := [(2, .int (v8 + (1 : Int32))), (0, .ref a), (1, .int v11), (3, .int v12)]) 2 (v8 + (1 : Int32)) hc dX9_laySteps_163 rfl rfl hN (by decide) rfl ?_
          refine pv_goto (tgt := 45) hc dX9_laySteps_166 (by decide) ?_
          refine pv_sub [1, 2, 0] rfl ?_
          exact hrec10 _ _ _ h
        · refine pv_iconst (0 : Int32) hc dX9_laySteps_63 rfl ?_
          refine pv_istore (L' := [(4, .int (0 : Int32)), (0, .ref a), (1, .int v11), (2, .int v8), (3, .int v12)]) hc dX9_laySteps_64 hN (by decide) rfl ?_
          refine pv_sub [1, 2, 3, 4, 0] rfl ?_
          refine LP3_el (P := fun v15 v16 s17 => V X 0 0 (wp G a 7 s17) [(0, .ref a), (1, .int v15), (2, .int v8), (3, .int v12), (4, .int v16)] [] 66) ?_ FU _ _ _ h
          intro rec18 hrec18 v15 v16 s17 h
          refine pv_iload 4 hc dX9_laySteps_66 rfl ?_
          refine pv_aload_n 0 hc dX9_laySteps_68 rfl rfl ?_
          refine m_get_98 hc hM (wp_at G a 7 s17) dX9_laySteps_69 ?_
          refine pv_iconst (0 : Int32) hc dX9_laySteps_72 rfl ?_
          refine m_ald_14 hc hM (wp_at G a 7 s17) (vp_lit (j := 0) (by decide)) dX9_laySteps_73 ?_
          refine pv_icmp_ge (tgt := 157) hc dX9_laySteps_74 (by decide) h (fun h => ?_) (fun h => ?_)
          · refine pv_iinc (L' := [(3, .int (v12 + (1 : Int32))), (0, .ref a), (1, .int v15), (2, .int v8), (4, .int v16)]) 3 (v12 + (1 : Int32)) hc dX9_laySteps_157 rfl rfl hN (by decide) rfl ?_
            refine pv_goto (tgt := 57) hc dX9_laySteps_160 (by decide) ?_
            refine pv_sub [1, 2, 3, 0] rfl ?_
            exact hrec14 _ _ _ h
          · refine pv_aload_n 0 hc dX9_laySteps_77 rfl rfl ?_
            refine m_get_98 hc hM (wp_at G a 7 s17) dX9_laySteps_78 ?_
            refine pv_bipush (6 : Int32) hc dX9_laySteps_81 rfl ?_
            refine pv_iload_n 2 hc dX9_laySteps_83 rfl rfl ?_
            refine pv_iadd hc dX9_laySteps_84 ?_
            obtain ⟨i19, hi19, h⟩ := IX_el h
            refine m_ald_14 hc hM (wp_at G a 7 s17) hi19 dX9_laySteps_85 ?_
            refine pv_iload 4 hc dX9_laySteps_86 rfl ?_
            obtain ⟨v21, hf20, h⟩ := BD_el h
            refine m_call_181 hc (m_has_ok hf20) (by decide) (Nat.le_of_ble_eq_true rfl) dX9_laySteps_88 ?_
            refine pv_if_ne (tgt := 97) hc dX9_laySteps_91 (by decide) h (fun h => ?_) (fun h => ?_)
            · refine pv_aload_n 0 hc dX9_laySteps_97 rfl rfl ?_
              refine m_get_136 hc hM (wp_at G a 7 s17) dX9_laySteps_98 ?_
              refine pv_iload 4 hc dX9_laySteps_101 rfl ?_
              refine pv_iload_n 3 hc dX9_laySteps_103 rfl rfl ?_
              refine pv_iconst (1 : Int32) hc dX9_laySteps_104 rfl ?_
              refine pv_iload 4 hc dX9_laySteps_105 rfl ?_
              refine pv_ishl hc dX9_laySteps_107 ?_
              refine pv_iconst (-1 : Int32) hc dX9_laySteps_108 rfl ?_
              refine pv_ixor hc dX9_laySteps_109 ?_
              refine pv_iand hc dX9_laySteps_110 ?_
              obtain ⟨v23, hf22, h⟩ := BD_el h
              refine m_call_311 hc (m_cellOf_ok hf22) (by decide) (Nat.le_of_ble_eq_true rfl) dX9_laySteps_111 ?_
              obtain ⟨i24, hi24, h⟩ := IX_el h
              refine m_ald_27 hc hM (wp_at G a 7 s17) hi24 dX9_laySteps_114 ?_
              refine pv_iconst (1 : Int32) hc dX9_laySteps_115 rfl ?_
              refine pv_iadd hc dX9_laySteps_116 ?_
              refine pv_istore (L' := [(5, .int ((gA s17 27 i24) + (1 : Int32))), (0, .ref a), (1, .int v15), (2, .int v8), (3, .int v12), (4, .int v16)]) hc dX9_laySteps_117 hN (by decide) rfl ?_
              refine pv_iload 0 hc dX9_laySteps_119 rfl ?_
              refine pv_aload_n 1 hc dX9_laySteps_121 rfl rfl ?_
              refine m_get_136 hc hM (wp_at G a 7 s17) dX9_laySteps_122 ?_
              refine pv_iload_n 3 hc dX9_laySteps_125 rfl rfl ?_
              refine pv_iload_n 4 hc dX9_laySteps_126 rfl rfl ?_
              obtain ⟨v26, hf25, h⟩ := BD_el h
              refine m_call_311 hc (m_cellOf_ok hf25) (by decide) (Nat.le_of_ble_eq_true rfl) dX9_laySteps_127 ?_
              obtain ⟨i27, hi27, h⟩ := IX_el h
              refine m_ald_27 hc hM (wp_at G a 7 s17) hi27 dX9_laySteps_130 ?_
              refine pv_icmp_lt (tgt := 137) hc dX9_laySteps_131 (by decide) h (fun h => ?_) (fun h => ?_)
              · refine pv_aload_n 1 hc dX9_laySteps_137 rfl rfl ?_
                refine m_get_136 hc hM (wp_at G a 7 s17) dX9_laySteps_138 ?_
                refine pv_iload_n 3 hc dX9_laySteps_141 rfl rfl ?_
                refine pv_iload_n 4 hc dX9_laySteps_142 rfl rfl ?_
                obtain ⟨v29, hf28, h⟩ := BD_el h
                refine m_call_311 hc (m_cellOf_ok hf28) (by decide) (Nat.le_of_ble_eq_true rfl) dX9_laySteps_143 ?_
                refine pv_iload 0 hc dX9_laySteps_146 rfl ?_
                obtain ⟨i30, hi30, h⟩ := IX_el h
                obtain ⟨s31, hs31, h⟩ := LT_el h
                refine m_ast_27 hc hM hi30 hs31 dX9_laySteps_148 ?_
                refine pv_iconst (1 : Int32) hc dX9_laySteps_149 rfl ?_
                refine pv_istore_n (L' := [(1, .int (1 : Int32)), (5, .int ((gA s17 27 i24) + (1 : Int32))), (0, .ref a), (2, .int v8), (3, .int v12), (4, .int v16)]) hc dX9_laySteps_150 rfl hN (by decide) rfl ?_
                refine pv_iinc (L' := [(4, .int (v16 + (1 : Int32))), (1, .int (1 : Int32)), (5, .int ((gA s17 27 i24) + (1 : Int32))), (0, .ref a), (2, .int v8), (3, .int v12)]) 5 (v16 + (1 : Int32)) hc dX9_laySteps_151 rfl rfl hN (by decide) rfl ?_
                refine pv_goto (tgt := 66) hc dX9_laySteps_154 (by decide) ?_
                refine pv_sub [3, 1, 4, 5, 0] rfl ?_
                exact hrec18 _ _ _ h
              · refine pv_goto (tgt := 151) hc dX9_laySteps_134 (by decide) ?_
                refine pv_iinc (L' := [(4, .int (v16 + (1 : Int32))), (5, .int ((gA s17 27 i24) + (1 : Int32))), (0, .ref a), (1, .int v15), (2, .int v8), (3, .int v12)]) 5 (v16 + (1 : Int32)) hc dX9_laySteps_151 rfl rfl hN (by decide) rfl ?_
                refine pv_goto (tgt := 66) hc dX9_laySteps_154 (by decide) ?_
                refine pv_sub [2, 3, 4, 5, 0] rfl ?_
                exact hrec18 _ _ _ h
            · refine pv_goto (tgt := 151) hc dX9_laySteps_94 (by decide) ?_
              refine pv_iinc (L' := [(4, .int (v16 + (1 : Int32))), (0, .ref a), (1, .int v15), (2, .int v8), (3, .int v12)]) 4 (v16 + (1 : Int32)) hc dX9_laySteps_151 rfl rfl hN (by decide) rfl ?_
              refine pv_goto (tgt := 66) hc dX9_laySteps_154 (by decide) ?_
              refine pv_sub [1, 2, 3, 4, 0] rfl ?_
              exact hrec18 _ _ _ h
  · refine pv_aload_n 0 hc dX9_laySteps_9 rfl rfl ?_
    refine m_get_136 hc hM (wp_at G a 7 s2) dX9_laySteps_10 ?_
    refine pv_iload_n 1 hc dX9_laySteps_13 rfl rfl ?_
    refine pv_iload_n 1 hc dX9_laySteps_14 rfl rfl ?_
    refine pv_bipush (32 : Int32) hc dX9_laySteps_15 rfl ?_
    obtain ⟨hz32, h⟩ := NZ_el h
    refine pv_irem hc dX9_laySteps_17 hz32 ?_
    refine pv_if_ne (tgt := 25) hc dX9_laySteps_18 (by decide) h (fun h => ?_) (fun h => ?_)
    · refine pv_ldcw hc q1984 dX9_laySteps_25 ?_
      obtain ⟨i33, hi33, h⟩ := IX_el h
      obtain ⟨s34, hs34, h⟩ := LT_el h
      refine m_ast_27 hc hM hi33 hs34 dX9_laySteps_28 ?_
      refine pv_iinc (L' := [(1, .int (v1 + (1 : Int32))), (0, .ref a)]) 1 (v1 + (1 : Int32)) hc dX9_laySteps_29 rfl rfl hN (by decide) rfl ?_
      refine pv_goto (tgt := 2) hc dX9_laySteps_32 (by decide) ?_
      refine pv_sub [1, 0] rfl ?_
      exact hrec3 _ _ h
    · refine pv_iconst (0 : Int32) hc dX9_laySteps_21 rfl ?_
      refine pv_goto (tgt := 28) hc dX9_laySteps_22 (by decide) ?_
      obtain ⟨i35, hi35, h⟩ := IX_el h
      obtain ⟨s36, hs36, h⟩ := LT_el h
      refine m_ast_27 hc hM hi35 hs36 dX9_laySteps_28 ?_
      refine pv_iinc (L' := [(1, .int (v1 + (1 : Int32))), (0, .ref a)]) 1 (v1 + (1 : Int32)) hc dX9_laySteps_29 rfl rfl hN (by decide) rfl ?_
      refine pv_goto (tgt := 2) hc dX9_laySteps_32 (by decide) ?_
      refine pv_sub [1, 0] rfl ?_
      exact hrec3 _ _ h
